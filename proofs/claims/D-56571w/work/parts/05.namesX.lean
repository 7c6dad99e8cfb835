/-! Quaylock -/
set_option maxRecDepth 100000
def RX1 : String := "Quaylock"
def TX1 : u_T := fun k => match k with
  | 0 => ("Quaylock", "yard", "LQuaylock$Yard;", true)
  | 1 => ("Quaylock", "reaches", "[I", true)
  | 2 => ("Quaylock", "boxes", "[LQuaylock$Box;", true)
  | 3 => ("Quaylock", "appointments", "Ljava/util/List;", true)
  | 4 => ("Quaylock", "booked", "Ljava/util/TreeMap;", true)
  | 5 => ("Quaylock", "stacks", "I", false)
  | 6 => ("Quaylock", "came", "I", false)
  | 7 => ("Quaylock", "present", "I", false)
  | 8 => ("Quaylock", "moves", "I", false)
  | 9 => ("Quaylock", "now", "I", false)
  | _ => ("Quaylock", "weightLeft", "J", false)
def tyX1 : Nat → FieldType := fun k => match k with
  | 0 => .object "Quaylock$Yard"
  | 1 => .array .int
  | 2 => .array (.object "Quaylock$Box")
  | 3 => .object "java/util/List"
  | 4 => .object "java/util/TreeMap"
  | 5 => .int
  | 6 => .int
  | 7 => .int
  | 8 => .int
  | 9 => .int
  | _ => .long
abbrev wsX10 : List Cond := u_ws RX1 TX1 11
theorem nmX1 : ∀ a, a < 11 → ∀ b, b < 11 → a ≠ b → (TX1 a).2.1 ≠ (TX1 b).2.1 := by decide +kernel
theorem tyX1_ok : ∀ k, k < 11 → parseFieldDescriptor (TX1 k).2.2.1 = some (tyX1 k) := by decide +kernel
abbrev cX1_init : ByteArray := prog_1_method_2_code
def yX1_init : MethodName := ⟨RX1, "<init>", "()V"⟩
def dkwX1_init_2 : List UInt8 := [183, 0, 35, 181, 0, 36, 177]
abbrev dktX1_init_2 : List UInt8 := dkwX1_init_2 ++ []
def dkwX1_init_1 : List UInt8 := [16, 20, 189, 0, 20, 181, 0, 22, 42, 187, 0, 26, 89, 183, 0, 28, 181, 0, 29, 42, 187, 0, 33, 89]
abbrev dktX1_init_1 : List UInt8 := dkwX1_init_1 ++ dktX1_init_2
def dkwX1_init_0 : List UInt8 := [42, 183, 0, 1, 42, 187, 0, 7, 89, 183, 0, 9, 181, 0, 10, 42, 7, 188, 10, 181, 0, 16, 42]
abbrev dktX1_init_0 : List UInt8 := dkwX1_init_0 ++ dktX1_init_1
theorem dksX1_init_0 : cX1_init.data.toList.drop 0 = dktX1_init_0 := by decide +kernel
theorem dksX1_init_1 : cX1_init.data.toList.drop 23 = dktX1_init_1 := dk_seg dksX1_init_0 23 rfl rfl
theorem dksX1_init_2 : cX1_init.data.toList.drop 47 = dktX1_init_2 := dk_seg dksX1_init_1 24 rfl rfl
theorem dX1_init_0 : decode cX1_init 0 = .ok (.aload_n 0, 1) := dk_42 (dk_at dksX1_init_0 0 rfl rfl)
theorem dX1_init_1 : decode cX1_init 1 = .ok (.invokespecial 1, 3) := dk_183 0 1 (dk_at dksX1_init_0 1 rfl rfl)
theorem dX1_init_4 : decode cX1_init 4 = .ok (.aload_n 0, 1) := dk_42 (dk_at dksX1_init_0 4 rfl rfl)
theorem dX1_init_5 : decode cX1_init 5 = .ok (.new 7, 3) := dk_187 0 7 (dk_at dksX1_init_0 5 rfl rfl)
theorem dX1_init_8 : decode cX1_init 8 = .ok (.dup, 1) := dk_89 (dk_at dksX1_init_0 8 rfl rfl)
theorem dX1_init_9 : decode cX1_init 9 = .ok (.invokespecial 9, 3) := dk_183 0 9 (dk_at dksX1_init_0 9 rfl rfl)
theorem dX1_init_12 : decode cX1_init 12 = .ok (.putfield 10, 3) := dk_181 0 10 (dk_at dksX1_init_0 12 rfl rfl)
theorem dX1_init_15 : decode cX1_init 15 = .ok (.aload_n 0, 1) := dk_42 (dk_at dksX1_init_0 15 rfl rfl)
theorem dX1_init_16 : decode cX1_init 16 = .ok (.iconst 4, 1) := dk_7 (dk_at dksX1_init_0 16 rfl rfl)
theorem dX1_init_17 : decode cX1_init 17 = .ok (.newarray .int, 2) := dk_188_10 (dk_at dksX1_init_0 17 rfl rfl)
theorem dX1_init_19 : decode cX1_init 19 = .ok (.putfield 16, 3) := dk_181 0 16 (dk_at dksX1_init_0 19 rfl rfl)
theorem dX1_init_22 : decode cX1_init 22 = .ok (.aload_n 0, 1) := dk_42 (dk_at dksX1_init_0 22 rfl rfl)
theorem dX1_init_23 : decode cX1_init 23 = .ok (.bipush 20, 2) := dk_16 20 (dk_at dksX1_init_1 0 rfl rfl)
theorem dX1_init_25 : decode cX1_init 25 = .ok (.anewarray 20, 3) := dk_189 0 20 (dk_at dksX1_init_1 2 rfl rfl)
theorem dX1_init_28 : decode cX1_init 28 = .ok (.putfield 22, 3) := dk_181 0 22 (dk_at dksX1_init_1 5 rfl rfl)
theorem dX1_init_31 : decode cX1_init 31 = .ok (.aload_n 0, 1) := dk_42 (dk_at dksX1_init_1 8 rfl rfl)
theorem dX1_init_32 : decode cX1_init 32 = .ok (.new 26, 3) := dk_187 0 26 (dk_at dksX1_init_1 9 rfl rfl)
theorem dX1_init_35 : decode cX1_init 35 = .ok (.dup, 1) := dk_89 (dk_at dksX1_init_1 12 rfl rfl)
theorem dX1_init_36 : decode cX1_init 36 = .ok (.invokespecial 28, 3) := dk_183 0 28 (dk_at dksX1_init_1 13 rfl rfl)
theorem dX1_init_39 : decode cX1_init 39 = .ok (.putfield 29, 3) := dk_181 0 29 (dk_at dksX1_init_1 16 rfl rfl)
theorem dX1_init_42 : decode cX1_init 42 = .ok (.aload_n 0, 1) := dk_42 (dk_at dksX1_init_1 19 rfl rfl)
theorem dX1_init_43 : decode cX1_init 43 = .ok (.new 33, 3) := dk_187 0 33 (dk_at dksX1_init_1 20 rfl rfl)
theorem dX1_init_46 : decode cX1_init 46 = .ok (.dup, 1) := dk_89 (dk_at dksX1_init_1 23 rfl rfl)
theorem dX1_init_47 : decode cX1_init 47 = .ok (.invokespecial 35, 3) := dk_183 0 35 (dk_at dksX1_init_2 0 rfl rfl)
theorem dX1_init_50 : decode cX1_init 50 = .ok (.putfield 36, 3) := dk_181 0 36 (dk_at dksX1_init_2 3 rfl rfl)
theorem dX1_init_53 : decode cX1_init 53 = .ok (.return_, 1) := dk_177 (dk_at dksX1_init_2 6 rfl rfl)
abbrev cX1_boxes : ByteArray := prog_1_method_13_code
def yX1_boxes : MethodName := ⟨RX1, "boxes", "()I"⟩
theorem dX1_boxes_0 : decode cX1_boxes 0 = .ok (.aload_n 0, 1) := by decide +kernel
theorem dX1_boxes_1 : decode cX1_boxes 1 = .ok (.getfield 94, 3) := by decide +kernel
theorem dX1_boxes_4 : decode cX1_boxes 4 = .ok (.ireturn, 1) := by decide +kernel
abbrev cX1_isInYard : ByteArray := prog_1_method_14_code
def yX1_isInYard : MethodName := ⟨RX1, "isInYard", "(I)Z"⟩
def dkwX1_isInYard_0 : List UInt8 := [42, 27, 182, 0, 63, 172]
abbrev dktX1_isInYard_0 : List UInt8 := dkwX1_isInYard_0 ++ []
theorem dksX1_isInYard_0 : cX1_isInYard.data.toList.drop 0 = dktX1_isInYard_0 := by decide +kernel
theorem dX1_isInYard_0 : decode cX1_isInYard 0 = .ok (.aload_n 0, 1) := dk_42 (dk_at dksX1_isInYard_0 0 rfl rfl)
theorem dX1_isInYard_1 : decode cX1_isInYard 1 = .ok (.iload_n 1, 1) := dk_27 (dk_at dksX1_isInYard_0 1 rfl rfl)
theorem dX1_isInYard_2 : decode cX1_isInYard 2 = .ok (.invokevirtual 63, 3) := dk_182 0 63 (dk_at dksX1_isInYard_0 2 rfl rfl)
theorem dX1_isInYard_5 : decode cX1_isInYard 5 = .ok (.ireturn, 1) := dk_172 (dk_at dksX1_isInYard_0 5 rfl rfl)
abbrev cX1_isPresent : ByteArray := prog_1_method_8_code
def yX1_isPresent : MethodName := ⟨RX1, "isPresent", "(I)Z"⟩
def dkwX1_isPresent_1 : List UInt8 := [167, 0, 4, 3, 172]
abbrev dktX1_isPresent_1 : List UInt8 := dkwX1_isPresent_1 ++ []
def dkwX1_isPresent_0 : List UInt8 := [27, 3, 42, 180, 0, 55, 4, 100, 184, 0, 59, 153, 0, 16, 42, 180, 0, 22, 27, 50, 198, 0, 7, 4]
abbrev dktX1_isPresent_0 : List UInt8 := dkwX1_isPresent_0 ++ dktX1_isPresent_1
theorem dksX1_isPresent_0 : cX1_isPresent.data.toList.drop 0 = dktX1_isPresent_0 := by decide +kernel
theorem dksX1_isPresent_1 : cX1_isPresent.data.toList.drop 24 = dktX1_isPresent_1 := dk_seg dksX1_isPresent_0 24 rfl rfl
theorem dX1_isPresent_0 : decode cX1_isPresent 0 = .ok (.iload_n 1, 1) := dk_27 (dk_at dksX1_isPresent_0 0 rfl rfl)
theorem dX1_isPresent_1 : decode cX1_isPresent 1 = .ok (.iconst 0, 1) := dk_3 (dk_at dksX1_isPresent_0 1 rfl rfl)
theorem dX1_isPresent_2 : decode cX1_isPresent 2 = .ok (.aload_n 0, 1) := dk_42 (dk_at dksX1_isPresent_0 2 rfl rfl)
theorem dX1_isPresent_3 : decode cX1_isPresent 3 = .ok (.getfield 55, 3) := dk_180 0 55 (dk_at dksX1_isPresent_0 3 rfl rfl)
theorem dX1_isPresent_6 : decode cX1_isPresent 6 = .ok (.iconst 1, 1) := dk_4 (dk_at dksX1_isPresent_0 6 rfl rfl)
theorem dX1_isPresent_7 : decode cX1_isPresent 7 = .ok (.isub, 1) := dk_100 (dk_at dksX1_isPresent_0 7 rfl rfl)
theorem dX1_isPresent_8 : decode cX1_isPresent 8 = .ok (.invokestatic 59, 3) := dk_184 0 59 (dk_at dksX1_isPresent_0 8 rfl rfl)
theorem dX1_isPresent_11 : decode cX1_isPresent 11 = .ok (.ifCond .eq 16, 3) := dk_153 0 16 (dk_at dksX1_isPresent_0 11 rfl rfl)
theorem dX1_isPresent_14 : decode cX1_isPresent 14 = .ok (.aload_n 0, 1) := dk_42 (dk_at dksX1_isPresent_0 14 rfl rfl)
theorem dX1_isPresent_15 : decode cX1_isPresent 15 = .ok (.getfield 22, 3) := dk_180 0 22 (dk_at dksX1_isPresent_0 15 rfl rfl)
theorem dX1_isPresent_18 : decode cX1_isPresent 18 = .ok (.iload_n 1, 1) := dk_27 (dk_at dksX1_isPresent_0 18 rfl rfl)
theorem dX1_isPresent_19 : decode cX1_isPresent 19 = .ok (.aaload, 1) := dk_50 (dk_at dksX1_isPresent_0 19 rfl rfl)
theorem dX1_isPresent_20 : decode cX1_isPresent 20 = .ok (.ifnull 7, 3) := dk_198 0 7 (dk_at dksX1_isPresent_0 20 rfl rfl)
theorem dX1_isPresent_23 : decode cX1_isPresent 23 = .ok (.iconst 1, 1) := dk_4 (dk_at dksX1_isPresent_0 23 rfl rfl)
theorem dX1_isPresent_24 : decode cX1_isPresent 24 = .ok (.goto 4, 3) := dk_167 0 4 (dk_at dksX1_isPresent_1 0 rfl rfl)
theorem dX1_isPresent_27 : decode cX1_isPresent 27 = .ok (.iconst 0, 1) := dk_3 (dk_at dksX1_isPresent_1 3 rfl rfl)
theorem dX1_isPresent_28 : decode cX1_isPresent 28 = .ok (.ireturn, 1) := dk_172 (dk_at dksX1_isPresent_1 4 rfl rfl)
abbrev cX1_isBetween : ByteArray := prog_1_method_1_code
def yX1_isBetween : MethodName := ⟨RX1, "isBetween", "(III)Z"⟩
def dkwX1_isBetween_0 : List UInt8 := [26, 27, 161, 0, 12, 26, 28, 163, 0, 7, 4, 167, 0, 4, 3, 172]
abbrev dktX1_isBetween_0 : List UInt8 := dkwX1_isBetween_0 ++ []
theorem dksX1_isBetween_0 : cX1_isBetween.data.toList.drop 0 = dktX1_isBetween_0 := by decide +kernel
theorem dX1_isBetween_0 : decode cX1_isBetween 0 = .ok (.iload_n 0, 1) := dk_26 (dk_at dksX1_isBetween_0 0 rfl rfl)
theorem dX1_isBetween_1 : decode cX1_isBetween 1 = .ok (.iload_n 1, 1) := dk_27 (dk_at dksX1_isBetween_0 1 rfl rfl)
theorem dX1_isBetween_2 : decode cX1_isBetween 2 = .ok (.if_icmp .lt 12, 3) := dk_161 0 12 (dk_at dksX1_isBetween_0 2 rfl rfl)
theorem dX1_isBetween_5 : decode cX1_isBetween 5 = .ok (.iload_n 0, 1) := dk_26 (dk_at dksX1_isBetween_0 5 rfl rfl)
theorem dX1_isBetween_6 : decode cX1_isBetween 6 = .ok (.iload_n 2, 1) := dk_28 (dk_at dksX1_isBetween_0 6 rfl rfl)
theorem dX1_isBetween_7 : decode cX1_isBetween 7 = .ok (.if_icmp .gt 7, 3) := dk_163 0 7 (dk_at dksX1_isBetween_0 7 rfl rfl)
theorem dX1_isBetween_10 : decode cX1_isBetween 10 = .ok (.iconst 1, 1) := dk_4 (dk_at dksX1_isBetween_0 10 rfl rfl)
theorem dX1_isBetween_11 : decode cX1_isBetween 11 = .ok (.goto 4, 3) := dk_167 0 4 (dk_at dksX1_isBetween_0 11 rfl rfl)
theorem dX1_isBetween_14 : decode cX1_isBetween 14 = .ok (.iconst 0, 1) := dk_3 (dk_at dksX1_isBetween_0 14 rfl rfl)
theorem dX1_isBetween_15 : decode cX1_isBetween 15 = .ok (.ireturn, 1) := dk_172 (dk_at dksX1_isBetween_0 15 rfl rfl)
abbrev cX1_moves : ByteArray := prog_1_method_43_code
def yX1_moves : MethodName := ⟨RX1, "moves", "()I"⟩
theorem dX1_moves_0 : decode cX1_moves 0 = .ok (.aload_n 0, 1) := by decide +kernel
theorem dX1_moves_1 : decode cX1_moves 1 = .ok (.getfield 203, 3) := by decide +kernel
theorem dX1_moves_4 : decode cX1_moves 4 = .ok (.ireturn, 1) := by decide +kernel
abbrev cX1_now : ByteArray := prog_1_method_56_code
def yX1_now : MethodName := ⟨RX1, "now", "()I"⟩
theorem dX1_now_0 : decode cX1_now 0 = .ok (.aload_n 0, 1) := by decide +kernel
theorem dX1_now_1 : decode cX1_now 1 = .ok (.getfield 165, 3) := by decide +kernel
theorem dX1_now_4 : decode cX1_now 4 = .ok (.ireturn, 1) := by decide +kernel
abbrev cX1_weightLeft : ByteArray := prog_1_method_57_code
def yX1_weightLeft : MethodName := ⟨RX1, "weightLeft", "()J"⟩
theorem dX1_weightLeft_0 : decode cX1_weightLeft 0 = .ok (.aload_n 0, 1) := by decide +kernel
theorem dX1_weightLeft_1 : decode cX1_weightLeft 1 = .ok (.getfield 323, 3) := by decide +kernel
theorem dX1_weightLeft_4 : decode cX1_weightLeft 4 = .ok (.lreturn, 1) := by decide +kernel
abbrev cX1_addStack : ByteArray := prog_1_method_11_code
def yX1_addStack : MethodName := ⟨RX1, "addStack", "(I)I"⟩
def dkwX1_addStack_2 : List UInt8 := [180, 0, 71, 4, 100, 172]
abbrev dktX1_addStack_2 : List UInt8 := dkwX1_addStack_2 ++ []
def dkwX1_addStack_1 : List UInt8 := [184, 0, 77, 42, 180, 0, 16, 42, 180, 0, 71, 27, 79, 42, 89, 180, 0, 71, 4, 96, 181, 0, 71, 42]
abbrev dktX1_addStack_1 : List UInt8 := dkwX1_addStack_1 ++ dktX1_addStack_2
def dkwX1_addStack_0 : List UInt8 := [27, 4, 7, 184, 0, 59, 184, 0, 74, 42, 180, 0, 71, 7, 162, 0, 7, 4, 167, 0, 4, 3]
abbrev dktX1_addStack_0 : List UInt8 := dkwX1_addStack_0 ++ dktX1_addStack_1
theorem dksX1_addStack_0 : cX1_addStack.data.toList.drop 0 = dktX1_addStack_0 := by decide +kernel
theorem dksX1_addStack_1 : cX1_addStack.data.toList.drop 22 = dktX1_addStack_1 := dk_seg dksX1_addStack_0 22 rfl rfl
theorem dksX1_addStack_2 : cX1_addStack.data.toList.drop 46 = dktX1_addStack_2 := dk_seg dksX1_addStack_1 24 rfl rfl
theorem dX1_addStack_0 : decode cX1_addStack 0 = .ok (.iload_n 1, 1) := dk_27 (dk_at dksX1_addStack_0 0 rfl rfl)
theorem dX1_addStack_1 : decode cX1_addStack 1 = .ok (.iconst 1, 1) := dk_4 (dk_at dksX1_addStack_0 1 rfl rfl)
theorem dX1_addStack_2 : decode cX1_addStack 2 = .ok (.iconst 4, 1) := dk_7 (dk_at dksX1_addStack_0 2 rfl rfl)
theorem dX1_addStack_3 : decode cX1_addStack 3 = .ok (.invokestatic 59, 3) := dk_184 0 59 (dk_at dksX1_addStack_0 3 rfl rfl)
theorem dX1_addStack_6 : decode cX1_addStack 6 = .ok (.invokestatic 74, 3) := dk_184 0 74 (dk_at dksX1_addStack_0 6 rfl rfl)
theorem dX1_addStack_9 : decode cX1_addStack 9 = .ok (.aload_n 0, 1) := dk_42 (dk_at dksX1_addStack_0 9 rfl rfl)
theorem dX1_addStack_10 : decode cX1_addStack 10 = .ok (.getfield 71, 3) := dk_180 0 71 (dk_at dksX1_addStack_0 10 rfl rfl)
theorem dX1_addStack_13 : decode cX1_addStack 13 = .ok (.iconst 4, 1) := dk_7 (dk_at dksX1_addStack_0 13 rfl rfl)
theorem dX1_addStack_14 : decode cX1_addStack 14 = .ok (.if_icmp .ge 7, 3) := dk_162 0 7 (dk_at dksX1_addStack_0 14 rfl rfl)
theorem dX1_addStack_17 : decode cX1_addStack 17 = .ok (.iconst 1, 1) := dk_4 (dk_at dksX1_addStack_0 17 rfl rfl)
theorem dX1_addStack_18 : decode cX1_addStack 18 = .ok (.goto 4, 3) := dk_167 0 4 (dk_at dksX1_addStack_0 18 rfl rfl)
theorem dX1_addStack_21 : decode cX1_addStack 21 = .ok (.iconst 0, 1) := dk_3 (dk_at dksX1_addStack_0 21 rfl rfl)
theorem dX1_addStack_22 : decode cX1_addStack 22 = .ok (.invokestatic 77, 3) := dk_184 0 77 (dk_at dksX1_addStack_1 0 rfl rfl)
theorem dX1_addStack_25 : decode cX1_addStack 25 = .ok (.aload_n 0, 1) := dk_42 (dk_at dksX1_addStack_1 3 rfl rfl)
theorem dX1_addStack_26 : decode cX1_addStack 26 = .ok (.getfield 16, 3) := dk_180 0 16 (dk_at dksX1_addStack_1 4 rfl rfl)
theorem dX1_addStack_29 : decode cX1_addStack 29 = .ok (.aload_n 0, 1) := dk_42 (dk_at dksX1_addStack_1 7 rfl rfl)
theorem dX1_addStack_30 : decode cX1_addStack 30 = .ok (.getfield 71, 3) := dk_180 0 71 (dk_at dksX1_addStack_1 8 rfl rfl)
theorem dX1_addStack_33 : decode cX1_addStack 33 = .ok (.iload_n 1, 1) := dk_27 (dk_at dksX1_addStack_1 11 rfl rfl)
theorem dX1_addStack_34 : decode cX1_addStack 34 = .ok (.iastore, 1) := dk_79 (dk_at dksX1_addStack_1 12 rfl rfl)
theorem dX1_addStack_35 : decode cX1_addStack 35 = .ok (.aload_n 0, 1) := dk_42 (dk_at dksX1_addStack_1 13 rfl rfl)
theorem dX1_addStack_36 : decode cX1_addStack 36 = .ok (.dup, 1) := dk_89 (dk_at dksX1_addStack_1 14 rfl rfl)
theorem dX1_addStack_37 : decode cX1_addStack 37 = .ok (.getfield 71, 3) := dk_180 0 71 (dk_at dksX1_addStack_1 15 rfl rfl)
theorem dX1_addStack_40 : decode cX1_addStack 40 = .ok (.iconst 1, 1) := dk_4 (dk_at dksX1_addStack_1 18 rfl rfl)
theorem dX1_addStack_41 : decode cX1_addStack 41 = .ok (.iadd, 1) := dk_96 (dk_at dksX1_addStack_1 19 rfl rfl)
theorem dX1_addStack_42 : decode cX1_addStack 42 = .ok (.putfield 71, 3) := dk_181 0 71 (dk_at dksX1_addStack_1 20 rfl rfl)
theorem dX1_addStack_45 : decode cX1_addStack 45 = .ok (.aload_n 0, 1) := dk_42 (dk_at dksX1_addStack_1 23 rfl rfl)
theorem dX1_addStack_46 : decode cX1_addStack 46 = .ok (.getfield 71, 3) := dk_180 0 71 (dk_at dksX1_addStack_2 0 rfl rfl)
theorem dX1_addStack_49 : decode cX1_addStack 49 = .ok (.iconst 1, 1) := dk_4 (dk_at dksX1_addStack_2 3 rfl rfl)
theorem dX1_addStack_50 : decode cX1_addStack 50 = .ok (.isub, 1) := dk_100 (dk_at dksX1_addStack_2 4 rfl rfl)
theorem dX1_addStack_51 : decode cX1_addStack 51 = .ok (.ireturn, 1) := dk_172 (dk_at dksX1_addStack_2 5 rfl rfl)
abbrev cX1_checkArgument : ByteArray := prog_1_method_3_code
def yX1_checkArgument : MethodName := ⟨RX1, "checkArgument", "(Z)V"⟩
def dkwX1_checkArgument_0 : List UInt8 := [26, 154, 0, 11, 187, 0, 40, 89, 183, 0, 42, 191, 177]
abbrev dktX1_checkArgument_0 : List UInt8 := dkwX1_checkArgument_0 ++ []
theorem dksX1_checkArgument_0 : cX1_checkArgument.data.toList.drop 0 = dktX1_checkArgument_0 := by decide +kernel
theorem dX1_checkArgument_0 : decode cX1_checkArgument 0 = .ok (.iload_n 0, 1) := dk_26 (dk_at dksX1_checkArgument_0 0 rfl rfl)
theorem dX1_checkArgument_1 : decode cX1_checkArgument 1 = .ok (.ifCond .ne 11, 3) := dk_154 0 11 (dk_at dksX1_checkArgument_0 1 rfl rfl)
theorem dX1_checkArgument_4 : decode cX1_checkArgument 4 = .ok (.new 40, 3) := dk_187 0 40 (dk_at dksX1_checkArgument_0 4 rfl rfl)
theorem dX1_checkArgument_7 : decode cX1_checkArgument 7 = .ok (.dup, 1) := dk_89 (dk_at dksX1_checkArgument_0 7 rfl rfl)
theorem dX1_checkArgument_8 : decode cX1_checkArgument 8 = .ok (.invokespecial 42, 3) := dk_183 0 42 (dk_at dksX1_checkArgument_0 8 rfl rfl)
theorem dX1_checkArgument_11 : decode cX1_checkArgument 11 = .ok (.athrow, 1) := dk_191 (dk_at dksX1_checkArgument_0 11 rfl rfl)
theorem dX1_checkArgument_12 : decode cX1_checkArgument 12 = .ok (.return_, 1) := dk_177 (dk_at dksX1_checkArgument_0 12 rfl rfl)
abbrev cX1_checkState : ByteArray := prog_1_method_4_code
def yX1_checkState : MethodName := ⟨RX1, "checkState", "(Z)V"⟩
def dkwX1_checkState_0 : List UInt8 := [26, 154, 0, 11, 187, 0, 43, 89, 183, 0, 45, 191, 177]
abbrev dktX1_checkState_0 : List UInt8 := dkwX1_checkState_0 ++ []
theorem dksX1_checkState_0 : cX1_checkState.data.toList.drop 0 = dktX1_checkState_0 := by decide +kernel
theorem dX1_checkState_0 : decode cX1_checkState 0 = .ok (.iload_n 0, 1) := dk_26 (dk_at dksX1_checkState_0 0 rfl rfl)
theorem dX1_checkState_1 : decode cX1_checkState 1 = .ok (.ifCond .ne 11, 3) := dk_154 0 11 (dk_at dksX1_checkState_0 1 rfl rfl)
theorem dX1_checkState_4 : decode cX1_checkState 4 = .ok (.new 43, 3) := dk_187 0 43 (dk_at dksX1_checkState_0 4 rfl rfl)
theorem dX1_checkState_7 : decode cX1_checkState 7 = .ok (.dup, 1) := dk_89 (dk_at dksX1_checkState_0 7 rfl rfl)
theorem dX1_checkState_8 : decode cX1_checkState 8 = .ok (.invokespecial 45, 3) := dk_183 0 45 (dk_at dksX1_checkState_0 8 rfl rfl)
theorem dX1_checkState_11 : decode cX1_checkState 11 = .ok (.athrow, 1) := dk_191 (dk_at dksX1_checkState_0 11 rfl rfl)
theorem dX1_checkState_12 : decode cX1_checkState 12 = .ok (.return_, 1) := dk_177 (dk_at dksX1_checkState_0 12 rfl rfl)
abbrev cX1_addBox : ByteArray := prog_1_method_12_code
def yX1_addBox : MethodName := ⟨RX1, "addBox", "(II)I"⟩
def dkwX1_addBox_4 : List UInt8 := [180, 0, 55, 4, 96, 181, 0, 55, 42, 89, 180, 0, 94, 4, 96, 181, 0, 94, 45, 180, 0, 101, 172]
abbrev dktX1_addBox_4 : List UInt8 := dkwX1_addBox_4 ++ []
def dkwX1_addBox_3 : List UInt8 := [184, 0, 77, 42, 180, 0, 22, 42, 180, 0, 55, 45, 83, 42, 180, 0, 10, 28, 45, 182, 0, 97, 42, 89]
abbrev dktX1_addBox_3 : List UInt8 := dkwX1_addBox_3 ++ dktX1_addBox_4
def dkwX1_addBox_2 : List UInt8 := [180, 0, 94, 16, 8, 162, 0, 16, 42, 180, 0, 55, 16, 20, 162, 0, 7, 4, 167, 0, 4, 3]
abbrev dktX1_addBox_2 : List UInt8 := dkwX1_addBox_2 ++ dktX1_addBox_3
def dkwX1_addBox_1 : List UInt8 := [183, 0, 84, 78, 42, 180, 0, 10, 28, 42, 180, 0, 16, 28, 46, 45, 182, 0, 87, 184, 0, 91, 42]
abbrev dktX1_addBox_1 : List UInt8 := dkwX1_addBox_1 ++ dktX1_addBox_2
def dkwX1_addBox_0 : List UInt8 := [42, 28, 182, 0, 80, 27, 4, 16, 30, 184, 0, 59, 184, 0, 74, 187, 0, 20, 89, 42, 180, 0, 55, 27]
abbrev dktX1_addBox_0 : List UInt8 := dkwX1_addBox_0 ++ dktX1_addBox_1
theorem dksX1_addBox_0 : cX1_addBox.data.toList.drop 0 = dktX1_addBox_0 := by decide +kernel
theorem dksX1_addBox_1 : cX1_addBox.data.toList.drop 24 = dktX1_addBox_1 := dk_seg dksX1_addBox_0 24 rfl rfl
theorem dksX1_addBox_2 : cX1_addBox.data.toList.drop 47 = dktX1_addBox_2 := dk_seg dksX1_addBox_1 23 rfl rfl
theorem dksX1_addBox_3 : cX1_addBox.data.toList.drop 69 = dktX1_addBox_3 := dk_seg dksX1_addBox_2 22 rfl rfl
theorem dksX1_addBox_4 : cX1_addBox.data.toList.drop 93 = dktX1_addBox_4 := dk_seg dksX1_addBox_3 24 rfl rfl
theorem dX1_addBox_0 : decode cX1_addBox 0 = .ok (.aload_n 0, 1) := dk_42 (dk_at dksX1_addBox_0 0 rfl rfl)
theorem dX1_addBox_1 : decode cX1_addBox 1 = .ok (.iload_n 2, 1) := dk_28 (dk_at dksX1_addBox_0 1 rfl rfl)
theorem dX1_addBox_2 : decode cX1_addBox 2 = .ok (.invokevirtual 80, 3) := dk_182 0 80 (dk_at dksX1_addBox_0 2 rfl rfl)
theorem dX1_addBox_5 : decode cX1_addBox 5 = .ok (.iload_n 1, 1) := dk_27 (dk_at dksX1_addBox_0 5 rfl rfl)
theorem dX1_addBox_6 : decode cX1_addBox 6 = .ok (.iconst 1, 1) := dk_4 (dk_at dksX1_addBox_0 6 rfl rfl)
theorem dX1_addBox_7 : decode cX1_addBox 7 = .ok (.bipush 30, 2) := dk_16 30 (dk_at dksX1_addBox_0 7 rfl rfl)
theorem dX1_addBox_9 : decode cX1_addBox 9 = .ok (.invokestatic 59, 3) := dk_184 0 59 (dk_at dksX1_addBox_0 9 rfl rfl)
theorem dX1_addBox_12 : decode cX1_addBox 12 = .ok (.invokestatic 74, 3) := dk_184 0 74 (dk_at dksX1_addBox_0 12 rfl rfl)
theorem dX1_addBox_15 : decode cX1_addBox 15 = .ok (.new 20, 3) := dk_187 0 20 (dk_at dksX1_addBox_0 15 rfl rfl)
theorem dX1_addBox_18 : decode cX1_addBox 18 = .ok (.dup, 1) := dk_89 (dk_at dksX1_addBox_0 18 rfl rfl)
theorem dX1_addBox_19 : decode cX1_addBox 19 = .ok (.aload_n 0, 1) := dk_42 (dk_at dksX1_addBox_0 19 rfl rfl)
theorem dX1_addBox_20 : decode cX1_addBox 20 = .ok (.getfield 55, 3) := dk_180 0 55 (dk_at dksX1_addBox_0 20 rfl rfl)
theorem dX1_addBox_23 : decode cX1_addBox 23 = .ok (.iload_n 1, 1) := dk_27 (dk_at dksX1_addBox_0 23 rfl rfl)
theorem dX1_addBox_24 : decode cX1_addBox 24 = .ok (.invokespecial 84, 3) := dk_183 0 84 (dk_at dksX1_addBox_1 0 rfl rfl)
theorem dX1_addBox_27 : decode cX1_addBox 27 = .ok (.astore_n 3, 1) := dk_78 (dk_at dksX1_addBox_1 3 rfl rfl)
theorem dX1_addBox_28 : decode cX1_addBox 28 = .ok (.aload_n 0, 1) := dk_42 (dk_at dksX1_addBox_1 4 rfl rfl)
theorem dX1_addBox_29 : decode cX1_addBox 29 = .ok (.getfield 10, 3) := dk_180 0 10 (dk_at dksX1_addBox_1 5 rfl rfl)
theorem dX1_addBox_32 : decode cX1_addBox 32 = .ok (.iload_n 2, 1) := dk_28 (dk_at dksX1_addBox_1 8 rfl rfl)
theorem dX1_addBox_33 : decode cX1_addBox 33 = .ok (.aload_n 0, 1) := dk_42 (dk_at dksX1_addBox_1 9 rfl rfl)
theorem dX1_addBox_34 : decode cX1_addBox 34 = .ok (.getfield 16, 3) := dk_180 0 16 (dk_at dksX1_addBox_1 10 rfl rfl)
theorem dX1_addBox_37 : decode cX1_addBox 37 = .ok (.iload_n 2, 1) := dk_28 (dk_at dksX1_addBox_1 13 rfl rfl)
theorem dX1_addBox_38 : decode cX1_addBox 38 = .ok (.iaload, 1) := dk_46 (dk_at dksX1_addBox_1 14 rfl rfl)
theorem dX1_addBox_39 : decode cX1_addBox 39 = .ok (.aload_n 3, 1) := dk_45 (dk_at dksX1_addBox_1 15 rfl rfl)
theorem dX1_addBox_40 : decode cX1_addBox 40 = .ok (.invokevirtual 87, 3) := dk_182 0 87 (dk_at dksX1_addBox_1 16 rfl rfl)
theorem dX1_addBox_43 : decode cX1_addBox 43 = .ok (.invokestatic 91, 3) := dk_184 0 91 (dk_at dksX1_addBox_1 19 rfl rfl)
theorem dX1_addBox_46 : decode cX1_addBox 46 = .ok (.aload_n 0, 1) := dk_42 (dk_at dksX1_addBox_1 22 rfl rfl)
theorem dX1_addBox_47 : decode cX1_addBox 47 = .ok (.getfield 94, 3) := dk_180 0 94 (dk_at dksX1_addBox_2 0 rfl rfl)
theorem dX1_addBox_50 : decode cX1_addBox 50 = .ok (.bipush 8, 2) := dk_16 8 (dk_at dksX1_addBox_2 3 rfl rfl)
theorem dX1_addBox_52 : decode cX1_addBox 52 = .ok (.if_icmp .ge 16, 3) := dk_162 0 16 (dk_at dksX1_addBox_2 5 rfl rfl)
theorem dX1_addBox_55 : decode cX1_addBox 55 = .ok (.aload_n 0, 1) := dk_42 (dk_at dksX1_addBox_2 8 rfl rfl)
theorem dX1_addBox_56 : decode cX1_addBox 56 = .ok (.getfield 55, 3) := dk_180 0 55 (dk_at dksX1_addBox_2 9 rfl rfl)
theorem dX1_addBox_59 : decode cX1_addBox 59 = .ok (.bipush 20, 2) := dk_16 20 (dk_at dksX1_addBox_2 12 rfl rfl)
theorem dX1_addBox_61 : decode cX1_addBox 61 = .ok (.if_icmp .ge 7, 3) := dk_162 0 7 (dk_at dksX1_addBox_2 14 rfl rfl)
theorem dX1_addBox_64 : decode cX1_addBox 64 = .ok (.iconst 1, 1) := dk_4 (dk_at dksX1_addBox_2 17 rfl rfl)
theorem dX1_addBox_65 : decode cX1_addBox 65 = .ok (.goto 4, 3) := dk_167 0 4 (dk_at dksX1_addBox_2 18 rfl rfl)
theorem dX1_addBox_68 : decode cX1_addBox 68 = .ok (.iconst 0, 1) := dk_3 (dk_at dksX1_addBox_2 21 rfl rfl)
theorem dX1_addBox_69 : decode cX1_addBox 69 = .ok (.invokestatic 77, 3) := dk_184 0 77 (dk_at dksX1_addBox_3 0 rfl rfl)
theorem dX1_addBox_72 : decode cX1_addBox 72 = .ok (.aload_n 0, 1) := dk_42 (dk_at dksX1_addBox_3 3 rfl rfl)
theorem dX1_addBox_73 : decode cX1_addBox 73 = .ok (.getfield 22, 3) := dk_180 0 22 (dk_at dksX1_addBox_3 4 rfl rfl)
theorem dX1_addBox_76 : decode cX1_addBox 76 = .ok (.aload_n 0, 1) := dk_42 (dk_at dksX1_addBox_3 7 rfl rfl)
theorem dX1_addBox_77 : decode cX1_addBox 77 = .ok (.getfield 55, 3) := dk_180 0 55 (dk_at dksX1_addBox_3 8 rfl rfl)
theorem dX1_addBox_80 : decode cX1_addBox 80 = .ok (.aload_n 3, 1) := dk_45 (dk_at dksX1_addBox_3 11 rfl rfl)
theorem dX1_addBox_81 : decode cX1_addBox 81 = .ok (.aastore, 1) := dk_83 (dk_at dksX1_addBox_3 12 rfl rfl)
theorem dX1_addBox_82 : decode cX1_addBox 82 = .ok (.aload_n 0, 1) := dk_42 (dk_at dksX1_addBox_3 13 rfl rfl)
theorem dX1_addBox_83 : decode cX1_addBox 83 = .ok (.getfield 10, 3) := dk_180 0 10 (dk_at dksX1_addBox_3 14 rfl rfl)
theorem dX1_addBox_86 : decode cX1_addBox 86 = .ok (.iload_n 2, 1) := dk_28 (dk_at dksX1_addBox_3 17 rfl rfl)
theorem dX1_addBox_87 : decode cX1_addBox 87 = .ok (.aload_n 3, 1) := dk_45 (dk_at dksX1_addBox_3 18 rfl rfl)
theorem dX1_addBox_88 : decode cX1_addBox 88 = .ok (.invokevirtual 97, 3) := dk_182 0 97 (dk_at dksX1_addBox_3 19 rfl rfl)
theorem dX1_addBox_91 : decode cX1_addBox 91 = .ok (.aload_n 0, 1) := dk_42 (dk_at dksX1_addBox_3 22 rfl rfl)
theorem dX1_addBox_92 : decode cX1_addBox 92 = .ok (.dup, 1) := dk_89 (dk_at dksX1_addBox_3 23 rfl rfl)
theorem dX1_addBox_93 : decode cX1_addBox 93 = .ok (.getfield 55, 3) := dk_180 0 55 (dk_at dksX1_addBox_4 0 rfl rfl)
theorem dX1_addBox_96 : decode cX1_addBox 96 = .ok (.iconst 1, 1) := dk_4 (dk_at dksX1_addBox_4 3 rfl rfl)
theorem dX1_addBox_97 : decode cX1_addBox 97 = .ok (.iadd, 1) := dk_96 (dk_at dksX1_addBox_4 4 rfl rfl)
theorem dX1_addBox_98 : decode cX1_addBox 98 = .ok (.putfield 55, 3) := dk_181 0 55 (dk_at dksX1_addBox_4 5 rfl rfl)
theorem dX1_addBox_101 : decode cX1_addBox 101 = .ok (.aload_n 0, 1) := dk_42 (dk_at dksX1_addBox_4 8 rfl rfl)
theorem dX1_addBox_102 : decode cX1_addBox 102 = .ok (.dup, 1) := dk_89 (dk_at dksX1_addBox_4 9 rfl rfl)
theorem dX1_addBox_103 : decode cX1_addBox 103 = .ok (.getfield 94, 3) := dk_180 0 94 (dk_at dksX1_addBox_4 10 rfl rfl)
theorem dX1_addBox_106 : decode cX1_addBox 106 = .ok (.iconst 1, 1) := dk_4 (dk_at dksX1_addBox_4 13 rfl rfl)
theorem dX1_addBox_107 : decode cX1_addBox 107 = .ok (.iadd, 1) := dk_96 (dk_at dksX1_addBox_4 14 rfl rfl)
theorem dX1_addBox_108 : decode cX1_addBox 108 = .ok (.putfield 94, 3) := dk_181 0 94 (dk_at dksX1_addBox_4 15 rfl rfl)
theorem dX1_addBox_111 : decode cX1_addBox 111 = .ok (.aload_n 3, 1) := dk_45 (dk_at dksX1_addBox_4 18 rfl rfl)
theorem dX1_addBox_112 : decode cX1_addBox 112 = .ok (.getfield 101, 3) := dk_180 0 101 (dk_at dksX1_addBox_4 19 rfl rfl)
theorem dX1_addBox_115 : decode cX1_addBox 115 = .ok (.ireturn, 1) := dk_172 (dk_at dksX1_addBox_4 22 rfl rfl)
abbrev cX1_checkStack : ByteArray := prog_1_method_10_code
def yX1_checkStack : MethodName := ⟨RX1, "checkStack", "(I)V"⟩
def dkwX1_checkStack_0 : List UInt8 := [27, 3, 42, 180, 0, 71, 4, 100, 184, 0, 59, 184, 0, 67, 177]
abbrev dktX1_checkStack_0 : List UInt8 := dkwX1_checkStack_0 ++ []
theorem dksX1_checkStack_0 : cX1_checkStack.data.toList.drop 0 = dktX1_checkStack_0 := by decide +kernel
theorem dX1_checkStack_0 : decode cX1_checkStack 0 = .ok (.iload_n 1, 1) := dk_27 (dk_at dksX1_checkStack_0 0 rfl rfl)
theorem dX1_checkStack_1 : decode cX1_checkStack 1 = .ok (.iconst 0, 1) := dk_3 (dk_at dksX1_checkStack_0 1 rfl rfl)
theorem dX1_checkStack_2 : decode cX1_checkStack 2 = .ok (.aload_n 0, 1) := dk_42 (dk_at dksX1_checkStack_0 2 rfl rfl)
theorem dX1_checkStack_3 : decode cX1_checkStack 3 = .ok (.getfield 71, 3) := dk_180 0 71 (dk_at dksX1_checkStack_0 3 rfl rfl)
theorem dX1_checkStack_6 : decode cX1_checkStack 6 = .ok (.iconst 1, 1) := dk_4 (dk_at dksX1_checkStack_0 6 rfl rfl)
theorem dX1_checkStack_7 : decode cX1_checkStack 7 = .ok (.isub, 1) := dk_100 (dk_at dksX1_checkStack_0 7 rfl rfl)
theorem dX1_checkStack_8 : decode cX1_checkStack 8 = .ok (.invokestatic 59, 3) := dk_184 0 59 (dk_at dksX1_checkStack_0 8 rfl rfl)
theorem dX1_checkStack_11 : decode cX1_checkStack 11 = .ok (.invokestatic 67, 3) := dk_184 0 67 (dk_at dksX1_checkStack_0 11 rfl rfl)
theorem dX1_checkStack_14 : decode cX1_checkStack 14 = .ok (.return_, 1) := dk_177 (dk_at dksX1_checkStack_0 14 rfl rfl)
abbrev cX1_checkIndex : ByteArray := prog_1_method_7_code
def yX1_checkIndex : MethodName := ⟨RX1, "checkIndex", "(Z)V"⟩
def dkwX1_checkIndex_0 : List UInt8 := [26, 154, 0, 11, 187, 0, 52, 89, 183, 0, 54, 191, 177]
abbrev dktX1_checkIndex_0 : List UInt8 := dkwX1_checkIndex_0 ++ []
theorem dksX1_checkIndex_0 : cX1_checkIndex.data.toList.drop 0 = dktX1_checkIndex_0 := by decide +kernel
theorem dX1_checkIndex_0 : decode cX1_checkIndex 0 = .ok (.iload_n 0, 1) := dk_26 (dk_at dksX1_checkIndex_0 0 rfl rfl)
theorem dX1_checkIndex_1 : decode cX1_checkIndex 1 = .ok (.ifCond .ne 11, 3) := dk_154 0 11 (dk_at dksX1_checkIndex_0 1 rfl rfl)
theorem dX1_checkIndex_4 : decode cX1_checkIndex 4 = .ok (.new 52, 3) := dk_187 0 52 (dk_at dksX1_checkIndex_0 4 rfl rfl)
theorem dX1_checkIndex_7 : decode cX1_checkIndex 7 = .ok (.dup, 1) := dk_89 (dk_at dksX1_checkIndex_0 7 rfl rfl)
theorem dX1_checkIndex_8 : decode cX1_checkIndex 8 = .ok (.invokespecial 54, 3) := dk_183 0 54 (dk_at dksX1_checkIndex_0 8 rfl rfl)
theorem dX1_checkIndex_11 : decode cX1_checkIndex 11 = .ok (.athrow, 1) := dk_191 (dk_at dksX1_checkIndex_0 11 rfl rfl)
theorem dX1_checkIndex_12 : decode cX1_checkIndex 12 = .ok (.return_, 1) := dk_177 (dk_at dksX1_checkIndex_0 12 rfl rfl)
abbrev cX1_checkPossible : ByteArray := prog_1_method_6_code
def yX1_checkPossible : MethodName := ⟨RX1, "checkPossible", "(Z)V"⟩
def dkwX1_checkPossible_0 : List UInt8 := [26, 154, 0, 11, 187, 0, 49, 89, 183, 0, 51, 191, 177]
abbrev dktX1_checkPossible_0 : List UInt8 := dkwX1_checkPossible_0 ++ []
theorem dksX1_checkPossible_0 : cX1_checkPossible.data.toList.drop 0 = dktX1_checkPossible_0 := by decide +kernel
theorem dX1_checkPossible_0 : decode cX1_checkPossible 0 = .ok (.iload_n 0, 1) := dk_26 (dk_at dksX1_checkPossible_0 0 rfl rfl)
theorem dX1_checkPossible_1 : decode cX1_checkPossible 1 = .ok (.ifCond .ne 11, 3) := dk_154 0 11 (dk_at dksX1_checkPossible_0 1 rfl rfl)
theorem dX1_checkPossible_4 : decode cX1_checkPossible 4 = .ok (.new 49, 3) := dk_187 0 49 (dk_at dksX1_checkPossible_0 4 rfl rfl)
theorem dX1_checkPossible_7 : decode cX1_checkPossible 7 = .ok (.dup, 1) := dk_89 (dk_at dksX1_checkPossible_0 7 rfl rfl)
theorem dX1_checkPossible_8 : decode cX1_checkPossible 8 = .ok (.invokespecial 51, 3) := dk_183 0 51 (dk_at dksX1_checkPossible_0 8 rfl rfl)
theorem dX1_checkPossible_11 : decode cX1_checkPossible 11 = .ok (.athrow, 1) := dk_191 (dk_at dksX1_checkPossible_0 11 rfl rfl)
theorem dX1_checkPossible_12 : decode cX1_checkPossible 12 = .ok (.return_, 1) := dk_177 (dk_at dksX1_checkPossible_0 12 rfl rfl)
abbrev cX1_weight : ByteArray := prog_1_method_15_code
def yX1_weight : MethodName := ⟨RX1, "weight", "(I)I"⟩
def dkwX1_weight_0 : List UInt8 := [42, 27, 182, 0, 104, 180, 0, 108, 172]
abbrev dktX1_weight_0 : List UInt8 := dkwX1_weight_0 ++ []
theorem dksX1_weight_0 : cX1_weight.data.toList.drop 0 = dktX1_weight_0 := by decide +kernel
theorem dX1_weight_0 : decode cX1_weight 0 = .ok (.aload_n 0, 1) := dk_42 (dk_at dksX1_weight_0 0 rfl rfl)
theorem dX1_weight_1 : decode cX1_weight 1 = .ok (.iload_n 1, 1) := dk_27 (dk_at dksX1_weight_0 1 rfl rfl)
theorem dX1_weight_2 : decode cX1_weight 2 = .ok (.invokevirtual 104, 3) := dk_182 0 104 (dk_at dksX1_weight_0 2 rfl rfl)
theorem dX1_weight_5 : decode cX1_weight 5 = .ok (.getfield 108, 3) := dk_180 0 108 (dk_at dksX1_weight_0 5 rfl rfl)
theorem dX1_weight_8 : decode cX1_weight 8 = .ok (.ireturn, 1) := dk_172 (dk_at dksX1_weight_0 8 rfl rfl)
abbrev cX1_boxWith : ByteArray := prog_1_method_9_code
def yX1_boxWith : MethodName := ⟨RX1, "boxWith", "(I)LQuaylock$Box;"⟩
def dkwX1_boxWith_0 : List UInt8 := [42, 27, 182, 0, 63, 184, 0, 67, 42, 180, 0, 22, 27, 50, 176]
abbrev dktX1_boxWith_0 : List UInt8 := dkwX1_boxWith_0 ++ []
theorem dksX1_boxWith_0 : cX1_boxWith.data.toList.drop 0 = dktX1_boxWith_0 := by decide +kernel
theorem dX1_boxWith_0 : decode cX1_boxWith 0 = .ok (.aload_n 0, 1) := dk_42 (dk_at dksX1_boxWith_0 0 rfl rfl)
theorem dX1_boxWith_1 : decode cX1_boxWith 1 = .ok (.iload_n 1, 1) := dk_27 (dk_at dksX1_boxWith_0 1 rfl rfl)
theorem dX1_boxWith_2 : decode cX1_boxWith 2 = .ok (.invokevirtual 63, 3) := dk_182 0 63 (dk_at dksX1_boxWith_0 2 rfl rfl)
theorem dX1_boxWith_5 : decode cX1_boxWith 5 = .ok (.invokestatic 67, 3) := dk_184 0 67 (dk_at dksX1_boxWith_0 5 rfl rfl)
theorem dX1_boxWith_8 : decode cX1_boxWith 8 = .ok (.aload_n 0, 1) := dk_42 (dk_at dksX1_boxWith_0 8 rfl rfl)
theorem dX1_boxWith_9 : decode cX1_boxWith 9 = .ok (.getfield 22, 3) := dk_180 0 22 (dk_at dksX1_boxWith_0 9 rfl rfl)
theorem dX1_boxWith_12 : decode cX1_boxWith 12 = .ok (.iload_n 1, 1) := dk_27 (dk_at dksX1_boxWith_0 12 rfl rfl)
theorem dX1_boxWith_13 : decode cX1_boxWith 13 = .ok (.aaload, 1) := dk_50 (dk_at dksX1_boxWith_0 13 rfl rfl)
theorem dX1_boxWith_14 : decode cX1_boxWith 14 = .ok (.areturn, 1) := dk_176 (dk_at dksX1_boxWith_0 14 rfl rfl)
abbrev cX1_stackOf : ByteArray := prog_1_method_16_code
def yX1_stackOf : MethodName := ⟨RX1, "stackOf", "(I)I"⟩
def dkwX1_stackOf_0 : List UInt8 := [42, 180, 0, 10, 42, 27, 182, 0, 104, 182, 0, 111, 172]
abbrev dktX1_stackOf_0 : List UInt8 := dkwX1_stackOf_0 ++ []
theorem dksX1_stackOf_0 : cX1_stackOf.data.toList.drop 0 = dktX1_stackOf_0 := by decide +kernel
theorem dX1_stackOf_0 : decode cX1_stackOf 0 = .ok (.aload_n 0, 1) := dk_42 (dk_at dksX1_stackOf_0 0 rfl rfl)
theorem dX1_stackOf_1 : decode cX1_stackOf 1 = .ok (.getfield 10, 3) := dk_180 0 10 (dk_at dksX1_stackOf_0 1 rfl rfl)
theorem dX1_stackOf_4 : decode cX1_stackOf 4 = .ok (.aload_n 0, 1) := dk_42 (dk_at dksX1_stackOf_0 4 rfl rfl)
theorem dX1_stackOf_5 : decode cX1_stackOf 5 = .ok (.iload_n 1, 1) := dk_27 (dk_at dksX1_stackOf_0 5 rfl rfl)
theorem dX1_stackOf_6 : decode cX1_stackOf 6 = .ok (.invokevirtual 104, 3) := dk_182 0 104 (dk_at dksX1_stackOf_0 6 rfl rfl)
theorem dX1_stackOf_9 : decode cX1_stackOf 9 = .ok (.invokevirtual 111, 3) := dk_182 0 111 (dk_at dksX1_stackOf_0 9 rfl rfl)
theorem dX1_stackOf_12 : decode cX1_stackOf 12 = .ok (.ireturn, 1) := dk_172 (dk_at dksX1_stackOf_0 12 rfl rfl)
abbrev cX1_level : ByteArray := prog_1_method_17_code
def yX1_level : MethodName := ⟨RX1, "level", "(I)I"⟩
def dkwX1_level_0 : List UInt8 := [42, 180, 0, 10, 42, 27, 182, 0, 104, 182, 0, 115, 172]
abbrev dktX1_level_0 : List UInt8 := dkwX1_level_0 ++ []
theorem dksX1_level_0 : cX1_level.data.toList.drop 0 = dktX1_level_0 := by decide +kernel
theorem dX1_level_0 : decode cX1_level 0 = .ok (.aload_n 0, 1) := dk_42 (dk_at dksX1_level_0 0 rfl rfl)
theorem dX1_level_1 : decode cX1_level 1 = .ok (.getfield 10, 3) := dk_180 0 10 (dk_at dksX1_level_0 1 rfl rfl)
theorem dX1_level_4 : decode cX1_level 4 = .ok (.aload_n 0, 1) := dk_42 (dk_at dksX1_level_0 4 rfl rfl)
theorem dX1_level_5 : decode cX1_level 5 = .ok (.iload_n 1, 1) := dk_27 (dk_at dksX1_level_0 5 rfl rfl)
theorem dX1_level_6 : decode cX1_level 6 = .ok (.invokevirtual 104, 3) := dk_182 0 104 (dk_at dksX1_level_0 6 rfl rfl)
theorem dX1_level_9 : decode cX1_level 9 = .ok (.invokevirtual 115, 3) := dk_182 0 115 (dk_at dksX1_level_0 9 rfl rfl)
theorem dX1_level_12 : decode cX1_level 12 = .ok (.ireturn, 1) := dk_172 (dk_at dksX1_level_0 12 rfl rfl)
abbrev cX1_above : ByteArray := prog_1_method_18_code
def yX1_above : MethodName := ⟨RX1, "above", "(I)I"⟩
def dkwX1_above_0 : List UInt8 := [42, 180, 0, 10, 42, 27, 182, 0, 104, 182, 0, 118, 172]
abbrev dktX1_above_0 : List UInt8 := dkwX1_above_0 ++ []
theorem dksX1_above_0 : cX1_above.data.toList.drop 0 = dktX1_above_0 := by decide +kernel
theorem dX1_above_0 : decode cX1_above 0 = .ok (.aload_n 0, 1) := dk_42 (dk_at dksX1_above_0 0 rfl rfl)
theorem dX1_above_1 : decode cX1_above 1 = .ok (.getfield 10, 3) := dk_180 0 10 (dk_at dksX1_above_0 1 rfl rfl)
theorem dX1_above_4 : decode cX1_above 4 = .ok (.aload_n 0, 1) := dk_42 (dk_at dksX1_above_0 4 rfl rfl)
theorem dX1_above_5 : decode cX1_above 5 = .ok (.iload_n 1, 1) := dk_27 (dk_at dksX1_above_0 5 rfl rfl)
theorem dX1_above_6 : decode cX1_above 6 = .ok (.invokevirtual 104, 3) := dk_182 0 104 (dk_at dksX1_above_0 6 rfl rfl)
theorem dX1_above_9 : decode cX1_above 9 = .ok (.invokevirtual 118, 3) := dk_182 0 118 (dk_at dksX1_above_0 9 rfl rfl)
theorem dX1_above_12 : decode cX1_above 12 = .ok (.ireturn, 1) := dk_172 (dk_at dksX1_above_0 12 rfl rfl)
abbrev cX1_height : ByteArray := prog_1_method_19_code
def yX1_height : MethodName := ⟨RX1, "height", "(I)I"⟩
def dkwX1_height_0 : List UInt8 := [42, 27, 182, 0, 80, 42, 180, 0, 10, 180, 0, 121, 27, 46, 172]
abbrev dktX1_height_0 : List UInt8 := dkwX1_height_0 ++ []
theorem dksX1_height_0 : cX1_height.data.toList.drop 0 = dktX1_height_0 := by decide +kernel
theorem dX1_height_0 : decode cX1_height 0 = .ok (.aload_n 0, 1) := dk_42 (dk_at dksX1_height_0 0 rfl rfl)
theorem dX1_height_1 : decode cX1_height 1 = .ok (.iload_n 1, 1) := dk_27 (dk_at dksX1_height_0 1 rfl rfl)
theorem dX1_height_2 : decode cX1_height 2 = .ok (.invokevirtual 80, 3) := dk_182 0 80 (dk_at dksX1_height_0 2 rfl rfl)
theorem dX1_height_5 : decode cX1_height 5 = .ok (.aload_n 0, 1) := dk_42 (dk_at dksX1_height_0 5 rfl rfl)
theorem dX1_height_6 : decode cX1_height 6 = .ok (.getfield 10, 3) := dk_180 0 10 (dk_at dksX1_height_0 6 rfl rfl)
theorem dX1_height_9 : decode cX1_height 9 = .ok (.getfield 121, 3) := dk_180 0 121 (dk_at dksX1_height_0 9 rfl rfl)
theorem dX1_height_12 : decode cX1_height 12 = .ok (.iload_n 1, 1) := dk_27 (dk_at dksX1_height_0 12 rfl rfl)
theorem dX1_height_13 : decode cX1_height 13 = .ok (.iaload, 1) := dk_46 (dk_at dksX1_height_0 13 rfl rfl)
theorem dX1_height_14 : decode cX1_height 14 = .ok (.ireturn, 1) := dk_172 (dk_at dksX1_height_0 14 rfl rfl)
abbrev cX1_boxAt : ByteArray := prog_1_method_20_code
def yX1_boxAt : MethodName := ⟨RX1, "boxAt", "(II)I"⟩
def dkwX1_boxAt_1 : List UInt8 := [42, 180, 0, 10, 27, 28, 182, 0, 127, 180, 0, 101, 172]
abbrev dktX1_boxAt_1 : List UInt8 := dkwX1_boxAt_1 ++ []
def dkwX1_boxAt_0 : List UInt8 := [42, 27, 182, 0, 80, 28, 3, 42, 180, 0, 10, 180, 0, 121, 27, 46, 4, 100, 184, 0, 59, 184, 0, 124]
abbrev dktX1_boxAt_0 : List UInt8 := dkwX1_boxAt_0 ++ dktX1_boxAt_1
theorem dksX1_boxAt_0 : cX1_boxAt.data.toList.drop 0 = dktX1_boxAt_0 := by decide +kernel
theorem dksX1_boxAt_1 : cX1_boxAt.data.toList.drop 24 = dktX1_boxAt_1 := dk_seg dksX1_boxAt_0 24 rfl rfl
theorem dX1_boxAt_0 : decode cX1_boxAt 0 = .ok (.aload_n 0, 1) := dk_42 (dk_at dksX1_boxAt_0 0 rfl rfl)
theorem dX1_boxAt_1 : decode cX1_boxAt 1 = .ok (.iload_n 1, 1) := dk_27 (dk_at dksX1_boxAt_0 1 rfl rfl)
theorem dX1_boxAt_2 : decode cX1_boxAt 2 = .ok (.invokevirtual 80, 3) := dk_182 0 80 (dk_at dksX1_boxAt_0 2 rfl rfl)
theorem dX1_boxAt_5 : decode cX1_boxAt 5 = .ok (.iload_n 2, 1) := dk_28 (dk_at dksX1_boxAt_0 5 rfl rfl)
theorem dX1_boxAt_6 : decode cX1_boxAt 6 = .ok (.iconst 0, 1) := dk_3 (dk_at dksX1_boxAt_0 6 rfl rfl)
theorem dX1_boxAt_7 : decode cX1_boxAt 7 = .ok (.aload_n 0, 1) := dk_42 (dk_at dksX1_boxAt_0 7 rfl rfl)
theorem dX1_boxAt_8 : decode cX1_boxAt 8 = .ok (.getfield 10, 3) := dk_180 0 10 (dk_at dksX1_boxAt_0 8 rfl rfl)
theorem dX1_boxAt_11 : decode cX1_boxAt 11 = .ok (.getfield 121, 3) := dk_180 0 121 (dk_at dksX1_boxAt_0 11 rfl rfl)
theorem dX1_boxAt_14 : decode cX1_boxAt 14 = .ok (.iload_n 1, 1) := dk_27 (dk_at dksX1_boxAt_0 14 rfl rfl)
theorem dX1_boxAt_15 : decode cX1_boxAt 15 = .ok (.iaload, 1) := dk_46 (dk_at dksX1_boxAt_0 15 rfl rfl)
theorem dX1_boxAt_16 : decode cX1_boxAt 16 = .ok (.iconst 1, 1) := dk_4 (dk_at dksX1_boxAt_0 16 rfl rfl)
theorem dX1_boxAt_17 : decode cX1_boxAt 17 = .ok (.isub, 1) := dk_100 (dk_at dksX1_boxAt_0 17 rfl rfl)
theorem dX1_boxAt_18 : decode cX1_boxAt 18 = .ok (.invokestatic 59, 3) := dk_184 0 59 (dk_at dksX1_boxAt_0 18 rfl rfl)
theorem dX1_boxAt_21 : decode cX1_boxAt 21 = .ok (.invokestatic 124, 3) := dk_184 0 124 (dk_at dksX1_boxAt_0 21 rfl rfl)
theorem dX1_boxAt_24 : decode cX1_boxAt 24 = .ok (.aload_n 0, 1) := dk_42 (dk_at dksX1_boxAt_1 0 rfl rfl)
theorem dX1_boxAt_25 : decode cX1_boxAt 25 = .ok (.getfield 10, 3) := dk_180 0 10 (dk_at dksX1_boxAt_1 1 rfl rfl)
theorem dX1_boxAt_28 : decode cX1_boxAt 28 = .ok (.iload_n 1, 1) := dk_27 (dk_at dksX1_boxAt_1 4 rfl rfl)
theorem dX1_boxAt_29 : decode cX1_boxAt 29 = .ok (.iload_n 2, 1) := dk_28 (dk_at dksX1_boxAt_1 5 rfl rfl)
theorem dX1_boxAt_30 : decode cX1_boxAt 30 = .ok (.invokevirtual 127, 3) := dk_182 0 127 (dk_at dksX1_boxAt_1 6 rfl rfl)
theorem dX1_boxAt_33 : decode cX1_boxAt 33 = .ok (.getfield 101, 3) := dk_180 0 101 (dk_at dksX1_boxAt_1 9 rfl rfl)
theorem dX1_boxAt_36 : decode cX1_boxAt 36 = .ok (.ireturn, 1) := dk_172 (dk_at dksX1_boxAt_1 12 rfl rfl)
abbrev cX1_checkElement : ByteArray := prog_1_method_5_code
def yX1_checkElement : MethodName := ⟨RX1, "checkElement", "(Z)V"⟩
def dkwX1_checkElement_0 : List UInt8 := [26, 154, 0, 11, 187, 0, 46, 89, 183, 0, 48, 191, 177]
abbrev dktX1_checkElement_0 : List UInt8 := dkwX1_checkElement_0 ++ []
theorem dksX1_checkElement_0 : cX1_checkElement.data.toList.drop 0 = dktX1_checkElement_0 := by decide +kernel
theorem dX1_checkElement_0 : decode cX1_checkElement 0 = .ok (.iload_n 0, 1) := dk_26 (dk_at dksX1_checkElement_0 0 rfl rfl)
theorem dX1_checkElement_1 : decode cX1_checkElement 1 = .ok (.ifCond .ne 11, 3) := dk_154 0 11 (dk_at dksX1_checkElement_0 1 rfl rfl)
theorem dX1_checkElement_4 : decode cX1_checkElement 4 = .ok (.new 46, 3) := dk_187 0 46 (dk_at dksX1_checkElement_0 4 rfl rfl)
theorem dX1_checkElement_7 : decode cX1_checkElement 7 = .ok (.dup, 1) := dk_89 (dk_at dksX1_checkElement_0 7 rfl rfl)
theorem dX1_checkElement_8 : decode cX1_checkElement 8 = .ok (.invokespecial 48, 3) := dk_183 0 48 (dk_at dksX1_checkElement_0 8 rfl rfl)
theorem dX1_checkElement_11 : decode cX1_checkElement 11 = .ok (.athrow, 1) := dk_191 (dk_at dksX1_checkElement_0 11 rfl rfl)
theorem dX1_checkElement_12 : decode cX1_checkElement 12 = .ok (.return_, 1) := dk_177 (dk_at dksX1_checkElement_0 12 rfl rfl)
abbrev cX1_hold : ByteArray := prog_1_method_23_code
def yX1_hold : MethodName := ⟨RX1, "hold", "(ICI)I"⟩
def dkwX1_hold_3 : List UInt8 := [180, 0, 157, 180, 0, 178, 182, 0, 183, 154, 0, 5, 3, 172, 42, 25, 5, 16, 103, 182, 0, 186, 4, 172]
abbrev dktX1_hold_3 : List UInt8 := dkwX1_hold_3 ++ []
def dkwX1_hold_2 : List UInt8 := [25, 4, 29, 181, 0, 171, 42, 25, 4, 182, 0, 174, 58, 5, 25, 5, 198, 0, 19, 25, 4, 25, 5]
abbrev dktX1_hold_2 : List UInt8 := dkwX1_hold_2 ++ dktX1_hold_3
def dkwX1_hold_1 : List UInt8 := [164, 0, 14, 29, 17, 3, 232, 163, 0, 7, 4, 167, 0, 4, 3, 184, 0, 74, 25, 4, 28, 181, 0, 168]
abbrev dktX1_hold_1 : List UInt8 := dkwX1_hold_1 ++ dktX1_hold_2
def dkwX1_hold_0 : List UInt8 := [42, 27, 182, 0, 104, 58, 4, 28, 16, 112, 159, 0, 9, 28, 16, 108, 160, 0, 22, 29, 42, 180, 0, 165]
abbrev dktX1_hold_0 : List UInt8 := dkwX1_hold_0 ++ dktX1_hold_1
theorem dksX1_hold_0 : cX1_hold.data.toList.drop 0 = dktX1_hold_0 := by decide +kernel
theorem dksX1_hold_1 : cX1_hold.data.toList.drop 24 = dktX1_hold_1 := dk_seg dksX1_hold_0 24 rfl rfl
theorem dksX1_hold_2 : cX1_hold.data.toList.drop 48 = dktX1_hold_2 := dk_seg dksX1_hold_1 24 rfl rfl
theorem dksX1_hold_3 : cX1_hold.data.toList.drop 71 = dktX1_hold_3 := dk_seg dksX1_hold_2 23 rfl rfl
theorem dX1_hold_0 : decode cX1_hold 0 = .ok (.aload_n 0, 1) := dk_42 (dk_at dksX1_hold_0 0 rfl rfl)
theorem dX1_hold_1 : decode cX1_hold 1 = .ok (.iload_n 1, 1) := dk_27 (dk_at dksX1_hold_0 1 rfl rfl)
theorem dX1_hold_2 : decode cX1_hold 2 = .ok (.invokevirtual 104, 3) := dk_182 0 104 (dk_at dksX1_hold_0 2 rfl rfl)
theorem dX1_hold_5 : decode cX1_hold 5 = .ok (.astore 4, 2) := dk_58 4 (dk_at dksX1_hold_0 5 rfl rfl)
theorem dX1_hold_7 : decode cX1_hold 7 = .ok (.iload_n 2, 1) := dk_28 (dk_at dksX1_hold_0 7 rfl rfl)
theorem dX1_hold_8 : decode cX1_hold 8 = .ok (.bipush 112, 2) := dk_16 112 (dk_at dksX1_hold_0 8 rfl rfl)
theorem dX1_hold_10 : decode cX1_hold 10 = .ok (.if_icmp .eq 9, 3) := dk_159 0 9 (dk_at dksX1_hold_0 10 rfl rfl)
theorem dX1_hold_13 : decode cX1_hold 13 = .ok (.iload_n 2, 1) := dk_28 (dk_at dksX1_hold_0 13 rfl rfl)
theorem dX1_hold_14 : decode cX1_hold 14 = .ok (.bipush 108, 2) := dk_16 108 (dk_at dksX1_hold_0 14 rfl rfl)
theorem dX1_hold_16 : decode cX1_hold 16 = .ok (.if_icmp .ne 22, 3) := dk_160 0 22 (dk_at dksX1_hold_0 16 rfl rfl)
theorem dX1_hold_19 : decode cX1_hold 19 = .ok (.iload_n 3, 1) := dk_29 (dk_at dksX1_hold_0 19 rfl rfl)
theorem dX1_hold_20 : decode cX1_hold 20 = .ok (.aload_n 0, 1) := dk_42 (dk_at dksX1_hold_0 20 rfl rfl)
theorem dX1_hold_21 : decode cX1_hold 21 = .ok (.getfield 165, 3) := dk_180 0 165 (dk_at dksX1_hold_0 21 rfl rfl)
theorem dX1_hold_24 : decode cX1_hold 24 = .ok (.if_icmp .le 14, 3) := dk_164 0 14 (dk_at dksX1_hold_1 0 rfl rfl)
theorem dX1_hold_27 : decode cX1_hold 27 = .ok (.iload_n 3, 1) := dk_29 (dk_at dksX1_hold_1 3 rfl rfl)
theorem dX1_hold_28 : decode cX1_hold 28 = .ok (.sipush 1000, 3) := dk_17 3 232 (dk_at dksX1_hold_1 4 rfl rfl)
theorem dX1_hold_31 : decode cX1_hold 31 = .ok (.if_icmp .gt 7, 3) := dk_163 0 7 (dk_at dksX1_hold_1 7 rfl rfl)
theorem dX1_hold_34 : decode cX1_hold 34 = .ok (.iconst 1, 1) := dk_4 (dk_at dksX1_hold_1 10 rfl rfl)
theorem dX1_hold_35 : decode cX1_hold 35 = .ok (.goto 4, 3) := dk_167 0 4 (dk_at dksX1_hold_1 11 rfl rfl)
theorem dX1_hold_38 : decode cX1_hold 38 = .ok (.iconst 0, 1) := dk_3 (dk_at dksX1_hold_1 14 rfl rfl)
theorem dX1_hold_39 : decode cX1_hold 39 = .ok (.invokestatic 74, 3) := dk_184 0 74 (dk_at dksX1_hold_1 15 rfl rfl)
theorem dX1_hold_42 : decode cX1_hold 42 = .ok (.aload 4, 2) := dk_25 4 (dk_at dksX1_hold_1 18 rfl rfl)
theorem dX1_hold_44 : decode cX1_hold 44 = .ok (.iload_n 2, 1) := dk_28 (dk_at dksX1_hold_1 20 rfl rfl)
theorem dX1_hold_45 : decode cX1_hold 45 = .ok (.putfield 168, 3) := dk_181 0 168 (dk_at dksX1_hold_1 21 rfl rfl)
theorem dX1_hold_48 : decode cX1_hold 48 = .ok (.aload 4, 2) := dk_25 4 (dk_at dksX1_hold_2 0 rfl rfl)
theorem dX1_hold_50 : decode cX1_hold 50 = .ok (.iload_n 3, 1) := dk_29 (dk_at dksX1_hold_2 2 rfl rfl)
theorem dX1_hold_51 : decode cX1_hold 51 = .ok (.putfield 171, 3) := dk_181 0 171 (dk_at dksX1_hold_2 3 rfl rfl)
theorem dX1_hold_54 : decode cX1_hold 54 = .ok (.aload_n 0, 1) := dk_42 (dk_at dksX1_hold_2 6 rfl rfl)
theorem dX1_hold_55 : decode cX1_hold 55 = .ok (.aload 4, 2) := dk_25 4 (dk_at dksX1_hold_2 7 rfl rfl)
theorem dX1_hold_57 : decode cX1_hold 57 = .ok (.invokevirtual 174, 3) := dk_182 0 174 (dk_at dksX1_hold_2 9 rfl rfl)
theorem dX1_hold_60 : decode cX1_hold 60 = .ok (.astore 5, 2) := dk_58 5 (dk_at dksX1_hold_2 12 rfl rfl)
theorem dX1_hold_62 : decode cX1_hold 62 = .ok (.aload 5, 2) := dk_25 5 (dk_at dksX1_hold_2 14 rfl rfl)
theorem dX1_hold_64 : decode cX1_hold 64 = .ok (.ifnull 19, 3) := dk_198 0 19 (dk_at dksX1_hold_2 16 rfl rfl)
theorem dX1_hold_67 : decode cX1_hold 67 = .ok (.aload 4, 2) := dk_25 4 (dk_at dksX1_hold_2 19 rfl rfl)
theorem dX1_hold_69 : decode cX1_hold 69 = .ok (.aload 5, 2) := dk_25 5 (dk_at dksX1_hold_2 21 rfl rfl)
theorem dX1_hold_71 : decode cX1_hold 71 = .ok (.getfield 157, 3) := dk_180 0 157 (dk_at dksX1_hold_3 0 rfl rfl)
theorem dX1_hold_74 : decode cX1_hold 74 = .ok (.getfield 178, 3) := dk_180 0 178 (dk_at dksX1_hold_3 3 rfl rfl)
theorem dX1_hold_77 : decode cX1_hold 77 = .ok (.invokevirtual 183, 3) := dk_182 0 183 (dk_at dksX1_hold_3 6 rfl rfl)
theorem dX1_hold_80 : decode cX1_hold 80 = .ok (.ifCond .ne 5, 3) := dk_154 0 5 (dk_at dksX1_hold_3 9 rfl rfl)
theorem dX1_hold_83 : decode cX1_hold 83 = .ok (.iconst 0, 1) := dk_3 (dk_at dksX1_hold_3 12 rfl rfl)
theorem dX1_hold_84 : decode cX1_hold 84 = .ok (.ireturn, 1) := dk_172 (dk_at dksX1_hold_3 13 rfl rfl)
theorem dX1_hold_85 : decode cX1_hold 85 = .ok (.aload_n 0, 1) := dk_42 (dk_at dksX1_hold_3 14 rfl rfl)
theorem dX1_hold_86 : decode cX1_hold 86 = .ok (.aload 5, 2) := dk_25 5 (dk_at dksX1_hold_3 15 rfl rfl)
theorem dX1_hold_88 : decode cX1_hold 88 = .ok (.bipush 103, 2) := dk_16 103 (dk_at dksX1_hold_3 17 rfl rfl)
theorem dX1_hold_90 : decode cX1_hold 90 = .ok (.invokevirtual 186, 3) := dk_182 0 186 (dk_at dksX1_hold_3 19 rfl rfl)
theorem dX1_hold_93 : decode cX1_hold 93 = .ok (.iconst 1, 1) := dk_4 (dk_at dksX1_hold_3 22 rfl rfl)
theorem dX1_hold_94 : decode cX1_hold 94 = .ok (.ireturn, 1) := dk_172 (dk_at dksX1_hold_3 23 rfl rfl)
abbrev cX1_bookedFor : ByteArray := prog_1_method_21_code
def yX1_bookedFor : MethodName := ⟨RX1, "bookedFor", "(LQuaylock$Box;)LQuaylock$Appointment;"⟩
def dkwX1_bookedFor_2 : List UInt8 := [16, 98, 160, 0, 8, 25, 4, 167, 0, 4, 44, 77, 167, 255, 210, 44, 176]
abbrev dktX1_bookedFor_2 : List UInt8 := dkwX1_bookedFor_2 ++ []
def dkwX1_bookedFor_1 : List UInt8 := [185, 0, 143, 1, 0, 192, 0, 147, 58, 4, 25, 4, 180, 0, 149, 43, 166, 0, 18, 25, 4, 180, 0, 153]
abbrev dktX1_bookedFor_1 : List UInt8 := dkwX1_bookedFor_1 ++ dktX1_bookedFor_2
def dkwX1_bookedFor_0 : List UInt8 := [1, 77, 42, 180, 0, 29, 185, 0, 131, 1, 0, 78, 45, 185, 0, 137, 1, 0, 153, 0, 43, 45]
abbrev dktX1_bookedFor_0 : List UInt8 := dkwX1_bookedFor_0 ++ dktX1_bookedFor_1
theorem dksX1_bookedFor_0 : cX1_bookedFor.data.toList.drop 0 = dktX1_bookedFor_0 := by decide +kernel
theorem dksX1_bookedFor_1 : cX1_bookedFor.data.toList.drop 22 = dktX1_bookedFor_1 := dk_seg dksX1_bookedFor_0 22 rfl rfl
theorem dksX1_bookedFor_2 : cX1_bookedFor.data.toList.drop 46 = dktX1_bookedFor_2 := dk_seg dksX1_bookedFor_1 24 rfl rfl
theorem dX1_bookedFor_0 : decode cX1_bookedFor 0 = .ok (.aconst_null, 1) := dk_1 (dk_at dksX1_bookedFor_0 0 rfl rfl)
theorem dX1_bookedFor_1 : decode cX1_bookedFor 1 = .ok (.astore_n 2, 1) := dk_77 (dk_at dksX1_bookedFor_0 1 rfl rfl)
theorem dX1_bookedFor_2 : decode cX1_bookedFor 2 = .ok (.aload_n 0, 1) := dk_42 (dk_at dksX1_bookedFor_0 2 rfl rfl)
theorem dX1_bookedFor_3 : decode cX1_bookedFor 3 = .ok (.getfield 29, 3) := dk_180 0 29 (dk_at dksX1_bookedFor_0 3 rfl rfl)
theorem dX1_bookedFor_6 : decode cX1_bookedFor 6 = .ok (.invokeinterface 131 1, 5) := by decide +kernel
theorem dX1_bookedFor_11 : decode cX1_bookedFor 11 = .ok (.astore_n 3, 1) := dk_78 (dk_at dksX1_bookedFor_0 11 rfl rfl)
theorem dX1_bookedFor_12 : decode cX1_bookedFor 12 = .ok (.aload_n 3, 1) := dk_45 (dk_at dksX1_bookedFor_0 12 rfl rfl)
theorem dX1_bookedFor_13 : decode cX1_bookedFor 13 = .ok (.invokeinterface 137 1, 5) := by decide +kernel
theorem dX1_bookedFor_18 : decode cX1_bookedFor 18 = .ok (.ifCond .eq 43, 3) := dk_153 0 43 (dk_at dksX1_bookedFor_0 18 rfl rfl)
theorem dX1_bookedFor_21 : decode cX1_bookedFor 21 = .ok (.aload_n 3, 1) := dk_45 (dk_at dksX1_bookedFor_0 21 rfl rfl)
theorem dX1_bookedFor_22 : decode cX1_bookedFor 22 = .ok (.invokeinterface 143 1, 5) := by decide +kernel
theorem dX1_bookedFor_27 : decode cX1_bookedFor 27 = .ok (.checkcast 147, 3) := dk_192 0 147 (dk_at dksX1_bookedFor_1 5 rfl rfl)
theorem dX1_bookedFor_30 : decode cX1_bookedFor 30 = .ok (.astore 4, 2) := dk_58 4 (dk_at dksX1_bookedFor_1 8 rfl rfl)
theorem dX1_bookedFor_32 : decode cX1_bookedFor 32 = .ok (.aload 4, 2) := dk_25 4 (dk_at dksX1_bookedFor_1 10 rfl rfl)
theorem dX1_bookedFor_34 : decode cX1_bookedFor 34 = .ok (.getfield 149, 3) := dk_180 0 149 (dk_at dksX1_bookedFor_1 12 rfl rfl)
theorem dX1_bookedFor_37 : decode cX1_bookedFor 37 = .ok (.aload_n 1, 1) := dk_43 (dk_at dksX1_bookedFor_1 15 rfl rfl)
theorem dX1_bookedFor_38 : decode cX1_bookedFor 38 = .ok (.if_acmp .ne 18, 3) := dk_166 0 18 (dk_at dksX1_bookedFor_1 16 rfl rfl)
theorem dX1_bookedFor_41 : decode cX1_bookedFor 41 = .ok (.aload 4, 2) := dk_25 4 (dk_at dksX1_bookedFor_1 19 rfl rfl)
theorem dX1_bookedFor_43 : decode cX1_bookedFor 43 = .ok (.getfield 153, 3) := dk_180 0 153 (dk_at dksX1_bookedFor_1 21 rfl rfl)
theorem dX1_bookedFor_46 : decode cX1_bookedFor 46 = .ok (.bipush 98, 2) := dk_16 98 (dk_at dksX1_bookedFor_2 0 rfl rfl)
theorem dX1_bookedFor_48 : decode cX1_bookedFor 48 = .ok (.if_icmp .ne 8, 3) := dk_160 0 8 (dk_at dksX1_bookedFor_2 2 rfl rfl)
theorem dX1_bookedFor_51 : decode cX1_bookedFor 51 = .ok (.aload 4, 2) := dk_25 4 (dk_at dksX1_bookedFor_2 5 rfl rfl)
theorem dX1_bookedFor_53 : decode cX1_bookedFor 53 = .ok (.goto 4, 3) := dk_167 0 4 (dk_at dksX1_bookedFor_2 7 rfl rfl)
theorem dX1_bookedFor_56 : decode cX1_bookedFor 56 = .ok (.aload_n 2, 1) := dk_44 (dk_at dksX1_bookedFor_2 10 rfl rfl)
theorem dX1_bookedFor_57 : decode cX1_bookedFor 57 = .ok (.astore_n 2, 1) := dk_77 (dk_at dksX1_bookedFor_2 11 rfl rfl)
theorem dX1_bookedFor_58 : decode cX1_bookedFor 58 = .ok (.goto (-46), 3) := dk_167 255 210 (dk_at dksX1_bookedFor_2 12 rfl rfl)
theorem dX1_bookedFor_61 : decode cX1_bookedFor 61 = .ok (.aload_n 2, 1) := dk_44 (dk_at dksX1_bookedFor_2 15 rfl rfl)
theorem dX1_bookedFor_62 : decode cX1_bookedFor 62 = .ok (.areturn, 1) := dk_176 (dk_at dksX1_bookedFor_2 16 rfl rfl)
abbrev cX1_end : ByteArray := prog_1_method_22_code
def yX1_end : MethodName := ⟨RX1, "end", "(LQuaylock$Appointment;C)V"⟩
def dkwX1_end_0 : List UInt8 := [43, 28, 181, 0, 153, 42, 180, 0, 36, 43, 180, 0, 157, 182, 0, 161, 87, 177]
abbrev dktX1_end_0 : List UInt8 := dkwX1_end_0 ++ []
theorem dksX1_end_0 : cX1_end.data.toList.drop 0 = dktX1_end_0 := by decide +kernel
theorem dX1_end_0 : decode cX1_end 0 = .ok (.aload_n 1, 1) := dk_43 (dk_at dksX1_end_0 0 rfl rfl)
theorem dX1_end_1 : decode cX1_end 1 = .ok (.iload_n 2, 1) := dk_28 (dk_at dksX1_end_0 1 rfl rfl)
theorem dX1_end_2 : decode cX1_end 2 = .ok (.putfield 153, 3) := dk_181 0 153 (dk_at dksX1_end_0 2 rfl rfl)
theorem dX1_end_5 : decode cX1_end 5 = .ok (.aload_n 0, 1) := dk_42 (dk_at dksX1_end_0 5 rfl rfl)
theorem dX1_end_6 : decode cX1_end 6 = .ok (.getfield 36, 3) := dk_180 0 36 (dk_at dksX1_end_0 6 rfl rfl)
theorem dX1_end_9 : decode cX1_end 9 = .ok (.aload_n 1, 1) := dk_43 (dk_at dksX1_end_0 9 rfl rfl)
theorem dX1_end_10 : decode cX1_end 10 = .ok (.getfield 157, 3) := dk_180 0 157 (dk_at dksX1_end_0 10 rfl rfl)
theorem dX1_end_13 : decode cX1_end 13 = .ok (.invokevirtual 161, 3) := dk_182 0 161 (dk_at dksX1_end_0 13 rfl rfl)
theorem dX1_end_16 : decode cX1_end 16 = .ok (.pop, 1) := dk_87 (dk_at dksX1_end_0 16 rfl rfl)
theorem dX1_end_17 : decode cX1_end 17 = .ok (.return_, 1) := dk_177 (dk_at dksX1_end_0 17 rfl rfl)
abbrev cX1_release : ByteArray := prog_1_method_24_code
def yX1_release : MethodName := ⟨RX1, "release", "(I)I"⟩
def dkwX1_release_1 : List UInt8 := [16, 45, 181, 0, 168, 44, 180, 0, 171, 172]
abbrev dktX1_release_1 : List UInt8 := dkwX1_release_1 ++ []
def dkwX1_release_0 : List UInt8 := [42, 27, 182, 0, 104, 77, 44, 180, 0, 168, 16, 45, 159, 0, 7, 4, 167, 0, 4, 3, 184, 0, 77, 44]
abbrev dktX1_release_0 : List UInt8 := dkwX1_release_0 ++ dktX1_release_1
theorem dksX1_release_0 : cX1_release.data.toList.drop 0 = dktX1_release_0 := by decide +kernel
theorem dksX1_release_1 : cX1_release.data.toList.drop 24 = dktX1_release_1 := dk_seg dksX1_release_0 24 rfl rfl
theorem dX1_release_0 : decode cX1_release 0 = .ok (.aload_n 0, 1) := dk_42 (dk_at dksX1_release_0 0 rfl rfl)
theorem dX1_release_1 : decode cX1_release 1 = .ok (.iload_n 1, 1) := dk_27 (dk_at dksX1_release_0 1 rfl rfl)
theorem dX1_release_2 : decode cX1_release 2 = .ok (.invokevirtual 104, 3) := dk_182 0 104 (dk_at dksX1_release_0 2 rfl rfl)
theorem dX1_release_5 : decode cX1_release 5 = .ok (.astore_n 2, 1) := dk_77 (dk_at dksX1_release_0 5 rfl rfl)
theorem dX1_release_6 : decode cX1_release 6 = .ok (.aload_n 2, 1) := dk_44 (dk_at dksX1_release_0 6 rfl rfl)
theorem dX1_release_7 : decode cX1_release 7 = .ok (.getfield 168, 3) := dk_180 0 168 (dk_at dksX1_release_0 7 rfl rfl)
theorem dX1_release_10 : decode cX1_release 10 = .ok (.bipush 45, 2) := dk_16 45 (dk_at dksX1_release_0 10 rfl rfl)
theorem dX1_release_12 : decode cX1_release 12 = .ok (.if_icmp .eq 7, 3) := dk_159 0 7 (dk_at dksX1_release_0 12 rfl rfl)
theorem dX1_release_15 : decode cX1_release 15 = .ok (.iconst 1, 1) := dk_4 (dk_at dksX1_release_0 15 rfl rfl)
theorem dX1_release_16 : decode cX1_release 16 = .ok (.goto 4, 3) := dk_167 0 4 (dk_at dksX1_release_0 16 rfl rfl)
theorem dX1_release_19 : decode cX1_release 19 = .ok (.iconst 0, 1) := dk_3 (dk_at dksX1_release_0 19 rfl rfl)
theorem dX1_release_20 : decode cX1_release 20 = .ok (.invokestatic 77, 3) := dk_184 0 77 (dk_at dksX1_release_0 20 rfl rfl)
theorem dX1_release_23 : decode cX1_release 23 = .ok (.aload_n 2, 1) := dk_44 (dk_at dksX1_release_0 23 rfl rfl)
theorem dX1_release_24 : decode cX1_release 24 = .ok (.bipush 45, 2) := dk_16 45 (dk_at dksX1_release_1 0 rfl rfl)
theorem dX1_release_26 : decode cX1_release 26 = .ok (.putfield 168, 3) := dk_181 0 168 (dk_at dksX1_release_1 2 rfl rfl)
theorem dX1_release_29 : decode cX1_release 29 = .ok (.aload_n 2, 1) := dk_44 (dk_at dksX1_release_1 5 rfl rfl)
theorem dX1_release_30 : decode cX1_release 30 = .ok (.getfield 171, 3) := dk_180 0 171 (dk_at dksX1_release_1 6 rfl rfl)
theorem dX1_release_33 : decode cX1_release 33 = .ok (.ireturn, 1) := dk_172 (dk_at dksX1_release_1 9 rfl rfl)
abbrev cX1_holdOf : ByteArray := prog_1_method_25_code
def yX1_holdOf : MethodName := ⟨RX1, "holdOf", "(I)C"⟩
def dkwX1_holdOf_0 : List UInt8 := [42, 27, 182, 0, 104, 180, 0, 168, 172]
abbrev dktX1_holdOf_0 : List UInt8 := dkwX1_holdOf_0 ++ []
theorem dksX1_holdOf_0 : cX1_holdOf.data.toList.drop 0 = dktX1_holdOf_0 := by decide +kernel
theorem dX1_holdOf_0 : decode cX1_holdOf 0 = .ok (.aload_n 0, 1) := dk_42 (dk_at dksX1_holdOf_0 0 rfl rfl)
theorem dX1_holdOf_1 : decode cX1_holdOf 1 = .ok (.iload_n 1, 1) := dk_27 (dk_at dksX1_holdOf_0 1 rfl rfl)
theorem dX1_holdOf_2 : decode cX1_holdOf 2 = .ok (.invokevirtual 104, 3) := dk_182 0 104 (dk_at dksX1_holdOf_0 2 rfl rfl)
theorem dX1_holdOf_5 : decode cX1_holdOf 5 = .ok (.getfield 168, 3) := dk_180 0 168 (dk_at dksX1_holdOf_0 5 rfl rfl)
theorem dX1_holdOf_8 : decode cX1_holdOf 8 = .ok (.ireturn, 1) := dk_172 (dk_at dksX1_holdOf_0 8 rfl rfl)
abbrev cX1_heldUntil : ByteArray := prog_1_method_26_code
def yX1_heldUntil : MethodName := ⟨RX1, "heldUntil", "(I)I"⟩
def dkwX1_heldUntil_1 : List UInt8 := [180, 0, 171, 172]
abbrev dktX1_heldUntil_1 : List UInt8 := dkwX1_heldUntil_1 ++ []
def dkwX1_heldUntil_0 : List UInt8 := [42, 27, 182, 0, 104, 77, 44, 180, 0, 168, 16, 45, 159, 0, 7, 4, 167, 0, 4, 3, 184, 0, 124, 44]
abbrev dktX1_heldUntil_0 : List UInt8 := dkwX1_heldUntil_0 ++ dktX1_heldUntil_1
theorem dksX1_heldUntil_0 : cX1_heldUntil.data.toList.drop 0 = dktX1_heldUntil_0 := by decide +kernel
theorem dksX1_heldUntil_1 : cX1_heldUntil.data.toList.drop 24 = dktX1_heldUntil_1 := dk_seg dksX1_heldUntil_0 24 rfl rfl
theorem dX1_heldUntil_0 : decode cX1_heldUntil 0 = .ok (.aload_n 0, 1) := dk_42 (dk_at dksX1_heldUntil_0 0 rfl rfl)
theorem dX1_heldUntil_1 : decode cX1_heldUntil 1 = .ok (.iload_n 1, 1) := dk_27 (dk_at dksX1_heldUntil_0 1 rfl rfl)
theorem dX1_heldUntil_2 : decode cX1_heldUntil 2 = .ok (.invokevirtual 104, 3) := dk_182 0 104 (dk_at dksX1_heldUntil_0 2 rfl rfl)
theorem dX1_heldUntil_5 : decode cX1_heldUntil 5 = .ok (.astore_n 2, 1) := dk_77 (dk_at dksX1_heldUntil_0 5 rfl rfl)
theorem dX1_heldUntil_6 : decode cX1_heldUntil 6 = .ok (.aload_n 2, 1) := dk_44 (dk_at dksX1_heldUntil_0 6 rfl rfl)
theorem dX1_heldUntil_7 : decode cX1_heldUntil 7 = .ok (.getfield 168, 3) := dk_180 0 168 (dk_at dksX1_heldUntil_0 7 rfl rfl)
theorem dX1_heldUntil_10 : decode cX1_heldUntil 10 = .ok (.bipush 45, 2) := dk_16 45 (dk_at dksX1_heldUntil_0 10 rfl rfl)
theorem dX1_heldUntil_12 : decode cX1_heldUntil 12 = .ok (.if_icmp .eq 7, 3) := dk_159 0 7 (dk_at dksX1_heldUntil_0 12 rfl rfl)
theorem dX1_heldUntil_15 : decode cX1_heldUntil 15 = .ok (.iconst 1, 1) := dk_4 (dk_at dksX1_heldUntil_0 15 rfl rfl)
theorem dX1_heldUntil_16 : decode cX1_heldUntil 16 = .ok (.goto 4, 3) := dk_167 0 4 (dk_at dksX1_heldUntil_0 16 rfl rfl)
theorem dX1_heldUntil_19 : decode cX1_heldUntil 19 = .ok (.iconst 0, 1) := dk_3 (dk_at dksX1_heldUntil_0 19 rfl rfl)
theorem dX1_heldUntil_20 : decode cX1_heldUntil 20 = .ok (.invokestatic 124, 3) := dk_184 0 124 (dk_at dksX1_heldUntil_0 20 rfl rfl)
theorem dX1_heldUntil_23 : decode cX1_heldUntil 23 = .ok (.aload_n 2, 1) := dk_44 (dk_at dksX1_heldUntil_0 23 rfl rfl)
theorem dX1_heldUntil_24 : decode cX1_heldUntil 24 = .ok (.getfield 171, 3) := dk_180 0 171 (dk_at dksX1_heldUntil_1 0 rfl rfl)
theorem dX1_heldUntil_27 : decode cX1_heldUntil 27 = .ok (.ireturn, 1) := dk_172 (dk_at dksX1_heldUntil_1 3 rfl rfl)
abbrev cX1_pinnedAbove : ByteArray := prog_1_method_27_code
def yX1_pinnedAbove : MethodName := ⟨RX1, "pinnedAbove", "(I)I"⟩
def dkwX1_pinnedAbove_3 : List UInt8 := [132, 5, 1, 167, 255, 213, 21, 4, 172]
abbrev dktX1_pinnedAbove_3 : List UInt8 := dkwX1_pinnedAbove_3 ++ []
def dkwX1_pinnedAbove_2 : List UInt8 := [180, 0, 10, 29, 21, 5, 182, 0, 127, 182, 0, 190, 153, 0, 7, 4, 167, 0, 4, 3, 96, 54, 4]
abbrev dktX1_pinnedAbove_2 : List UInt8 := dkwX1_pinnedAbove_2 ++ dktX1_pinnedAbove_3
def dkwX1_pinnedAbove_1 : List UInt8 := [182, 0, 115, 4, 96, 54, 5, 21, 5, 42, 180, 0, 10, 180, 0, 121, 29, 46, 162, 0, 35, 21, 4, 42]
abbrev dktX1_pinnedAbove_1 : List UInt8 := dkwX1_pinnedAbove_1 ++ dktX1_pinnedAbove_2
def dkwX1_pinnedAbove_0 : List UInt8 := [42, 27, 182, 0, 104, 77, 42, 180, 0, 10, 44, 182, 0, 111, 62, 3, 54, 4, 42, 180, 0, 10, 44]
abbrev dktX1_pinnedAbove_0 : List UInt8 := dkwX1_pinnedAbove_0 ++ dktX1_pinnedAbove_1
theorem dksX1_pinnedAbove_0 : cX1_pinnedAbove.data.toList.drop 0 = dktX1_pinnedAbove_0 := by decide +kernel
theorem dksX1_pinnedAbove_1 : cX1_pinnedAbove.data.toList.drop 23 = dktX1_pinnedAbove_1 := dk_seg dksX1_pinnedAbove_0 23 rfl rfl
theorem dksX1_pinnedAbove_2 : cX1_pinnedAbove.data.toList.drop 47 = dktX1_pinnedAbove_2 := dk_seg dksX1_pinnedAbove_1 24 rfl rfl
theorem dksX1_pinnedAbove_3 : cX1_pinnedAbove.data.toList.drop 70 = dktX1_pinnedAbove_3 := dk_seg dksX1_pinnedAbove_2 23 rfl rfl
theorem dX1_pinnedAbove_0 : decode cX1_pinnedAbove 0 = .ok (.aload_n 0, 1) := dk_42 (dk_at dksX1_pinnedAbove_0 0 rfl rfl)
theorem dX1_pinnedAbove_1 : decode cX1_pinnedAbove 1 = .ok (.iload_n 1, 1) := dk_27 (dk_at dksX1_pinnedAbove_0 1 rfl rfl)
theorem dX1_pinnedAbove_2 : decode cX1_pinnedAbove 2 = .ok (.invokevirtual 104, 3) := dk_182 0 104 (dk_at dksX1_pinnedAbove_0 2 rfl rfl)
theorem dX1_pinnedAbove_5 : decode cX1_pinnedAbove 5 = .ok (.astore_n 2, 1) := dk_77 (dk_at dksX1_pinnedAbove_0 5 rfl rfl)
theorem dX1_pinnedAbove_6 : decode cX1_pinnedAbove 6 = .ok (.aload_n 0, 1) := dk_42 (dk_at dksX1_pinnedAbove_0 6 rfl rfl)
theorem dX1_pinnedAbove_7 : decode cX1_pinnedAbove 7 = .ok (.getfield 10, 3) := dk_180 0 10 (dk_at dksX1_pinnedAbove_0 7 rfl rfl)
theorem dX1_pinnedAbove_10 : decode cX1_pinnedAbove 10 = .ok (.aload_n 2, 1) := dk_44 (dk_at dksX1_pinnedAbove_0 10 rfl rfl)
theorem dX1_pinnedAbove_11 : decode cX1_pinnedAbove 11 = .ok (.invokevirtual 111, 3) := dk_182 0 111 (dk_at dksX1_pinnedAbove_0 11 rfl rfl)
theorem dX1_pinnedAbove_14 : decode cX1_pinnedAbove 14 = .ok (.istore_n 3, 1) := dk_62 (dk_at dksX1_pinnedAbove_0 14 rfl rfl)
theorem dX1_pinnedAbove_15 : decode cX1_pinnedAbove 15 = .ok (.iconst 0, 1) := dk_3 (dk_at dksX1_pinnedAbove_0 15 rfl rfl)
theorem dX1_pinnedAbove_16 : decode cX1_pinnedAbove 16 = .ok (.istore 4, 2) := dk_54 4 (dk_at dksX1_pinnedAbove_0 16 rfl rfl)
theorem dX1_pinnedAbove_18 : decode cX1_pinnedAbove 18 = .ok (.aload_n 0, 1) := dk_42 (dk_at dksX1_pinnedAbove_0 18 rfl rfl)
theorem dX1_pinnedAbove_19 : decode cX1_pinnedAbove 19 = .ok (.getfield 10, 3) := dk_180 0 10 (dk_at dksX1_pinnedAbove_0 19 rfl rfl)
theorem dX1_pinnedAbove_22 : decode cX1_pinnedAbove 22 = .ok (.aload_n 2, 1) := dk_44 (dk_at dksX1_pinnedAbove_0 22 rfl rfl)
theorem dX1_pinnedAbove_23 : decode cX1_pinnedAbove 23 = .ok (.invokevirtual 115, 3) := dk_182 0 115 (dk_at dksX1_pinnedAbove_1 0 rfl rfl)
theorem dX1_pinnedAbove_26 : decode cX1_pinnedAbove 26 = .ok (.iconst 1, 1) := dk_4 (dk_at dksX1_pinnedAbove_1 3 rfl rfl)
theorem dX1_pinnedAbove_27 : decode cX1_pinnedAbove 27 = .ok (.iadd, 1) := dk_96 (dk_at dksX1_pinnedAbove_1 4 rfl rfl)
theorem dX1_pinnedAbove_28 : decode cX1_pinnedAbove 28 = .ok (.istore 5, 2) := dk_54 5 (dk_at dksX1_pinnedAbove_1 5 rfl rfl)
theorem dX1_pinnedAbove_30 : decode cX1_pinnedAbove 30 = .ok (.iload 5, 2) := dk_21 5 (dk_at dksX1_pinnedAbove_1 7 rfl rfl)
theorem dX1_pinnedAbove_32 : decode cX1_pinnedAbove 32 = .ok (.aload_n 0, 1) := dk_42 (dk_at dksX1_pinnedAbove_1 9 rfl rfl)
theorem dX1_pinnedAbove_33 : decode cX1_pinnedAbove 33 = .ok (.getfield 10, 3) := dk_180 0 10 (dk_at dksX1_pinnedAbove_1 10 rfl rfl)
theorem dX1_pinnedAbove_36 : decode cX1_pinnedAbove 36 = .ok (.getfield 121, 3) := dk_180 0 121 (dk_at dksX1_pinnedAbove_1 13 rfl rfl)
theorem dX1_pinnedAbove_39 : decode cX1_pinnedAbove 39 = .ok (.iload_n 3, 1) := dk_29 (dk_at dksX1_pinnedAbove_1 16 rfl rfl)
theorem dX1_pinnedAbove_40 : decode cX1_pinnedAbove 40 = .ok (.iaload, 1) := dk_46 (dk_at dksX1_pinnedAbove_1 17 rfl rfl)
theorem dX1_pinnedAbove_41 : decode cX1_pinnedAbove 41 = .ok (.if_icmp .ge 35, 3) := dk_162 0 35 (dk_at dksX1_pinnedAbove_1 18 rfl rfl)
theorem dX1_pinnedAbove_44 : decode cX1_pinnedAbove 44 = .ok (.iload 4, 2) := dk_21 4 (dk_at dksX1_pinnedAbove_1 21 rfl rfl)
theorem dX1_pinnedAbove_46 : decode cX1_pinnedAbove 46 = .ok (.aload_n 0, 1) := dk_42 (dk_at dksX1_pinnedAbove_1 23 rfl rfl)
theorem dX1_pinnedAbove_47 : decode cX1_pinnedAbove 47 = .ok (.getfield 10, 3) := dk_180 0 10 (dk_at dksX1_pinnedAbove_2 0 rfl rfl)
theorem dX1_pinnedAbove_50 : decode cX1_pinnedAbove 50 = .ok (.iload_n 3, 1) := dk_29 (dk_at dksX1_pinnedAbove_2 3 rfl rfl)
theorem dX1_pinnedAbove_51 : decode cX1_pinnedAbove 51 = .ok (.iload 5, 2) := dk_21 5 (dk_at dksX1_pinnedAbove_2 4 rfl rfl)
theorem dX1_pinnedAbove_53 : decode cX1_pinnedAbove 53 = .ok (.invokevirtual 127, 3) := dk_182 0 127 (dk_at dksX1_pinnedAbove_2 6 rfl rfl)
theorem dX1_pinnedAbove_56 : decode cX1_pinnedAbove 56 = .ok (.invokevirtual 190, 3) := dk_182 0 190 (dk_at dksX1_pinnedAbove_2 9 rfl rfl)
theorem dX1_pinnedAbove_59 : decode cX1_pinnedAbove 59 = .ok (.ifCond .eq 7, 3) := dk_153 0 7 (dk_at dksX1_pinnedAbove_2 12 rfl rfl)
theorem dX1_pinnedAbove_62 : decode cX1_pinnedAbove 62 = .ok (.iconst 1, 1) := dk_4 (dk_at dksX1_pinnedAbove_2 15 rfl rfl)
theorem dX1_pinnedAbove_63 : decode cX1_pinnedAbove 63 = .ok (.goto 4, 3) := dk_167 0 4 (dk_at dksX1_pinnedAbove_2 16 rfl rfl)
theorem dX1_pinnedAbove_66 : decode cX1_pinnedAbove 66 = .ok (.iconst 0, 1) := dk_3 (dk_at dksX1_pinnedAbove_2 19 rfl rfl)
theorem dX1_pinnedAbove_67 : decode cX1_pinnedAbove 67 = .ok (.iadd, 1) := dk_96 (dk_at dksX1_pinnedAbove_2 20 rfl rfl)
theorem dX1_pinnedAbove_68 : decode cX1_pinnedAbove 68 = .ok (.istore 4, 2) := dk_54 4 (dk_at dksX1_pinnedAbove_2 21 rfl rfl)
theorem dX1_pinnedAbove_70 : decode cX1_pinnedAbove 70 = .ok (.iinc 5 1, 3) := dk_132 5 1 (dk_at dksX1_pinnedAbove_3 0 rfl rfl)
theorem dX1_pinnedAbove_73 : decode cX1_pinnedAbove 73 = .ok (.goto (-43), 3) := dk_167 255 213 (dk_at dksX1_pinnedAbove_3 3 rfl rfl)
theorem dX1_pinnedAbove_76 : decode cX1_pinnedAbove 76 = .ok (.iload 4, 2) := dk_21 4 (dk_at dksX1_pinnedAbove_3 6 rfl rfl)
theorem dX1_pinnedAbove_78 : decode cX1_pinnedAbove 78 = .ok (.ireturn, 1) := dk_172 (dk_at dksX1_pinnedAbove_3 8 rfl rfl)
abbrev cX1_why : ByteArray := prog_1_method_29_code
def yX1_why : MethodName := ⟨RX1, "why", "(II)C"⟩
def dkwX1_why_0 : List UInt8 := [42, 27, 182, 0, 104, 78, 42, 28, 182, 0, 80, 42, 42, 180, 0, 10, 45, 28, 182, 0, 196, 172]
abbrev dktX1_why_0 : List UInt8 := dkwX1_why_0 ++ []
theorem dksX1_why_0 : cX1_why.data.toList.drop 0 = dktX1_why_0 := by decide +kernel
theorem dX1_why_0 : decode cX1_why 0 = .ok (.aload_n 0, 1) := dk_42 (dk_at dksX1_why_0 0 rfl rfl)
theorem dX1_why_1 : decode cX1_why 1 = .ok (.iload_n 1, 1) := dk_27 (dk_at dksX1_why_0 1 rfl rfl)
theorem dX1_why_2 : decode cX1_why 2 = .ok (.invokevirtual 104, 3) := dk_182 0 104 (dk_at dksX1_why_0 2 rfl rfl)
theorem dX1_why_5 : decode cX1_why 5 = .ok (.astore_n 3, 1) := dk_78 (dk_at dksX1_why_0 5 rfl rfl)
theorem dX1_why_6 : decode cX1_why 6 = .ok (.aload_n 0, 1) := dk_42 (dk_at dksX1_why_0 6 rfl rfl)
theorem dX1_why_7 : decode cX1_why 7 = .ok (.iload_n 2, 1) := dk_28 (dk_at dksX1_why_0 7 rfl rfl)
theorem dX1_why_8 : decode cX1_why 8 = .ok (.invokevirtual 80, 3) := dk_182 0 80 (dk_at dksX1_why_0 8 rfl rfl)
theorem dX1_why_11 : decode cX1_why 11 = .ok (.aload_n 0, 1) := dk_42 (dk_at dksX1_why_0 11 rfl rfl)
theorem dX1_why_12 : decode cX1_why 12 = .ok (.aload_n 0, 1) := dk_42 (dk_at dksX1_why_0 12 rfl rfl)
theorem dX1_why_13 : decode cX1_why 13 = .ok (.getfield 10, 3) := dk_180 0 10 (dk_at dksX1_why_0 13 rfl rfl)
theorem dX1_why_16 : decode cX1_why 16 = .ok (.aload_n 3, 1) := dk_45 (dk_at dksX1_why_0 16 rfl rfl)
theorem dX1_why_17 : decode cX1_why 17 = .ok (.iload_n 2, 1) := dk_28 (dk_at dksX1_why_0 17 rfl rfl)
theorem dX1_why_18 : decode cX1_why 18 = .ok (.invokevirtual 196, 3) := dk_182 0 196 (dk_at dksX1_why_0 18 rfl rfl)
theorem dX1_why_21 : decode cX1_why 21 = .ok (.ireturn, 1) := dk_172 (dk_at dksX1_why_0 21 rfl rfl)
abbrev cX1_why_2 : ByteArray := prog_1_method_28_code
def yX1_why_2 : MethodName := ⟨RX1, "why", "(LQuaylock$Yard;LQuaylock$Box;I)C"⟩
def dkwX1_why_2_3 : List UInt8 := [167, 0, 5, 16, 119, 172]
abbrev dktX1_why_2_3 : List UInt8 := dkwX1_why_2_3 ++ []
def dkwX1_why_2_2 : List UInt8 := [160, 0, 6, 16, 102, 172, 43, 29, 42, 180, 0, 16, 29, 46, 44, 182, 0, 87, 153, 0, 8, 16, 45]
abbrev dktX1_why_2_2 : List UInt8 := dkwX1_why_2_2 ++ dktX1_why_2_3
def dkwX1_why_2_1 : List UInt8 := [16, 112, 172, 21, 4, 29, 160, 0, 6, 16, 115, 172, 43, 180, 0, 121, 29, 46, 42, 180, 0, 16, 29, 46]
abbrev dktX1_why_2_1 : List UInt8 := dkwX1_why_2_1 ++ dktX1_why_2_2
def dkwX1_why_2_0 : List UInt8 := [43, 44, 182, 0, 193, 54, 4, 21, 4, 2, 160, 0, 6, 16, 116, 172, 44, 182, 0, 190, 153, 0, 6]
abbrev dktX1_why_2_0 : List UInt8 := dkwX1_why_2_0 ++ dktX1_why_2_1
theorem dksX1_why_2_0 : cX1_why_2.data.toList.drop 0 = dktX1_why_2_0 := by decide +kernel
theorem dksX1_why_2_1 : cX1_why_2.data.toList.drop 23 = dktX1_why_2_1 := dk_seg dksX1_why_2_0 23 rfl rfl
theorem dksX1_why_2_2 : cX1_why_2.data.toList.drop 47 = dktX1_why_2_2 := dk_seg dksX1_why_2_1 24 rfl rfl
theorem dksX1_why_2_3 : cX1_why_2.data.toList.drop 70 = dktX1_why_2_3 := dk_seg dksX1_why_2_2 23 rfl rfl
theorem dX1_why_2_0 : decode cX1_why_2 0 = .ok (.aload_n 1, 1) := dk_43 (dk_at dksX1_why_2_0 0 rfl rfl)
theorem dX1_why_2_1 : decode cX1_why_2 1 = .ok (.aload_n 2, 1) := dk_44 (dk_at dksX1_why_2_0 1 rfl rfl)
theorem dX1_why_2_2 : decode cX1_why_2 2 = .ok (.invokevirtual 193, 3) := dk_182 0 193 (dk_at dksX1_why_2_0 2 rfl rfl)
theorem dX1_why_2_5 : decode cX1_why_2 5 = .ok (.istore 4, 2) := dk_54 4 (dk_at dksX1_why_2_0 5 rfl rfl)
theorem dX1_why_2_7 : decode cX1_why_2 7 = .ok (.iload 4, 2) := dk_21 4 (dk_at dksX1_why_2_0 7 rfl rfl)
theorem dX1_why_2_9 : decode cX1_why_2 9 = .ok (.iconst (-1), 1) := dk_2 (dk_at dksX1_why_2_0 9 rfl rfl)
theorem dX1_why_2_10 : decode cX1_why_2 10 = .ok (.if_icmp .ne 6, 3) := dk_160 0 6 (dk_at dksX1_why_2_0 10 rfl rfl)
theorem dX1_why_2_13 : decode cX1_why_2 13 = .ok (.bipush 116, 2) := dk_16 116 (dk_at dksX1_why_2_0 13 rfl rfl)
theorem dX1_why_2_15 : decode cX1_why_2 15 = .ok (.ireturn, 1) := dk_172 (dk_at dksX1_why_2_0 15 rfl rfl)
theorem dX1_why_2_16 : decode cX1_why_2 16 = .ok (.aload_n 2, 1) := dk_44 (dk_at dksX1_why_2_0 16 rfl rfl)
theorem dX1_why_2_17 : decode cX1_why_2 17 = .ok (.invokevirtual 190, 3) := dk_182 0 190 (dk_at dksX1_why_2_0 17 rfl rfl)
theorem dX1_why_2_20 : decode cX1_why_2 20 = .ok (.ifCond .eq 6, 3) := dk_153 0 6 (dk_at dksX1_why_2_0 20 rfl rfl)
theorem dX1_why_2_23 : decode cX1_why_2 23 = .ok (.bipush 112, 2) := dk_16 112 (dk_at dksX1_why_2_1 0 rfl rfl)
theorem dX1_why_2_25 : decode cX1_why_2 25 = .ok (.ireturn, 1) := dk_172 (dk_at dksX1_why_2_1 2 rfl rfl)
theorem dX1_why_2_26 : decode cX1_why_2 26 = .ok (.iload 4, 2) := dk_21 4 (dk_at dksX1_why_2_1 3 rfl rfl)
theorem dX1_why_2_28 : decode cX1_why_2 28 = .ok (.iload_n 3, 1) := dk_29 (dk_at dksX1_why_2_1 5 rfl rfl)
theorem dX1_why_2_29 : decode cX1_why_2 29 = .ok (.if_icmp .ne 6, 3) := dk_160 0 6 (dk_at dksX1_why_2_1 6 rfl rfl)
theorem dX1_why_2_32 : decode cX1_why_2 32 = .ok (.bipush 115, 2) := dk_16 115 (dk_at dksX1_why_2_1 9 rfl rfl)
theorem dX1_why_2_34 : decode cX1_why_2 34 = .ok (.ireturn, 1) := dk_172 (dk_at dksX1_why_2_1 11 rfl rfl)
theorem dX1_why_2_35 : decode cX1_why_2 35 = .ok (.aload_n 1, 1) := dk_43 (dk_at dksX1_why_2_1 12 rfl rfl)
theorem dX1_why_2_36 : decode cX1_why_2 36 = .ok (.getfield 121, 3) := dk_180 0 121 (dk_at dksX1_why_2_1 13 rfl rfl)
theorem dX1_why_2_39 : decode cX1_why_2 39 = .ok (.iload_n 3, 1) := dk_29 (dk_at dksX1_why_2_1 16 rfl rfl)
theorem dX1_why_2_40 : decode cX1_why_2 40 = .ok (.iaload, 1) := dk_46 (dk_at dksX1_why_2_1 17 rfl rfl)
theorem dX1_why_2_41 : decode cX1_why_2 41 = .ok (.aload_n 0, 1) := dk_42 (dk_at dksX1_why_2_1 18 rfl rfl)
theorem dX1_why_2_42 : decode cX1_why_2 42 = .ok (.getfield 16, 3) := dk_180 0 16 (dk_at dksX1_why_2_1 19 rfl rfl)
theorem dX1_why_2_45 : decode cX1_why_2 45 = .ok (.iload_n 3, 1) := dk_29 (dk_at dksX1_why_2_1 22 rfl rfl)
theorem dX1_why_2_46 : decode cX1_why_2 46 = .ok (.iaload, 1) := dk_46 (dk_at dksX1_why_2_1 23 rfl rfl)
theorem dX1_why_2_47 : decode cX1_why_2 47 = .ok (.if_icmp .ne 6, 3) := dk_160 0 6 (dk_at dksX1_why_2_2 0 rfl rfl)
theorem dX1_why_2_50 : decode cX1_why_2 50 = .ok (.bipush 102, 2) := dk_16 102 (dk_at dksX1_why_2_2 3 rfl rfl)
theorem dX1_why_2_52 : decode cX1_why_2 52 = .ok (.ireturn, 1) := dk_172 (dk_at dksX1_why_2_2 5 rfl rfl)
theorem dX1_why_2_53 : decode cX1_why_2 53 = .ok (.aload_n 1, 1) := dk_43 (dk_at dksX1_why_2_2 6 rfl rfl)
theorem dX1_why_2_54 : decode cX1_why_2 54 = .ok (.iload_n 3, 1) := dk_29 (dk_at dksX1_why_2_2 7 rfl rfl)
theorem dX1_why_2_55 : decode cX1_why_2 55 = .ok (.aload_n 0, 1) := dk_42 (dk_at dksX1_why_2_2 8 rfl rfl)
theorem dX1_why_2_56 : decode cX1_why_2 56 = .ok (.getfield 16, 3) := dk_180 0 16 (dk_at dksX1_why_2_2 9 rfl rfl)
theorem dX1_why_2_59 : decode cX1_why_2 59 = .ok (.iload_n 3, 1) := dk_29 (dk_at dksX1_why_2_2 12 rfl rfl)
theorem dX1_why_2_60 : decode cX1_why_2 60 = .ok (.iaload, 1) := dk_46 (dk_at dksX1_why_2_2 13 rfl rfl)
theorem dX1_why_2_61 : decode cX1_why_2 61 = .ok (.aload_n 2, 1) := dk_44 (dk_at dksX1_why_2_2 14 rfl rfl)
theorem dX1_why_2_62 : decode cX1_why_2 62 = .ok (.invokevirtual 87, 3) := dk_182 0 87 (dk_at dksX1_why_2_2 15 rfl rfl)
theorem dX1_why_2_65 : decode cX1_why_2 65 = .ok (.ifCond .eq 8, 3) := dk_153 0 8 (dk_at dksX1_why_2_2 18 rfl rfl)
theorem dX1_why_2_68 : decode cX1_why_2 68 = .ok (.bipush 45, 2) := dk_16 45 (dk_at dksX1_why_2_2 21 rfl rfl)
theorem dX1_why_2_70 : decode cX1_why_2 70 = .ok (.goto 5, 3) := dk_167 0 5 (dk_at dksX1_why_2_3 0 rfl rfl)
theorem dX1_why_2_73 : decode cX1_why_2 73 = .ok (.bipush 119, 2) := dk_16 119 (dk_at dksX1_why_2_3 3 rfl rfl)
theorem dX1_why_2_75 : decode cX1_why_2 75 = .ok (.ireturn, 1) := dk_172 (dk_at dksX1_why_2_3 5 rfl rfl)
abbrev cX1_move : ByteArray := prog_1_method_31_code
def yX1_move : MethodName := ⟨RX1, "move", "(II)I"⟩
def dkwX1_move_1 : List UInt8 := [160, 0, 7, 4, 167, 0, 4, 3, 184, 0, 91, 42, 45, 28, 182, 0, 206, 42, 180, 0, 203, 172]
abbrev dktX1_move_1 : List UInt8 := dkwX1_move_1 ++ []
def dkwX1_move_0 : List UInt8 := [42, 27, 182, 0, 104, 78, 42, 28, 182, 0, 80, 42, 42, 180, 0, 10, 45, 28, 182, 0, 196, 16, 45]
abbrev dktX1_move_0 : List UInt8 := dkwX1_move_0 ++ dktX1_move_1
theorem dksX1_move_0 : cX1_move.data.toList.drop 0 = dktX1_move_0 := by decide +kernel
theorem dksX1_move_1 : cX1_move.data.toList.drop 23 = dktX1_move_1 := dk_seg dksX1_move_0 23 rfl rfl
theorem dX1_move_0 : decode cX1_move 0 = .ok (.aload_n 0, 1) := dk_42 (dk_at dksX1_move_0 0 rfl rfl)
theorem dX1_move_1 : decode cX1_move 1 = .ok (.iload_n 1, 1) := dk_27 (dk_at dksX1_move_0 1 rfl rfl)
theorem dX1_move_2 : decode cX1_move 2 = .ok (.invokevirtual 104, 3) := dk_182 0 104 (dk_at dksX1_move_0 2 rfl rfl)
theorem dX1_move_5 : decode cX1_move 5 = .ok (.astore_n 3, 1) := dk_78 (dk_at dksX1_move_0 5 rfl rfl)
theorem dX1_move_6 : decode cX1_move 6 = .ok (.aload_n 0, 1) := dk_42 (dk_at dksX1_move_0 6 rfl rfl)
theorem dX1_move_7 : decode cX1_move 7 = .ok (.iload_n 2, 1) := dk_28 (dk_at dksX1_move_0 7 rfl rfl)
theorem dX1_move_8 : decode cX1_move 8 = .ok (.invokevirtual 80, 3) := dk_182 0 80 (dk_at dksX1_move_0 8 rfl rfl)
theorem dX1_move_11 : decode cX1_move 11 = .ok (.aload_n 0, 1) := dk_42 (dk_at dksX1_move_0 11 rfl rfl)
theorem dX1_move_12 : decode cX1_move 12 = .ok (.aload_n 0, 1) := dk_42 (dk_at dksX1_move_0 12 rfl rfl)
theorem dX1_move_13 : decode cX1_move 13 = .ok (.getfield 10, 3) := dk_180 0 10 (dk_at dksX1_move_0 13 rfl rfl)
theorem dX1_move_16 : decode cX1_move 16 = .ok (.aload_n 3, 1) := dk_45 (dk_at dksX1_move_0 16 rfl rfl)
theorem dX1_move_17 : decode cX1_move 17 = .ok (.iload_n 2, 1) := dk_28 (dk_at dksX1_move_0 17 rfl rfl)
theorem dX1_move_18 : decode cX1_move 18 = .ok (.invokevirtual 196, 3) := dk_182 0 196 (dk_at dksX1_move_0 18 rfl rfl)
theorem dX1_move_21 : decode cX1_move 21 = .ok (.bipush 45, 2) := dk_16 45 (dk_at dksX1_move_0 21 rfl rfl)
theorem dX1_move_23 : decode cX1_move 23 = .ok (.if_icmp .ne 7, 3) := dk_160 0 7 (dk_at dksX1_move_1 0 rfl rfl)
theorem dX1_move_26 : decode cX1_move 26 = .ok (.iconst 1, 1) := dk_4 (dk_at dksX1_move_1 3 rfl rfl)
theorem dX1_move_27 : decode cX1_move 27 = .ok (.goto 4, 3) := dk_167 0 4 (dk_at dksX1_move_1 4 rfl rfl)
theorem dX1_move_30 : decode cX1_move 30 = .ok (.iconst 0, 1) := dk_3 (dk_at dksX1_move_1 7 rfl rfl)
theorem dX1_move_31 : decode cX1_move 31 = .ok (.invokestatic 91, 3) := dk_184 0 91 (dk_at dksX1_move_1 8 rfl rfl)
theorem dX1_move_34 : decode cX1_move 34 = .ok (.aload_n 0, 1) := dk_42 (dk_at dksX1_move_1 11 rfl rfl)
theorem dX1_move_35 : decode cX1_move 35 = .ok (.aload_n 3, 1) := dk_45 (dk_at dksX1_move_1 12 rfl rfl)
theorem dX1_move_36 : decode cX1_move 36 = .ok (.iload_n 2, 1) := dk_28 (dk_at dksX1_move_1 13 rfl rfl)
theorem dX1_move_37 : decode cX1_move 37 = .ok (.invokevirtual 206, 3) := dk_182 0 206 (dk_at dksX1_move_1 14 rfl rfl)
theorem dX1_move_40 : decode cX1_move 40 = .ok (.aload_n 0, 1) := dk_42 (dk_at dksX1_move_1 17 rfl rfl)
theorem dX1_move_41 : decode cX1_move 41 = .ok (.getfield 203, 3) := dk_180 0 203 (dk_at dksX1_move_1 18 rfl rfl)
theorem dX1_move_44 : decode cX1_move 44 = .ok (.ireturn, 1) := dk_172 (dk_at dksX1_move_1 21 rfl rfl)
abbrev cX1_moveTo : ByteArray := prog_1_method_30_code
def yX1_moveTo : MethodName := ⟨RX1, "moveTo", "(LQuaylock$Box;I)V"⟩
def dkwX1_moveTo_1 : List UInt8 := [182, 0, 97, 42, 89, 180, 0, 203, 4, 96, 181, 0, 203, 177]
abbrev dktX1_moveTo_1 : List UInt8 := dkwX1_moveTo_1 ++ []
def dkwX1_moveTo_0 : List UInt8 := [42, 180, 0, 10, 42, 180, 0, 10, 43, 182, 0, 111, 182, 0, 200, 87, 42, 180, 0, 10, 28, 43]
abbrev dktX1_moveTo_0 : List UInt8 := dkwX1_moveTo_0 ++ dktX1_moveTo_1
theorem dksX1_moveTo_0 : cX1_moveTo.data.toList.drop 0 = dktX1_moveTo_0 := by decide +kernel
theorem dksX1_moveTo_1 : cX1_moveTo.data.toList.drop 22 = dktX1_moveTo_1 := dk_seg dksX1_moveTo_0 22 rfl rfl
theorem dX1_moveTo_0 : decode cX1_moveTo 0 = .ok (.aload_n 0, 1) := dk_42 (dk_at dksX1_moveTo_0 0 rfl rfl)
theorem dX1_moveTo_1 : decode cX1_moveTo 1 = .ok (.getfield 10, 3) := dk_180 0 10 (dk_at dksX1_moveTo_0 1 rfl rfl)
theorem dX1_moveTo_4 : decode cX1_moveTo 4 = .ok (.aload_n 0, 1) := dk_42 (dk_at dksX1_moveTo_0 4 rfl rfl)
theorem dX1_moveTo_5 : decode cX1_moveTo 5 = .ok (.getfield 10, 3) := dk_180 0 10 (dk_at dksX1_moveTo_0 5 rfl rfl)
theorem dX1_moveTo_8 : decode cX1_moveTo 8 = .ok (.aload_n 1, 1) := dk_43 (dk_at dksX1_moveTo_0 8 rfl rfl)
theorem dX1_moveTo_9 : decode cX1_moveTo 9 = .ok (.invokevirtual 111, 3) := dk_182 0 111 (dk_at dksX1_moveTo_0 9 rfl rfl)
theorem dX1_moveTo_12 : decode cX1_moveTo 12 = .ok (.invokevirtual 200, 3) := dk_182 0 200 (dk_at dksX1_moveTo_0 12 rfl rfl)
theorem dX1_moveTo_15 : decode cX1_moveTo 15 = .ok (.pop, 1) := dk_87 (dk_at dksX1_moveTo_0 15 rfl rfl)
theorem dX1_moveTo_16 : decode cX1_moveTo 16 = .ok (.aload_n 0, 1) := dk_42 (dk_at dksX1_moveTo_0 16 rfl rfl)
theorem dX1_moveTo_17 : decode cX1_moveTo 17 = .ok (.getfield 10, 3) := dk_180 0 10 (dk_at dksX1_moveTo_0 17 rfl rfl)
theorem dX1_moveTo_20 : decode cX1_moveTo 20 = .ok (.iload_n 2, 1) := dk_28 (dk_at dksX1_moveTo_0 20 rfl rfl)
theorem dX1_moveTo_21 : decode cX1_moveTo 21 = .ok (.aload_n 1, 1) := dk_43 (dk_at dksX1_moveTo_0 21 rfl rfl)
theorem dX1_moveTo_22 : decode cX1_moveTo 22 = .ok (.invokevirtual 97, 3) := dk_182 0 97 (dk_at dksX1_moveTo_1 0 rfl rfl)
theorem dX1_moveTo_25 : decode cX1_moveTo 25 = .ok (.aload_n 0, 1) := dk_42 (dk_at dksX1_moveTo_1 3 rfl rfl)
theorem dX1_moveTo_26 : decode cX1_moveTo 26 = .ok (.dup, 1) := dk_89 (dk_at dksX1_moveTo_1 4 rfl rfl)
theorem dX1_moveTo_27 : decode cX1_moveTo 27 = .ok (.getfield 203, 3) := dk_180 0 203 (dk_at dksX1_moveTo_1 5 rfl rfl)
theorem dX1_moveTo_30 : decode cX1_moveTo 30 = .ok (.iconst 1, 1) := dk_4 (dk_at dksX1_moveTo_1 8 rfl rfl)
theorem dX1_moveTo_31 : decode cX1_moveTo 31 = .ok (.iadd, 1) := dk_96 (dk_at dksX1_moveTo_1 9 rfl rfl)
theorem dX1_moveTo_32 : decode cX1_moveTo 32 = .ok (.putfield 203, 3) := dk_181 0 203 (dk_at dksX1_moveTo_1 10 rfl rfl)
theorem dX1_moveTo_35 : decode cX1_moveTo 35 = .ok (.return_, 1) := dk_177 (dk_at dksX1_moveTo_1 13 rfl rfl)
abbrev cX1_planLength : ByteArray := prog_1_method_35_code
def yX1_planLength : MethodName := ⟨RX1, "planLength", "(I)I"⟩
def dkwX1_planLength_0 : List UInt8 := [42, 27, 182, 1, 15, 180, 0, 213, 190, 172]
abbrev dktX1_planLength_0 : List UInt8 := dkwX1_planLength_0 ++ []
theorem dksX1_planLength_0 : cX1_planLength.data.toList.drop 0 = dktX1_planLength_0 := by decide +kernel
theorem dX1_planLength_0 : decode cX1_planLength 0 = .ok (.aload_n 0, 1) := dk_42 (dk_at dksX1_planLength_0 0 rfl rfl)
theorem dX1_planLength_1 : decode cX1_planLength 1 = .ok (.iload_n 1, 1) := dk_27 (dk_at dksX1_planLength_0 1 rfl rfl)
theorem dX1_planLength_2 : decode cX1_planLength 2 = .ok (.invokevirtual 271, 3) := dk_182 1 15 (dk_at dksX1_planLength_0 2 rfl rfl)
theorem dX1_planLength_5 : decode cX1_planLength 5 = .ok (.getfield 213, 3) := dk_180 0 213 (dk_at dksX1_planLength_0 5 rfl rfl)
theorem dX1_planLength_8 : decode cX1_planLength 8 = .ok (.arraylength, 1) := dk_190 (dk_at dksX1_planLength_0 8 rfl rfl)
theorem dX1_planLength_9 : decode cX1_planLength 9 = .ok (.ireturn, 1) := dk_172 (dk_at dksX1_planLength_0 9 rfl rfl)
abbrev cX1_plan : ByteArray := prog_1_method_34_code
def yX1_plan : MethodName := ⟨RX1, "plan", "(I)LQuaylock$Plan;"⟩
def dkwX1_plan_0 : List UInt8 := [42, 42, 27, 182, 0, 104, 182, 1, 11, 77, 44, 198, 0, 7, 4, 167, 0, 4, 3, 184, 0, 124, 44, 176]
abbrev dktX1_plan_0 : List UInt8 := dkwX1_plan_0 ++ []
theorem dksX1_plan_0 : cX1_plan.data.toList.drop 0 = dktX1_plan_0 := by decide +kernel
theorem dX1_plan_0 : decode cX1_plan 0 = .ok (.aload_n 0, 1) := dk_42 (dk_at dksX1_plan_0 0 rfl rfl)
theorem dX1_plan_1 : decode cX1_plan 1 = .ok (.aload_n 0, 1) := dk_42 (dk_at dksX1_plan_0 1 rfl rfl)
theorem dX1_plan_2 : decode cX1_plan 2 = .ok (.iload_n 1, 1) := dk_27 (dk_at dksX1_plan_0 2 rfl rfl)
theorem dX1_plan_3 : decode cX1_plan 3 = .ok (.invokevirtual 104, 3) := dk_182 0 104 (dk_at dksX1_plan_0 3 rfl rfl)
theorem dX1_plan_6 : decode cX1_plan 6 = .ok (.invokevirtual 267, 3) := dk_182 1 11 (dk_at dksX1_plan_0 6 rfl rfl)
theorem dX1_plan_9 : decode cX1_plan 9 = .ok (.astore_n 2, 1) := dk_77 (dk_at dksX1_plan_0 9 rfl rfl)
theorem dX1_plan_10 : decode cX1_plan 10 = .ok (.aload_n 2, 1) := dk_44 (dk_at dksX1_plan_0 10 rfl rfl)
theorem dX1_plan_11 : decode cX1_plan 11 = .ok (.ifnull 7, 3) := dk_198 0 7 (dk_at dksX1_plan_0 11 rfl rfl)
theorem dX1_plan_14 : decode cX1_plan 14 = .ok (.iconst 1, 1) := dk_4 (dk_at dksX1_plan_0 14 rfl rfl)
theorem dX1_plan_15 : decode cX1_plan 15 = .ok (.goto 4, 3) := dk_167 0 4 (dk_at dksX1_plan_0 15 rfl rfl)
theorem dX1_plan_18 : decode cX1_plan 18 = .ok (.iconst 0, 1) := dk_3 (dk_at dksX1_plan_0 18 rfl rfl)
theorem dX1_plan_19 : decode cX1_plan 19 = .ok (.invokestatic 124, 3) := dk_184 0 124 (dk_at dksX1_plan_0 19 rfl rfl)
theorem dX1_plan_22 : decode cX1_plan 22 = .ok (.aload_n 2, 1) := dk_44 (dk_at dksX1_plan_0 22 rfl rfl)
theorem dX1_plan_23 : decode cX1_plan 23 = .ok (.areturn, 1) := dk_176 (dk_at dksX1_plan_0 23 rfl rfl)
abbrev cX1_planFor : ByteArray := prog_1_method_33_code
def yX1_planFor : MethodName := ⟨RX1, "planFor", "(LQuaylock$Box;)LQuaylock$Plan;"⟩
def dkwX1_planFor_7 : List UInt8 := [167, 255, 158, 1, 176]
abbrev dktX1_planFor_7 : List UInt8 := dkwX1_planFor_7 ++ []
def dkwX1_planFor_6 : List UInt8 := [25, 5, 180, 0, 213, 190, 184, 0, 255, 185, 1, 3, 3, 0, 87, 42, 25, 5, 43, 28, 45, 182, 1, 7]
abbrev dktX1_planFor_6 : List UInt8 := dkwX1_planFor_6 ++ dktX1_planFor_7
def dkwX1_planFor_5 : List UInt8 := [198, 0, 17, 25, 5, 180, 0, 213, 190, 25, 6, 182, 0, 251, 162, 0, 34, 25, 4, 25, 5, 180, 0, 210]
abbrev dktX1_planFor_5 : List UInt8 := dkwX1_planFor_5 ++ dktX1_planFor_6
def dkwX1_planFor_4 : List UInt8 := [25, 5, 176, 25, 4, 25, 5, 180, 0, 210, 185, 0, 244, 2, 0, 192, 0, 249, 58, 6, 25, 6]
abbrev dktX1_planFor_4 : List UInt8 := dkwX1_planFor_4 ++ dktX1_planFor_5
def dkwX1_planFor_3 : List UInt8 := [154, 0, 97, 45, 182, 0, 241, 192, 0, 211, 58, 5, 25, 5, 180, 0, 210, 43, 182, 0, 118, 154, 0, 6]
abbrev dktX1_planFor_3 : List UInt8 := dkwX1_planFor_3 ++ dktX1_planFor_4
def dkwX1_planFor_2 : List UInt8 := [188, 10, 3, 188, 10, 42, 180, 0, 10, 43, 182, 0, 118, 183, 0, 235, 182, 0, 223, 87, 45, 182, 0, 238]
abbrev dktX1_planFor_2 : List UInt8 := dkwX1_planFor_2 ++ dktX1_planFor_3
def dkwX1_planFor_1 : List UInt8 := [183, 0, 232, 78, 187, 0, 33, 89, 183, 0, 35, 58, 4, 45, 187, 0, 211, 89, 42, 180, 0, 10, 3]
abbrev dktX1_planFor_1 : List UInt8 := dkwX1_planFor_1 ++ dktX1_planFor_2
def dkwX1_planFor_0 : List UInt8 := [42, 180, 0, 10, 43, 182, 0, 118, 4, 96, 61, 187, 0, 224, 89, 187, 0, 229, 89, 183, 0, 231]
abbrev dktX1_planFor_0 : List UInt8 := dkwX1_planFor_0 ++ dktX1_planFor_1
theorem dksX1_planFor_0 : cX1_planFor.data.toList.drop 0 = dktX1_planFor_0 := by decide +kernel
theorem dksX1_planFor_1 : cX1_planFor.data.toList.drop 22 = dktX1_planFor_1 := dk_seg dksX1_planFor_0 22 rfl rfl
theorem dksX1_planFor_2 : cX1_planFor.data.toList.drop 45 = dktX1_planFor_2 := dk_seg dksX1_planFor_1 23 rfl rfl
theorem dksX1_planFor_3 : cX1_planFor.data.toList.drop 69 = dktX1_planFor_3 := dk_seg dksX1_planFor_2 24 rfl rfl
theorem dksX1_planFor_4 : cX1_planFor.data.toList.drop 93 = dktX1_planFor_4 := dk_seg dksX1_planFor_3 24 rfl rfl
theorem dksX1_planFor_5 : cX1_planFor.data.toList.drop 115 = dktX1_planFor_5 := dk_seg dksX1_planFor_4 22 rfl rfl
theorem dksX1_planFor_6 : cX1_planFor.data.toList.drop 139 = dktX1_planFor_6 := dk_seg dksX1_planFor_5 24 rfl rfl
theorem dksX1_planFor_7 : cX1_planFor.data.toList.drop 163 = dktX1_planFor_7 := dk_seg dksX1_planFor_6 24 rfl rfl
theorem dX1_planFor_0 : decode cX1_planFor 0 = .ok (.aload_n 0, 1) := dk_42 (dk_at dksX1_planFor_0 0 rfl rfl)
theorem dX1_planFor_1 : decode cX1_planFor 1 = .ok (.getfield 10, 3) := dk_180 0 10 (dk_at dksX1_planFor_0 1 rfl rfl)
theorem dX1_planFor_4 : decode cX1_planFor 4 = .ok (.aload_n 1, 1) := dk_43 (dk_at dksX1_planFor_0 4 rfl rfl)
theorem dX1_planFor_5 : decode cX1_planFor 5 = .ok (.invokevirtual 118, 3) := dk_182 0 118 (dk_at dksX1_planFor_0 5 rfl rfl)
theorem dX1_planFor_8 : decode cX1_planFor 8 = .ok (.iconst 1, 1) := dk_4 (dk_at dksX1_planFor_0 8 rfl rfl)
theorem dX1_planFor_9 : decode cX1_planFor 9 = .ok (.iadd, 1) := dk_96 (dk_at dksX1_planFor_0 9 rfl rfl)
theorem dX1_planFor_10 : decode cX1_planFor 10 = .ok (.istore_n 2, 1) := dk_61 (dk_at dksX1_planFor_0 10 rfl rfl)
theorem dX1_planFor_11 : decode cX1_planFor 11 = .ok (.new 224, 3) := dk_187 0 224 (dk_at dksX1_planFor_0 11 rfl rfl)
theorem dX1_planFor_14 : decode cX1_planFor 14 = .ok (.dup, 1) := dk_89 (dk_at dksX1_planFor_0 14 rfl rfl)
theorem dX1_planFor_15 : decode cX1_planFor 15 = .ok (.new 229, 3) := dk_187 0 229 (dk_at dksX1_planFor_0 15 rfl rfl)
theorem dX1_planFor_18 : decode cX1_planFor 18 = .ok (.dup, 1) := dk_89 (dk_at dksX1_planFor_0 18 rfl rfl)
theorem dX1_planFor_19 : decode cX1_planFor 19 = .ok (.invokespecial 231, 3) := dk_183 0 231 (dk_at dksX1_planFor_0 19 rfl rfl)
theorem dX1_planFor_22 : decode cX1_planFor 22 = .ok (.invokespecial 232, 3) := dk_183 0 232 (dk_at dksX1_planFor_1 0 rfl rfl)
theorem dX1_planFor_25 : decode cX1_planFor 25 = .ok (.astore_n 3, 1) := dk_78 (dk_at dksX1_planFor_1 3 rfl rfl)
theorem dX1_planFor_26 : decode cX1_planFor 26 = .ok (.new 33, 3) := dk_187 0 33 (dk_at dksX1_planFor_1 4 rfl rfl)
theorem dX1_planFor_29 : decode cX1_planFor 29 = .ok (.dup, 1) := dk_89 (dk_at dksX1_planFor_1 7 rfl rfl)
theorem dX1_planFor_30 : decode cX1_planFor 30 = .ok (.invokespecial 35, 3) := dk_183 0 35 (dk_at dksX1_planFor_1 8 rfl rfl)
theorem dX1_planFor_33 : decode cX1_planFor 33 = .ok (.astore 4, 2) := dk_58 4 (dk_at dksX1_planFor_1 11 rfl rfl)
theorem dX1_planFor_35 : decode cX1_planFor 35 = .ok (.aload_n 3, 1) := dk_45 (dk_at dksX1_planFor_1 13 rfl rfl)
theorem dX1_planFor_36 : decode cX1_planFor 36 = .ok (.new 211, 3) := dk_187 0 211 (dk_at dksX1_planFor_1 14 rfl rfl)
theorem dX1_planFor_39 : decode cX1_planFor 39 = .ok (.dup, 1) := dk_89 (dk_at dksX1_planFor_1 17 rfl rfl)
theorem dX1_planFor_40 : decode cX1_planFor 40 = .ok (.aload_n 0, 1) := dk_42 (dk_at dksX1_planFor_1 18 rfl rfl)
theorem dX1_planFor_41 : decode cX1_planFor 41 = .ok (.getfield 10, 3) := dk_180 0 10 (dk_at dksX1_planFor_1 19 rfl rfl)
theorem dX1_planFor_44 : decode cX1_planFor 44 = .ok (.iconst 0, 1) := dk_3 (dk_at dksX1_planFor_1 22 rfl rfl)
theorem dX1_planFor_45 : decode cX1_planFor 45 = .ok (.newarray .int, 2) := dk_188_10 (dk_at dksX1_planFor_2 0 rfl rfl)
theorem dX1_planFor_47 : decode cX1_planFor 47 = .ok (.iconst 0, 1) := dk_3 (dk_at dksX1_planFor_2 2 rfl rfl)
theorem dX1_planFor_48 : decode cX1_planFor 48 = .ok (.newarray .int, 2) := dk_188_10 (dk_at dksX1_planFor_2 3 rfl rfl)
theorem dX1_planFor_50 : decode cX1_planFor 50 = .ok (.aload_n 0, 1) := dk_42 (dk_at dksX1_planFor_2 5 rfl rfl)
theorem dX1_planFor_51 : decode cX1_planFor 51 = .ok (.getfield 10, 3) := dk_180 0 10 (dk_at dksX1_planFor_2 6 rfl rfl)
theorem dX1_planFor_54 : decode cX1_planFor 54 = .ok (.aload_n 1, 1) := dk_43 (dk_at dksX1_planFor_2 9 rfl rfl)
theorem dX1_planFor_55 : decode cX1_planFor 55 = .ok (.invokevirtual 118, 3) := dk_182 0 118 (dk_at dksX1_planFor_2 10 rfl rfl)
theorem dX1_planFor_58 : decode cX1_planFor 58 = .ok (.invokespecial 235, 3) := dk_183 0 235 (dk_at dksX1_planFor_2 13 rfl rfl)
theorem dX1_planFor_61 : decode cX1_planFor 61 = .ok (.invokevirtual 223, 3) := dk_182 0 223 (dk_at dksX1_planFor_2 16 rfl rfl)
theorem dX1_planFor_64 : decode cX1_planFor 64 = .ok (.pop, 1) := dk_87 (dk_at dksX1_planFor_2 19 rfl rfl)
theorem dX1_planFor_65 : decode cX1_planFor 65 = .ok (.aload_n 3, 1) := dk_45 (dk_at dksX1_planFor_2 20 rfl rfl)
theorem dX1_planFor_66 : decode cX1_planFor 66 = .ok (.invokevirtual 238, 3) := dk_182 0 238 (dk_at dksX1_planFor_2 21 rfl rfl)
theorem dX1_planFor_69 : decode cX1_planFor 69 = .ok (.ifCond .ne 97, 3) := dk_154 0 97 (dk_at dksX1_planFor_3 0 rfl rfl)
theorem dX1_planFor_72 : decode cX1_planFor 72 = .ok (.aload_n 3, 1) := dk_45 (dk_at dksX1_planFor_3 3 rfl rfl)
theorem dX1_planFor_73 : decode cX1_planFor 73 = .ok (.invokevirtual 241, 3) := dk_182 0 241 (dk_at dksX1_planFor_3 4 rfl rfl)
theorem dX1_planFor_76 : decode cX1_planFor 76 = .ok (.checkcast 211, 3) := dk_192 0 211 (dk_at dksX1_planFor_3 7 rfl rfl)
theorem dX1_planFor_79 : decode cX1_planFor 79 = .ok (.astore 5, 2) := dk_58 5 (dk_at dksX1_planFor_3 10 rfl rfl)
theorem dX1_planFor_81 : decode cX1_planFor 81 = .ok (.aload 5, 2) := dk_25 5 (dk_at dksX1_planFor_3 12 rfl rfl)
theorem dX1_planFor_83 : decode cX1_planFor 83 = .ok (.getfield 210, 3) := dk_180 0 210 (dk_at dksX1_planFor_3 14 rfl rfl)
theorem dX1_planFor_86 : decode cX1_planFor 86 = .ok (.aload_n 1, 1) := dk_43 (dk_at dksX1_planFor_3 17 rfl rfl)
theorem dX1_planFor_87 : decode cX1_planFor 87 = .ok (.invokevirtual 118, 3) := dk_182 0 118 (dk_at dksX1_planFor_3 18 rfl rfl)
theorem dX1_planFor_90 : decode cX1_planFor 90 = .ok (.ifCond .ne 6, 3) := dk_154 0 6 (dk_at dksX1_planFor_3 21 rfl rfl)
theorem dX1_planFor_93 : decode cX1_planFor 93 = .ok (.aload 5, 2) := dk_25 5 (dk_at dksX1_planFor_4 0 rfl rfl)
theorem dX1_planFor_95 : decode cX1_planFor 95 = .ok (.areturn, 1) := dk_176 (dk_at dksX1_planFor_4 2 rfl rfl)
theorem dX1_planFor_96 : decode cX1_planFor 96 = .ok (.aload 4, 2) := dk_25 4 (dk_at dksX1_planFor_4 3 rfl rfl)
theorem dX1_planFor_98 : decode cX1_planFor 98 = .ok (.aload 5, 2) := dk_25 5 (dk_at dksX1_planFor_4 5 rfl rfl)
theorem dX1_planFor_100 : decode cX1_planFor 100 = .ok (.getfield 210, 3) := dk_180 0 210 (dk_at dksX1_planFor_4 7 rfl rfl)
theorem dX1_planFor_103 : decode cX1_planFor 103 = .ok (.invokeinterface 244 2, 5) := by decide +kernel
theorem dX1_planFor_108 : decode cX1_planFor 108 = .ok (.checkcast 249, 3) := dk_192 0 249 (dk_at dksX1_planFor_4 15 rfl rfl)
theorem dX1_planFor_111 : decode cX1_planFor 111 = .ok (.astore 6, 2) := dk_58 6 (dk_at dksX1_planFor_4 18 rfl rfl)
theorem dX1_planFor_113 : decode cX1_planFor 113 = .ok (.aload 6, 2) := dk_25 6 (dk_at dksX1_planFor_4 20 rfl rfl)
theorem dX1_planFor_115 : decode cX1_planFor 115 = .ok (.ifnull 17, 3) := dk_198 0 17 (dk_at dksX1_planFor_5 0 rfl rfl)
theorem dX1_planFor_118 : decode cX1_planFor 118 = .ok (.aload 5, 2) := dk_25 5 (dk_at dksX1_planFor_5 3 rfl rfl)
theorem dX1_planFor_120 : decode cX1_planFor 120 = .ok (.getfield 213, 3) := dk_180 0 213 (dk_at dksX1_planFor_5 5 rfl rfl)
theorem dX1_planFor_123 : decode cX1_planFor 123 = .ok (.arraylength, 1) := dk_190 (dk_at dksX1_planFor_5 8 rfl rfl)
theorem dX1_planFor_124 : decode cX1_planFor 124 = .ok (.aload 6, 2) := dk_25 6 (dk_at dksX1_planFor_5 9 rfl rfl)
theorem dX1_planFor_126 : decode cX1_planFor 126 = .ok (.invokevirtual 251, 3) := dk_182 0 251 (dk_at dksX1_planFor_5 11 rfl rfl)
theorem dX1_planFor_129 : decode cX1_planFor 129 = .ok (.if_icmp .ge 34, 3) := dk_162 0 34 (dk_at dksX1_planFor_5 14 rfl rfl)
theorem dX1_planFor_132 : decode cX1_planFor 132 = .ok (.aload 4, 2) := dk_25 4 (dk_at dksX1_planFor_5 17 rfl rfl)
theorem dX1_planFor_134 : decode cX1_planFor 134 = .ok (.aload 5, 2) := dk_25 5 (dk_at dksX1_planFor_5 19 rfl rfl)
theorem dX1_planFor_136 : decode cX1_planFor 136 = .ok (.getfield 210, 3) := dk_180 0 210 (dk_at dksX1_planFor_5 21 rfl rfl)
theorem dX1_planFor_139 : decode cX1_planFor 139 = .ok (.aload 5, 2) := dk_25 5 (dk_at dksX1_planFor_6 0 rfl rfl)
theorem dX1_planFor_141 : decode cX1_planFor 141 = .ok (.getfield 213, 3) := dk_180 0 213 (dk_at dksX1_planFor_6 2 rfl rfl)
theorem dX1_planFor_144 : decode cX1_planFor 144 = .ok (.arraylength, 1) := dk_190 (dk_at dksX1_planFor_6 5 rfl rfl)
theorem dX1_planFor_145 : decode cX1_planFor 145 = .ok (.invokestatic 255, 3) := dk_184 0 255 (dk_at dksX1_planFor_6 6 rfl rfl)
theorem dX1_planFor_148 : decode cX1_planFor 148 = .ok (.invokeinterface 259 3, 5) := by decide +kernel
theorem dX1_planFor_153 : decode cX1_planFor 153 = .ok (.pop, 1) := dk_87 (dk_at dksX1_planFor_6 14 rfl rfl)
theorem dX1_planFor_154 : decode cX1_planFor 154 = .ok (.aload_n 0, 1) := dk_42 (dk_at dksX1_planFor_6 15 rfl rfl)
theorem dX1_planFor_155 : decode cX1_planFor 155 = .ok (.aload 5, 2) := dk_25 5 (dk_at dksX1_planFor_6 16 rfl rfl)
theorem dX1_planFor_157 : decode cX1_planFor 157 = .ok (.aload_n 1, 1) := dk_43 (dk_at dksX1_planFor_6 18 rfl rfl)
theorem dX1_planFor_158 : decode cX1_planFor 158 = .ok (.iload_n 2, 1) := dk_28 (dk_at dksX1_planFor_6 19 rfl rfl)
theorem dX1_planFor_159 : decode cX1_planFor 159 = .ok (.aload_n 3, 1) := dk_45 (dk_at dksX1_planFor_6 20 rfl rfl)
theorem dX1_planFor_160 : decode cX1_planFor 160 = .ok (.invokevirtual 263, 3) := dk_182 1 7 (dk_at dksX1_planFor_6 21 rfl rfl)
theorem dX1_planFor_163 : decode cX1_planFor 163 = .ok (.goto (-98), 3) := dk_167 255 158 (dk_at dksX1_planFor_7 0 rfl rfl)
theorem dX1_planFor_166 : decode cX1_planFor 166 = .ok (.aconst_null, 1) := dk_1 (dk_at dksX1_planFor_7 3 rfl rfl)
theorem dX1_planFor_167 : decode cX1_planFor 167 = .ok (.areturn, 1) := dk_176 (dk_at dksX1_planFor_7 4 rfl rfl)
abbrev cX1_goOn : ByteArray := prog_1_method_32_code
def yX1_goOn : MethodName := ⟨RX1, "goOn", "(LQuaylock$Plan;LQuaylock$Box;ILjava/util/PriorityQueue;)V"⟩
def dkwX1_goOn_7 : List UInt8 := [21, 10, 182, 0, 219, 182, 0, 223, 87, 132, 6, 1, 167, 255, 95, 132, 5, 1, 167, 255, 77, 177]
abbrev dktX1_goOn_7 : List UInt8 := dkwX1_goOn_7 ++ []
def dkwX1_goOn_6 : List UInt8 := [25, 11, 21, 6, 25, 11, 21, 8, 182, 0, 200, 182, 0, 97, 25, 4, 43, 25, 11, 21, 5, 21, 6]
abbrev dktX1_goOn_6 : List UInt8 := dkwX1_goOn_6 ++ dktX1_goOn_7
def dkwX1_goOn_5 : List UInt8 := [43, 180, 0, 213, 190, 4, 96, 21, 10, 96, 29, 163, 0, 44, 43, 180, 0, 210, 182, 0, 215, 58, 11]
abbrev dktX1_goOn_5 : List UInt8 := dkwX1_goOn_5 ++ dktX1_goOn_6
def dkwX1_goOn_4 : List UInt8 := [160, 0, 7, 4, 167, 0, 4, 3, 96, 21, 8, 21, 9, 160, 0, 7, 4, 167, 0, 4, 3, 100, 54, 10]
abbrev dktX1_goOn_4 : List UInt8 := dkwX1_goOn_4 ++ dktX1_goOn_5
def dkwX1_goOn_3 : List UInt8 := [54, 8, 43, 180, 0, 210, 44, 182, 0, 111, 54, 9, 43, 180, 0, 210, 44, 182, 0, 118, 21, 6, 21, 9]
abbrev dktX1_goOn_3 : List UInt8 := dkwX1_goOn_3 ++ dktX1_goOn_4
def dkwX1_goOn_2 : List UInt8 := [180, 0, 210, 25, 7, 21, 6, 182, 0, 196, 16, 45, 160, 0, 115, 43, 180, 0, 210, 25, 7, 182, 0, 111]
abbrev dktX1_goOn_2 : List UInt8 := dkwX1_goOn_2 ++ dktX1_goOn_3
def dkwX1_goOn_1 : List UInt8 := [42, 180, 0, 22, 21, 5, 50, 58, 7, 25, 7, 198, 0, 138, 25, 7, 44, 165, 0, 132, 42, 43]
abbrev dktX1_goOn_1 : List UInt8 := dkwX1_goOn_1 ++ dktX1_goOn_2
def dkwX1_goOn_0 : List UInt8 := [3, 54, 5, 21, 5, 42, 180, 0, 55, 162, 0, 176, 3, 54, 6, 21, 6, 42, 180, 0, 71, 162, 0, 158]
abbrev dktX1_goOn_0 : List UInt8 := dkwX1_goOn_0 ++ dktX1_goOn_1
theorem dksX1_goOn_0 : cX1_goOn.data.toList.drop 0 = dktX1_goOn_0 := by decide +kernel
theorem dksX1_goOn_1 : cX1_goOn.data.toList.drop 24 = dktX1_goOn_1 := dk_seg dksX1_goOn_0 24 rfl rfl
theorem dksX1_goOn_2 : cX1_goOn.data.toList.drop 46 = dktX1_goOn_2 := dk_seg dksX1_goOn_1 22 rfl rfl
theorem dksX1_goOn_3 : cX1_goOn.data.toList.drop 70 = dktX1_goOn_3 := dk_seg dksX1_goOn_2 24 rfl rfl
theorem dksX1_goOn_4 : cX1_goOn.data.toList.drop 94 = dktX1_goOn_4 := dk_seg dksX1_goOn_3 24 rfl rfl
theorem dksX1_goOn_5 : cX1_goOn.data.toList.drop 118 = dktX1_goOn_5 := dk_seg dksX1_goOn_4 24 rfl rfl
theorem dksX1_goOn_6 : cX1_goOn.data.toList.drop 141 = dktX1_goOn_6 := dk_seg dksX1_goOn_5 23 rfl rfl
theorem dksX1_goOn_7 : cX1_goOn.data.toList.drop 164 = dktX1_goOn_7 := dk_seg dksX1_goOn_6 23 rfl rfl
theorem dX1_goOn_0 : decode cX1_goOn 0 = .ok (.iconst 0, 1) := dk_3 (dk_at dksX1_goOn_0 0 rfl rfl)
theorem dX1_goOn_1 : decode cX1_goOn 1 = .ok (.istore 5, 2) := dk_54 5 (dk_at dksX1_goOn_0 1 rfl rfl)
theorem dX1_goOn_3 : decode cX1_goOn 3 = .ok (.iload 5, 2) := dk_21 5 (dk_at dksX1_goOn_0 3 rfl rfl)
theorem dX1_goOn_5 : decode cX1_goOn 5 = .ok (.aload_n 0, 1) := dk_42 (dk_at dksX1_goOn_0 5 rfl rfl)
theorem dX1_goOn_6 : decode cX1_goOn 6 = .ok (.getfield 55, 3) := dk_180 0 55 (dk_at dksX1_goOn_0 6 rfl rfl)
theorem dX1_goOn_9 : decode cX1_goOn 9 = .ok (.if_icmp .ge 176, 3) := dk_162 0 176 (dk_at dksX1_goOn_0 9 rfl rfl)
theorem dX1_goOn_12 : decode cX1_goOn 12 = .ok (.iconst 0, 1) := dk_3 (dk_at dksX1_goOn_0 12 rfl rfl)
theorem dX1_goOn_13 : decode cX1_goOn 13 = .ok (.istore 6, 2) := dk_54 6 (dk_at dksX1_goOn_0 13 rfl rfl)
theorem dX1_goOn_15 : decode cX1_goOn 15 = .ok (.iload 6, 2) := dk_21 6 (dk_at dksX1_goOn_0 15 rfl rfl)
theorem dX1_goOn_17 : decode cX1_goOn 17 = .ok (.aload_n 0, 1) := dk_42 (dk_at dksX1_goOn_0 17 rfl rfl)
theorem dX1_goOn_18 : decode cX1_goOn 18 = .ok (.getfield 71, 3) := dk_180 0 71 (dk_at dksX1_goOn_0 18 rfl rfl)
theorem dX1_goOn_21 : decode cX1_goOn 21 = .ok (.if_icmp .ge 158, 3) := dk_162 0 158 (dk_at dksX1_goOn_0 21 rfl rfl)
theorem dX1_goOn_24 : decode cX1_goOn 24 = .ok (.aload_n 0, 1) := dk_42 (dk_at dksX1_goOn_1 0 rfl rfl)
theorem dX1_goOn_25 : decode cX1_goOn 25 = .ok (.getfield 22, 3) := dk_180 0 22 (dk_at dksX1_goOn_1 1 rfl rfl)
theorem dX1_goOn_28 : decode cX1_goOn 28 = .ok (.iload 5, 2) := dk_21 5 (dk_at dksX1_goOn_1 4 rfl rfl)
theorem dX1_goOn_30 : decode cX1_goOn 30 = .ok (.aaload, 1) := dk_50 (dk_at dksX1_goOn_1 6 rfl rfl)
theorem dX1_goOn_31 : decode cX1_goOn 31 = .ok (.astore 7, 2) := dk_58 7 (dk_at dksX1_goOn_1 7 rfl rfl)
theorem dX1_goOn_33 : decode cX1_goOn 33 = .ok (.aload 7, 2) := dk_25 7 (dk_at dksX1_goOn_1 9 rfl rfl)
theorem dX1_goOn_35 : decode cX1_goOn 35 = .ok (.ifnull 138, 3) := dk_198 0 138 (dk_at dksX1_goOn_1 11 rfl rfl)
theorem dX1_goOn_38 : decode cX1_goOn 38 = .ok (.aload 7, 2) := dk_25 7 (dk_at dksX1_goOn_1 14 rfl rfl)
theorem dX1_goOn_40 : decode cX1_goOn 40 = .ok (.aload_n 2, 1) := dk_44 (dk_at dksX1_goOn_1 16 rfl rfl)
theorem dX1_goOn_41 : decode cX1_goOn 41 = .ok (.if_acmp .eq 132, 3) := dk_165 0 132 (dk_at dksX1_goOn_1 17 rfl rfl)
theorem dX1_goOn_44 : decode cX1_goOn 44 = .ok (.aload_n 0, 1) := dk_42 (dk_at dksX1_goOn_1 20 rfl rfl)
theorem dX1_goOn_45 : decode cX1_goOn 45 = .ok (.aload_n 1, 1) := dk_43 (dk_at dksX1_goOn_1 21 rfl rfl)
theorem dX1_goOn_46 : decode cX1_goOn 46 = .ok (.getfield 210, 3) := dk_180 0 210 (dk_at dksX1_goOn_2 0 rfl rfl)
theorem dX1_goOn_49 : decode cX1_goOn 49 = .ok (.aload 7, 2) := dk_25 7 (dk_at dksX1_goOn_2 3 rfl rfl)
theorem dX1_goOn_51 : decode cX1_goOn 51 = .ok (.iload 6, 2) := dk_21 6 (dk_at dksX1_goOn_2 5 rfl rfl)
theorem dX1_goOn_53 : decode cX1_goOn 53 = .ok (.invokevirtual 196, 3) := dk_182 0 196 (dk_at dksX1_goOn_2 7 rfl rfl)
theorem dX1_goOn_56 : decode cX1_goOn 56 = .ok (.bipush 45, 2) := dk_16 45 (dk_at dksX1_goOn_2 10 rfl rfl)
theorem dX1_goOn_58 : decode cX1_goOn 58 = .ok (.if_icmp .ne 115, 3) := dk_160 0 115 (dk_at dksX1_goOn_2 12 rfl rfl)
theorem dX1_goOn_61 : decode cX1_goOn 61 = .ok (.aload_n 1, 1) := dk_43 (dk_at dksX1_goOn_2 15 rfl rfl)
theorem dX1_goOn_62 : decode cX1_goOn 62 = .ok (.getfield 210, 3) := dk_180 0 210 (dk_at dksX1_goOn_2 16 rfl rfl)
theorem dX1_goOn_65 : decode cX1_goOn 65 = .ok (.aload 7, 2) := dk_25 7 (dk_at dksX1_goOn_2 19 rfl rfl)
theorem dX1_goOn_67 : decode cX1_goOn 67 = .ok (.invokevirtual 111, 3) := dk_182 0 111 (dk_at dksX1_goOn_2 21 rfl rfl)
theorem dX1_goOn_70 : decode cX1_goOn 70 = .ok (.istore 8, 2) := dk_54 8 (dk_at dksX1_goOn_3 0 rfl rfl)
theorem dX1_goOn_72 : decode cX1_goOn 72 = .ok (.aload_n 1, 1) := dk_43 (dk_at dksX1_goOn_3 2 rfl rfl)
theorem dX1_goOn_73 : decode cX1_goOn 73 = .ok (.getfield 210, 3) := dk_180 0 210 (dk_at dksX1_goOn_3 3 rfl rfl)
theorem dX1_goOn_76 : decode cX1_goOn 76 = .ok (.aload_n 2, 1) := dk_44 (dk_at dksX1_goOn_3 6 rfl rfl)
theorem dX1_goOn_77 : decode cX1_goOn 77 = .ok (.invokevirtual 111, 3) := dk_182 0 111 (dk_at dksX1_goOn_3 7 rfl rfl)
theorem dX1_goOn_80 : decode cX1_goOn 80 = .ok (.istore 9, 2) := dk_54 9 (dk_at dksX1_goOn_3 10 rfl rfl)
theorem dX1_goOn_82 : decode cX1_goOn 82 = .ok (.aload_n 1, 1) := dk_43 (dk_at dksX1_goOn_3 12 rfl rfl)
theorem dX1_goOn_83 : decode cX1_goOn 83 = .ok (.getfield 210, 3) := dk_180 0 210 (dk_at dksX1_goOn_3 13 rfl rfl)
theorem dX1_goOn_86 : decode cX1_goOn 86 = .ok (.aload_n 2, 1) := dk_44 (dk_at dksX1_goOn_3 16 rfl rfl)
theorem dX1_goOn_87 : decode cX1_goOn 87 = .ok (.invokevirtual 118, 3) := dk_182 0 118 (dk_at dksX1_goOn_3 17 rfl rfl)
theorem dX1_goOn_90 : decode cX1_goOn 90 = .ok (.iload 6, 2) := dk_21 6 (dk_at dksX1_goOn_3 20 rfl rfl)
theorem dX1_goOn_92 : decode cX1_goOn 92 = .ok (.iload 9, 2) := dk_21 9 (dk_at dksX1_goOn_3 22 rfl rfl)
theorem dX1_goOn_94 : decode cX1_goOn 94 = .ok (.if_icmp .ne 7, 3) := dk_160 0 7 (dk_at dksX1_goOn_4 0 rfl rfl)
theorem dX1_goOn_97 : decode cX1_goOn 97 = .ok (.iconst 1, 1) := dk_4 (dk_at dksX1_goOn_4 3 rfl rfl)
theorem dX1_goOn_98 : decode cX1_goOn 98 = .ok (.goto 4, 3) := dk_167 0 4 (dk_at dksX1_goOn_4 4 rfl rfl)
theorem dX1_goOn_101 : decode cX1_goOn 101 = .ok (.iconst 0, 1) := dk_3 (dk_at dksX1_goOn_4 7 rfl rfl)
theorem dX1_goOn_102 : decode cX1_goOn 102 = .ok (.iadd, 1) := dk_96 (dk_at dksX1_goOn_4 8 rfl rfl)
theorem dX1_goOn_103 : decode cX1_goOn 103 = .ok (.iload 8, 2) := dk_21 8 (dk_at dksX1_goOn_4 9 rfl rfl)
theorem dX1_goOn_105 : decode cX1_goOn 105 = .ok (.iload 9, 2) := dk_21 9 (dk_at dksX1_goOn_4 11 rfl rfl)
theorem dX1_goOn_107 : decode cX1_goOn 107 = .ok (.if_icmp .ne 7, 3) := dk_160 0 7 (dk_at dksX1_goOn_4 13 rfl rfl)
theorem dX1_goOn_110 : decode cX1_goOn 110 = .ok (.iconst 1, 1) := dk_4 (dk_at dksX1_goOn_4 16 rfl rfl)
theorem dX1_goOn_111 : decode cX1_goOn 111 = .ok (.goto 4, 3) := dk_167 0 4 (dk_at dksX1_goOn_4 17 rfl rfl)
theorem dX1_goOn_114 : decode cX1_goOn 114 = .ok (.iconst 0, 1) := dk_3 (dk_at dksX1_goOn_4 20 rfl rfl)
theorem dX1_goOn_115 : decode cX1_goOn 115 = .ok (.isub, 1) := dk_100 (dk_at dksX1_goOn_4 21 rfl rfl)
theorem dX1_goOn_116 : decode cX1_goOn 116 = .ok (.istore 10, 2) := dk_54 10 (dk_at dksX1_goOn_4 22 rfl rfl)
theorem dX1_goOn_118 : decode cX1_goOn 118 = .ok (.aload_n 1, 1) := dk_43 (dk_at dksX1_goOn_5 0 rfl rfl)
theorem dX1_goOn_119 : decode cX1_goOn 119 = .ok (.getfield 213, 3) := dk_180 0 213 (dk_at dksX1_goOn_5 1 rfl rfl)
theorem dX1_goOn_122 : decode cX1_goOn 122 = .ok (.arraylength, 1) := dk_190 (dk_at dksX1_goOn_5 4 rfl rfl)
theorem dX1_goOn_123 : decode cX1_goOn 123 = .ok (.iconst 1, 1) := dk_4 (dk_at dksX1_goOn_5 5 rfl rfl)
theorem dX1_goOn_124 : decode cX1_goOn 124 = .ok (.iadd, 1) := dk_96 (dk_at dksX1_goOn_5 6 rfl rfl)
theorem dX1_goOn_125 : decode cX1_goOn 125 = .ok (.iload 10, 2) := dk_21 10 (dk_at dksX1_goOn_5 7 rfl rfl)
theorem dX1_goOn_127 : decode cX1_goOn 127 = .ok (.iadd, 1) := dk_96 (dk_at dksX1_goOn_5 9 rfl rfl)
theorem dX1_goOn_128 : decode cX1_goOn 128 = .ok (.iload_n 3, 1) := dk_29 (dk_at dksX1_goOn_5 10 rfl rfl)
theorem dX1_goOn_129 : decode cX1_goOn 129 = .ok (.if_icmp .gt 44, 3) := dk_163 0 44 (dk_at dksX1_goOn_5 11 rfl rfl)
theorem dX1_goOn_132 : decode cX1_goOn 132 = .ok (.aload_n 1, 1) := dk_43 (dk_at dksX1_goOn_5 14 rfl rfl)
theorem dX1_goOn_133 : decode cX1_goOn 133 = .ok (.getfield 210, 3) := dk_180 0 210 (dk_at dksX1_goOn_5 15 rfl rfl)
theorem dX1_goOn_136 : decode cX1_goOn 136 = .ok (.invokevirtual 215, 3) := dk_182 0 215 (dk_at dksX1_goOn_5 18 rfl rfl)
theorem dX1_goOn_139 : decode cX1_goOn 139 = .ok (.astore 11, 2) := dk_58 11 (dk_at dksX1_goOn_5 21 rfl rfl)
theorem dX1_goOn_141 : decode cX1_goOn 141 = .ok (.aload 11, 2) := dk_25 11 (dk_at dksX1_goOn_6 0 rfl rfl)
theorem dX1_goOn_143 : decode cX1_goOn 143 = .ok (.iload 6, 2) := dk_21 6 (dk_at dksX1_goOn_6 2 rfl rfl)
theorem dX1_goOn_145 : decode cX1_goOn 145 = .ok (.aload 11, 2) := dk_25 11 (dk_at dksX1_goOn_6 4 rfl rfl)
theorem dX1_goOn_147 : decode cX1_goOn 147 = .ok (.iload 8, 2) := dk_21 8 (dk_at dksX1_goOn_6 6 rfl rfl)
theorem dX1_goOn_149 : decode cX1_goOn 149 = .ok (.invokevirtual 200, 3) := dk_182 0 200 (dk_at dksX1_goOn_6 8 rfl rfl)
theorem dX1_goOn_152 : decode cX1_goOn 152 = .ok (.invokevirtual 97, 3) := dk_182 0 97 (dk_at dksX1_goOn_6 11 rfl rfl)
theorem dX1_goOn_155 : decode cX1_goOn 155 = .ok (.aload 4, 2) := dk_25 4 (dk_at dksX1_goOn_6 14 rfl rfl)
theorem dX1_goOn_157 : decode cX1_goOn 157 = .ok (.aload_n 1, 1) := dk_43 (dk_at dksX1_goOn_6 16 rfl rfl)
theorem dX1_goOn_158 : decode cX1_goOn 158 = .ok (.aload 11, 2) := dk_25 11 (dk_at dksX1_goOn_6 17 rfl rfl)
theorem dX1_goOn_160 : decode cX1_goOn 160 = .ok (.iload 5, 2) := dk_21 5 (dk_at dksX1_goOn_6 19 rfl rfl)
theorem dX1_goOn_162 : decode cX1_goOn 162 = .ok (.iload 6, 2) := dk_21 6 (dk_at dksX1_goOn_6 21 rfl rfl)
theorem dX1_goOn_164 : decode cX1_goOn 164 = .ok (.iload 10, 2) := dk_21 10 (dk_at dksX1_goOn_7 0 rfl rfl)
theorem dX1_goOn_166 : decode cX1_goOn 166 = .ok (.invokevirtual 219, 3) := dk_182 0 219 (dk_at dksX1_goOn_7 2 rfl rfl)
theorem dX1_goOn_169 : decode cX1_goOn 169 = .ok (.invokevirtual 223, 3) := dk_182 0 223 (dk_at dksX1_goOn_7 5 rfl rfl)
theorem dX1_goOn_172 : decode cX1_goOn 172 = .ok (.pop, 1) := dk_87 (dk_at dksX1_goOn_7 8 rfl rfl)
theorem dX1_goOn_173 : decode cX1_goOn 173 = .ok (.iinc 6 1, 3) := dk_132 6 1 (dk_at dksX1_goOn_7 9 rfl rfl)
theorem dX1_goOn_176 : decode cX1_goOn 176 = .ok (.goto (-161), 3) := dk_167 255 95 (dk_at dksX1_goOn_7 12 rfl rfl)
theorem dX1_goOn_179 : decode cX1_goOn 179 = .ok (.iinc 5 1, 3) := dk_132 5 1 (dk_at dksX1_goOn_7 15 rfl rfl)
theorem dX1_goOn_182 : decode cX1_goOn 182 = .ok (.goto (-179), 3) := dk_167 255 77 (dk_at dksX1_goOn_7 18 rfl rfl)
theorem dX1_goOn_185 : decode cX1_goOn 185 = .ok (.return_, 1) := dk_177 (dk_at dksX1_goOn_7 21 rfl rfl)
abbrev cX1_planByTrying : ByteArray := prog_1_method_37_code
def yX1_planByTrying : MethodName := ⟨RX1, "planByTrying", "(I)I"⟩
def dkwX1_planByTrying_2 : List UInt8 := [132, 4, 1, 167, 255, 225, 187, 0, 46, 89, 183, 0, 48, 191]
abbrev dktX1_planByTrying_2 : List UInt8 := dkwX1_planByTrying_2 ++ []
def dkwX1_planByTrying_1 : List UInt8 := [163, 0, 29, 42, 42, 180, 0, 10, 182, 0, 215, 44, 21, 4, 182, 1, 19, 153, 0, 6, 21, 4, 172]
abbrev dktX1_planByTrying_1 : List UInt8 := dkwX1_planByTrying_1 ++ dktX1_planByTrying_2
def dkwX1_planByTrying_0 : List UInt8 := [42, 27, 182, 0, 104, 77, 42, 180, 0, 10, 44, 182, 0, 118, 62, 29, 54, 4, 21, 4, 29, 4, 96]
abbrev dktX1_planByTrying_0 : List UInt8 := dkwX1_planByTrying_0 ++ dktX1_planByTrying_1
theorem dksX1_planByTrying_0 : cX1_planByTrying.data.toList.drop 0 = dktX1_planByTrying_0 := by decide +kernel
theorem dksX1_planByTrying_1 : cX1_planByTrying.data.toList.drop 23 = dktX1_planByTrying_1 := dk_seg dksX1_planByTrying_0 23 rfl rfl
theorem dksX1_planByTrying_2 : cX1_planByTrying.data.toList.drop 46 = dktX1_planByTrying_2 := dk_seg dksX1_planByTrying_1 23 rfl rfl
theorem dX1_planByTrying_0 : decode cX1_planByTrying 0 = .ok (.aload_n 0, 1) := dk_42 (dk_at dksX1_planByTrying_0 0 rfl rfl)
theorem dX1_planByTrying_1 : decode cX1_planByTrying 1 = .ok (.iload_n 1, 1) := dk_27 (dk_at dksX1_planByTrying_0 1 rfl rfl)
theorem dX1_planByTrying_2 : decode cX1_planByTrying 2 = .ok (.invokevirtual 104, 3) := dk_182 0 104 (dk_at dksX1_planByTrying_0 2 rfl rfl)
theorem dX1_planByTrying_5 : decode cX1_planByTrying 5 = .ok (.astore_n 2, 1) := dk_77 (dk_at dksX1_planByTrying_0 5 rfl rfl)
theorem dX1_planByTrying_6 : decode cX1_planByTrying 6 = .ok (.aload_n 0, 1) := dk_42 (dk_at dksX1_planByTrying_0 6 rfl rfl)
theorem dX1_planByTrying_7 : decode cX1_planByTrying 7 = .ok (.getfield 10, 3) := dk_180 0 10 (dk_at dksX1_planByTrying_0 7 rfl rfl)
theorem dX1_planByTrying_10 : decode cX1_planByTrying 10 = .ok (.aload_n 2, 1) := dk_44 (dk_at dksX1_planByTrying_0 10 rfl rfl)
theorem dX1_planByTrying_11 : decode cX1_planByTrying 11 = .ok (.invokevirtual 118, 3) := dk_182 0 118 (dk_at dksX1_planByTrying_0 11 rfl rfl)
theorem dX1_planByTrying_14 : decode cX1_planByTrying 14 = .ok (.istore_n 3, 1) := dk_62 (dk_at dksX1_planByTrying_0 14 rfl rfl)
theorem dX1_planByTrying_15 : decode cX1_planByTrying 15 = .ok (.iload_n 3, 1) := dk_29 (dk_at dksX1_planByTrying_0 15 rfl rfl)
theorem dX1_planByTrying_16 : decode cX1_planByTrying 16 = .ok (.istore 4, 2) := dk_54 4 (dk_at dksX1_planByTrying_0 16 rfl rfl)
theorem dX1_planByTrying_18 : decode cX1_planByTrying 18 = .ok (.iload 4, 2) := dk_21 4 (dk_at dksX1_planByTrying_0 18 rfl rfl)
theorem dX1_planByTrying_20 : decode cX1_planByTrying 20 = .ok (.iload_n 3, 1) := dk_29 (dk_at dksX1_planByTrying_0 20 rfl rfl)
theorem dX1_planByTrying_21 : decode cX1_planByTrying 21 = .ok (.iconst 1, 1) := dk_4 (dk_at dksX1_planByTrying_0 21 rfl rfl)
theorem dX1_planByTrying_22 : decode cX1_planByTrying 22 = .ok (.iadd, 1) := dk_96 (dk_at dksX1_planByTrying_0 22 rfl rfl)
theorem dX1_planByTrying_23 : decode cX1_planByTrying 23 = .ok (.if_icmp .gt 29, 3) := dk_163 0 29 (dk_at dksX1_planByTrying_1 0 rfl rfl)
theorem dX1_planByTrying_26 : decode cX1_planByTrying 26 = .ok (.aload_n 0, 1) := dk_42 (dk_at dksX1_planByTrying_1 3 rfl rfl)
theorem dX1_planByTrying_27 : decode cX1_planByTrying 27 = .ok (.aload_n 0, 1) := dk_42 (dk_at dksX1_planByTrying_1 4 rfl rfl)
theorem dX1_planByTrying_28 : decode cX1_planByTrying 28 = .ok (.getfield 10, 3) := dk_180 0 10 (dk_at dksX1_planByTrying_1 5 rfl rfl)
theorem dX1_planByTrying_31 : decode cX1_planByTrying 31 = .ok (.invokevirtual 215, 3) := dk_182 0 215 (dk_at dksX1_planByTrying_1 8 rfl rfl)
theorem dX1_planByTrying_34 : decode cX1_planByTrying 34 = .ok (.aload_n 2, 1) := dk_44 (dk_at dksX1_planByTrying_1 11 rfl rfl)
theorem dX1_planByTrying_35 : decode cX1_planByTrying 35 = .ok (.iload 4, 2) := dk_21 4 (dk_at dksX1_planByTrying_1 12 rfl rfl)
theorem dX1_planByTrying_37 : decode cX1_planByTrying 37 = .ok (.invokevirtual 275, 3) := dk_182 1 19 (dk_at dksX1_planByTrying_1 14 rfl rfl)
theorem dX1_planByTrying_40 : decode cX1_planByTrying 40 = .ok (.ifCond .eq 6, 3) := dk_153 0 6 (dk_at dksX1_planByTrying_1 17 rfl rfl)
theorem dX1_planByTrying_43 : decode cX1_planByTrying 43 = .ok (.iload 4, 2) := dk_21 4 (dk_at dksX1_planByTrying_1 20 rfl rfl)
theorem dX1_planByTrying_45 : decode cX1_planByTrying 45 = .ok (.ireturn, 1) := dk_172 (dk_at dksX1_planByTrying_1 22 rfl rfl)
theorem dX1_planByTrying_46 : decode cX1_planByTrying 46 = .ok (.iinc 4 1, 3) := dk_132 4 1 (dk_at dksX1_planByTrying_2 0 rfl rfl)
theorem dX1_planByTrying_49 : decode cX1_planByTrying 49 = .ok (.goto (-31), 3) := dk_167 255 225 (dk_at dksX1_planByTrying_2 3 rfl rfl)
theorem dX1_planByTrying_52 : decode cX1_planByTrying 52 = .ok (.new 46, 3) := dk_187 0 46 (dk_at dksX1_planByTrying_2 6 rfl rfl)
theorem dX1_planByTrying_55 : decode cX1_planByTrying 55 = .ok (.dup, 1) := dk_89 (dk_at dksX1_planByTrying_2 9 rfl rfl)
theorem dX1_planByTrying_56 : decode cX1_planByTrying 56 = .ok (.invokespecial 48, 3) := dk_183 0 48 (dk_at dksX1_planByTrying_2 10 rfl rfl)
theorem dX1_planByTrying_59 : decode cX1_planByTrying 59 = .ok (.athrow, 1) := dk_191 (dk_at dksX1_planByTrying_2 13 rfl rfl)
abbrev cX1_canDig : ByteArray := prog_1_method_36_code
def yX1_canDig : MethodName := ⟨RX1, "canDig", "(LQuaylock$Yard;LQuaylock$Box;I)Z"⟩
def dkwX1_canDig_5 : List UInt8 := [182, 0, 97, 21, 8, 153, 0, 5, 4, 172, 132, 5, 1, 167, 255, 160, 132, 4, 1, 167, 255, 142, 3, 172]
abbrev dktX1_canDig_5 : List UInt8 := dkwX1_canDig_5 ++ []
def dkwX1_canDig_4 : List UInt8 := [182, 0, 97, 42, 43, 44, 29, 4, 100, 182, 1, 19, 54, 8, 43, 21, 7, 43, 21, 5, 182, 0, 200]
abbrev dktX1_canDig_4 : List UInt8 := dkwX1_canDig_4 ++ dktX1_canDig_5
def dkwX1_canDig_3 : List UInt8 := [16, 45, 160, 0, 53, 43, 25, 6, 182, 0, 111, 54, 7, 43, 21, 5, 43, 21, 7, 182, 0, 200]
abbrev dktX1_canDig_3 : List UInt8 := dkwX1_canDig_3 ++ dktX1_canDig_4
def dkwX1_canDig_2 : List UInt8 := [50, 58, 6, 25, 6, 198, 0, 73, 25, 6, 44, 165, 0, 67, 42, 43, 25, 6, 21, 5, 182, 0, 196]
abbrev dktX1_canDig_2 : List UInt8 := dkwX1_canDig_2 ++ dktX1_canDig_3
def dkwX1_canDig_1 : List UInt8 := [180, 0, 55, 162, 0, 111, 3, 54, 5, 21, 5, 42, 180, 0, 71, 162, 0, 93, 42, 180, 0, 22, 21, 4]
abbrev dktX1_canDig_1 : List UInt8 := dkwX1_canDig_1 ++ dktX1_canDig_2
def dkwX1_canDig_0 : List UInt8 := [29, 154, 0, 17, 43, 44, 182, 0, 118, 154, 0, 7, 4, 167, 0, 4, 3, 172, 3, 54, 4, 21, 4, 42]
abbrev dktX1_canDig_0 : List UInt8 := dkwX1_canDig_0 ++ dktX1_canDig_1
theorem dksX1_canDig_0 : cX1_canDig.data.toList.drop 0 = dktX1_canDig_0 := by decide +kernel
theorem dksX1_canDig_1 : cX1_canDig.data.toList.drop 24 = dktX1_canDig_1 := dk_seg dksX1_canDig_0 24 rfl rfl
theorem dksX1_canDig_2 : cX1_canDig.data.toList.drop 48 = dktX1_canDig_2 := dk_seg dksX1_canDig_1 24 rfl rfl
theorem dksX1_canDig_3 : cX1_canDig.data.toList.drop 71 = dktX1_canDig_3 := dk_seg dksX1_canDig_2 23 rfl rfl
theorem dksX1_canDig_4 : cX1_canDig.data.toList.drop 93 = dktX1_canDig_4 := dk_seg dksX1_canDig_3 22 rfl rfl
theorem dksX1_canDig_5 : cX1_canDig.data.toList.drop 116 = dktX1_canDig_5 := dk_seg dksX1_canDig_4 23 rfl rfl
theorem dX1_canDig_0 : decode cX1_canDig 0 = .ok (.iload_n 3, 1) := dk_29 (dk_at dksX1_canDig_0 0 rfl rfl)
theorem dX1_canDig_1 : decode cX1_canDig 1 = .ok (.ifCond .ne 17, 3) := dk_154 0 17 (dk_at dksX1_canDig_0 1 rfl rfl)
theorem dX1_canDig_4 : decode cX1_canDig 4 = .ok (.aload_n 1, 1) := dk_43 (dk_at dksX1_canDig_0 4 rfl rfl)
theorem dX1_canDig_5 : decode cX1_canDig 5 = .ok (.aload_n 2, 1) := dk_44 (dk_at dksX1_canDig_0 5 rfl rfl)
theorem dX1_canDig_6 : decode cX1_canDig 6 = .ok (.invokevirtual 118, 3) := dk_182 0 118 (dk_at dksX1_canDig_0 6 rfl rfl)
theorem dX1_canDig_9 : decode cX1_canDig 9 = .ok (.ifCond .ne 7, 3) := dk_154 0 7 (dk_at dksX1_canDig_0 9 rfl rfl)
theorem dX1_canDig_12 : decode cX1_canDig 12 = .ok (.iconst 1, 1) := dk_4 (dk_at dksX1_canDig_0 12 rfl rfl)
theorem dX1_canDig_13 : decode cX1_canDig 13 = .ok (.goto 4, 3) := dk_167 0 4 (dk_at dksX1_canDig_0 13 rfl rfl)
theorem dX1_canDig_16 : decode cX1_canDig 16 = .ok (.iconst 0, 1) := dk_3 (dk_at dksX1_canDig_0 16 rfl rfl)
theorem dX1_canDig_17 : decode cX1_canDig 17 = .ok (.ireturn, 1) := dk_172 (dk_at dksX1_canDig_0 17 rfl rfl)
theorem dX1_canDig_18 : decode cX1_canDig 18 = .ok (.iconst 0, 1) := dk_3 (dk_at dksX1_canDig_0 18 rfl rfl)
theorem dX1_canDig_19 : decode cX1_canDig 19 = .ok (.istore 4, 2) := dk_54 4 (dk_at dksX1_canDig_0 19 rfl rfl)
theorem dX1_canDig_21 : decode cX1_canDig 21 = .ok (.iload 4, 2) := dk_21 4 (dk_at dksX1_canDig_0 21 rfl rfl)
theorem dX1_canDig_23 : decode cX1_canDig 23 = .ok (.aload_n 0, 1) := dk_42 (dk_at dksX1_canDig_0 23 rfl rfl)
theorem dX1_canDig_24 : decode cX1_canDig 24 = .ok (.getfield 55, 3) := dk_180 0 55 (dk_at dksX1_canDig_1 0 rfl rfl)
theorem dX1_canDig_27 : decode cX1_canDig 27 = .ok (.if_icmp .ge 111, 3) := dk_162 0 111 (dk_at dksX1_canDig_1 3 rfl rfl)
theorem dX1_canDig_30 : decode cX1_canDig 30 = .ok (.iconst 0, 1) := dk_3 (dk_at dksX1_canDig_1 6 rfl rfl)
theorem dX1_canDig_31 : decode cX1_canDig 31 = .ok (.istore 5, 2) := dk_54 5 (dk_at dksX1_canDig_1 7 rfl rfl)
theorem dX1_canDig_33 : decode cX1_canDig 33 = .ok (.iload 5, 2) := dk_21 5 (dk_at dksX1_canDig_1 9 rfl rfl)
theorem dX1_canDig_35 : decode cX1_canDig 35 = .ok (.aload_n 0, 1) := dk_42 (dk_at dksX1_canDig_1 11 rfl rfl)
theorem dX1_canDig_36 : decode cX1_canDig 36 = .ok (.getfield 71, 3) := dk_180 0 71 (dk_at dksX1_canDig_1 12 rfl rfl)
theorem dX1_canDig_39 : decode cX1_canDig 39 = .ok (.if_icmp .ge 93, 3) := dk_162 0 93 (dk_at dksX1_canDig_1 15 rfl rfl)
theorem dX1_canDig_42 : decode cX1_canDig 42 = .ok (.aload_n 0, 1) := dk_42 (dk_at dksX1_canDig_1 18 rfl rfl)
theorem dX1_canDig_43 : decode cX1_canDig 43 = .ok (.getfield 22, 3) := dk_180 0 22 (dk_at dksX1_canDig_1 19 rfl rfl)
theorem dX1_canDig_46 : decode cX1_canDig 46 = .ok (.iload 4, 2) := dk_21 4 (dk_at dksX1_canDig_1 22 rfl rfl)
theorem dX1_canDig_48 : decode cX1_canDig 48 = .ok (.aaload, 1) := dk_50 (dk_at dksX1_canDig_2 0 rfl rfl)
theorem dX1_canDig_49 : decode cX1_canDig 49 = .ok (.astore 6, 2) := dk_58 6 (dk_at dksX1_canDig_2 1 rfl rfl)
theorem dX1_canDig_51 : decode cX1_canDig 51 = .ok (.aload 6, 2) := dk_25 6 (dk_at dksX1_canDig_2 3 rfl rfl)
theorem dX1_canDig_53 : decode cX1_canDig 53 = .ok (.ifnull 73, 3) := dk_198 0 73 (dk_at dksX1_canDig_2 5 rfl rfl)
theorem dX1_canDig_56 : decode cX1_canDig 56 = .ok (.aload 6, 2) := dk_25 6 (dk_at dksX1_canDig_2 8 rfl rfl)
theorem dX1_canDig_58 : decode cX1_canDig 58 = .ok (.aload_n 2, 1) := dk_44 (dk_at dksX1_canDig_2 10 rfl rfl)
theorem dX1_canDig_59 : decode cX1_canDig 59 = .ok (.if_acmp .eq 67, 3) := dk_165 0 67 (dk_at dksX1_canDig_2 11 rfl rfl)
theorem dX1_canDig_62 : decode cX1_canDig 62 = .ok (.aload_n 0, 1) := dk_42 (dk_at dksX1_canDig_2 14 rfl rfl)
theorem dX1_canDig_63 : decode cX1_canDig 63 = .ok (.aload_n 1, 1) := dk_43 (dk_at dksX1_canDig_2 15 rfl rfl)
theorem dX1_canDig_64 : decode cX1_canDig 64 = .ok (.aload 6, 2) := dk_25 6 (dk_at dksX1_canDig_2 16 rfl rfl)
theorem dX1_canDig_66 : decode cX1_canDig 66 = .ok (.iload 5, 2) := dk_21 5 (dk_at dksX1_canDig_2 18 rfl rfl)
theorem dX1_canDig_68 : decode cX1_canDig 68 = .ok (.invokevirtual 196, 3) := dk_182 0 196 (dk_at dksX1_canDig_2 20 rfl rfl)
theorem dX1_canDig_71 : decode cX1_canDig 71 = .ok (.bipush 45, 2) := dk_16 45 (dk_at dksX1_canDig_3 0 rfl rfl)
theorem dX1_canDig_73 : decode cX1_canDig 73 = .ok (.if_icmp .ne 53, 3) := dk_160 0 53 (dk_at dksX1_canDig_3 2 rfl rfl)
theorem dX1_canDig_76 : decode cX1_canDig 76 = .ok (.aload_n 1, 1) := dk_43 (dk_at dksX1_canDig_3 5 rfl rfl)
theorem dX1_canDig_77 : decode cX1_canDig 77 = .ok (.aload 6, 2) := dk_25 6 (dk_at dksX1_canDig_3 6 rfl rfl)
theorem dX1_canDig_79 : decode cX1_canDig 79 = .ok (.invokevirtual 111, 3) := dk_182 0 111 (dk_at dksX1_canDig_3 8 rfl rfl)
theorem dX1_canDig_82 : decode cX1_canDig 82 = .ok (.istore 7, 2) := dk_54 7 (dk_at dksX1_canDig_3 11 rfl rfl)
theorem dX1_canDig_84 : decode cX1_canDig 84 = .ok (.aload_n 1, 1) := dk_43 (dk_at dksX1_canDig_3 13 rfl rfl)
theorem dX1_canDig_85 : decode cX1_canDig 85 = .ok (.iload 5, 2) := dk_21 5 (dk_at dksX1_canDig_3 14 rfl rfl)
theorem dX1_canDig_87 : decode cX1_canDig 87 = .ok (.aload_n 1, 1) := dk_43 (dk_at dksX1_canDig_3 16 rfl rfl)
theorem dX1_canDig_88 : decode cX1_canDig 88 = .ok (.iload 7, 2) := dk_21 7 (dk_at dksX1_canDig_3 17 rfl rfl)
theorem dX1_canDig_90 : decode cX1_canDig 90 = .ok (.invokevirtual 200, 3) := dk_182 0 200 (dk_at dksX1_canDig_3 19 rfl rfl)
theorem dX1_canDig_93 : decode cX1_canDig 93 = .ok (.invokevirtual 97, 3) := dk_182 0 97 (dk_at dksX1_canDig_4 0 rfl rfl)
theorem dX1_canDig_96 : decode cX1_canDig 96 = .ok (.aload_n 0, 1) := dk_42 (dk_at dksX1_canDig_4 3 rfl rfl)
theorem dX1_canDig_97 : decode cX1_canDig 97 = .ok (.aload_n 1, 1) := dk_43 (dk_at dksX1_canDig_4 4 rfl rfl)
theorem dX1_canDig_98 : decode cX1_canDig 98 = .ok (.aload_n 2, 1) := dk_44 (dk_at dksX1_canDig_4 5 rfl rfl)
theorem dX1_canDig_99 : decode cX1_canDig 99 = .ok (.iload_n 3, 1) := dk_29 (dk_at dksX1_canDig_4 6 rfl rfl)
theorem dX1_canDig_100 : decode cX1_canDig 100 = .ok (.iconst 1, 1) := dk_4 (dk_at dksX1_canDig_4 7 rfl rfl)
theorem dX1_canDig_101 : decode cX1_canDig 101 = .ok (.isub, 1) := dk_100 (dk_at dksX1_canDig_4 8 rfl rfl)
theorem dX1_canDig_102 : decode cX1_canDig 102 = .ok (.invokevirtual 275, 3) := dk_182 1 19 (dk_at dksX1_canDig_4 9 rfl rfl)
theorem dX1_canDig_105 : decode cX1_canDig 105 = .ok (.istore 8, 2) := dk_54 8 (dk_at dksX1_canDig_4 12 rfl rfl)
theorem dX1_canDig_107 : decode cX1_canDig 107 = .ok (.aload_n 1, 1) := dk_43 (dk_at dksX1_canDig_4 14 rfl rfl)
theorem dX1_canDig_108 : decode cX1_canDig 108 = .ok (.iload 7, 2) := dk_21 7 (dk_at dksX1_canDig_4 15 rfl rfl)
theorem dX1_canDig_110 : decode cX1_canDig 110 = .ok (.aload_n 1, 1) := dk_43 (dk_at dksX1_canDig_4 17 rfl rfl)
theorem dX1_canDig_111 : decode cX1_canDig 111 = .ok (.iload 5, 2) := dk_21 5 (dk_at dksX1_canDig_4 18 rfl rfl)
theorem dX1_canDig_113 : decode cX1_canDig 113 = .ok (.invokevirtual 200, 3) := dk_182 0 200 (dk_at dksX1_canDig_4 20 rfl rfl)
theorem dX1_canDig_116 : decode cX1_canDig 116 = .ok (.invokevirtual 97, 3) := dk_182 0 97 (dk_at dksX1_canDig_5 0 rfl rfl)
theorem dX1_canDig_119 : decode cX1_canDig 119 = .ok (.iload 8, 2) := dk_21 8 (dk_at dksX1_canDig_5 3 rfl rfl)
theorem dX1_canDig_121 : decode cX1_canDig 121 = .ok (.ifCond .eq 5, 3) := dk_153 0 5 (dk_at dksX1_canDig_5 5 rfl rfl)
theorem dX1_canDig_124 : decode cX1_canDig 124 = .ok (.iconst 1, 1) := dk_4 (dk_at dksX1_canDig_5 8 rfl rfl)
theorem dX1_canDig_125 : decode cX1_canDig 125 = .ok (.ireturn, 1) := dk_172 (dk_at dksX1_canDig_5 9 rfl rfl)
theorem dX1_canDig_126 : decode cX1_canDig 126 = .ok (.iinc 5 1, 3) := dk_132 5 1 (dk_at dksX1_canDig_5 10 rfl rfl)
theorem dX1_canDig_129 : decode cX1_canDig 129 = .ok (.goto (-96), 3) := dk_167 255 160 (dk_at dksX1_canDig_5 13 rfl rfl)
theorem dX1_canDig_132 : decode cX1_canDig 132 = .ok (.iinc 4 1, 3) := dk_132 4 1 (dk_at dksX1_canDig_5 16 rfl rfl)
theorem dX1_canDig_135 : decode cX1_canDig 135 = .ok (.goto (-114), 3) := dk_167 255 142 (dk_at dksX1_canDig_5 19 rfl rfl)
theorem dX1_canDig_138 : decode cX1_canDig 138 = .ok (.iconst 0, 1) := dk_3 (dk_at dksX1_canDig_5 22 rfl rfl)
theorem dX1_canDig_139 : decode cX1_canDig 139 = .ok (.ireturn, 1) := dk_172 (dk_at dksX1_canDig_5 23 rfl rfl)
abbrev cX1_planBox : ByteArray := prog_1_method_39_code
def yX1_planBox : MethodName := ⟨RX1, "planBox", "(II)I"⟩
def dkwX1_planBox_0 : List UInt8 := [42, 27, 182, 1, 15, 180, 0, 213, 28, 184, 1, 23, 172]
abbrev dktX1_planBox_0 : List UInt8 := dkwX1_planBox_0 ++ []
theorem dksX1_planBox_0 : cX1_planBox.data.toList.drop 0 = dktX1_planBox_0 := by decide +kernel
theorem dX1_planBox_0 : decode cX1_planBox 0 = .ok (.aload_n 0, 1) := dk_42 (dk_at dksX1_planBox_0 0 rfl rfl)
theorem dX1_planBox_1 : decode cX1_planBox 1 = .ok (.iload_n 1, 1) := dk_27 (dk_at dksX1_planBox_0 1 rfl rfl)
theorem dX1_planBox_2 : decode cX1_planBox 2 = .ok (.invokevirtual 271, 3) := dk_182 1 15 (dk_at dksX1_planBox_0 2 rfl rfl)
theorem dX1_planBox_5 : decode cX1_planBox 5 = .ok (.getfield 213, 3) := dk_180 0 213 (dk_at dksX1_planBox_0 5 rfl rfl)
theorem dX1_planBox_8 : decode cX1_planBox 8 = .ok (.iload_n 2, 1) := dk_28 (dk_at dksX1_planBox_0 8 rfl rfl)
theorem dX1_planBox_9 : decode cX1_planBox 9 = .ok (.invokestatic 279, 3) := dk_184 1 23 (dk_at dksX1_planBox_0 9 rfl rfl)
theorem dX1_planBox_12 : decode cX1_planBox 12 = .ok (.ireturn, 1) := dk_172 (dk_at dksX1_planBox_0 12 rfl rfl)
abbrev cX1_numberAt : ByteArray := prog_1_method_38_code
def yX1_numberAt : MethodName := ⟨RX1, "numberAt", "([II)I"⟩
def dkwX1_numberAt_0 : List UInt8 := [27, 3, 42, 190, 4, 100, 184, 0, 59, 184, 0, 124, 42, 27, 46, 172]
abbrev dktX1_numberAt_0 : List UInt8 := dkwX1_numberAt_0 ++ []
theorem dksX1_numberAt_0 : cX1_numberAt.data.toList.drop 0 = dktX1_numberAt_0 := by decide +kernel
theorem dX1_numberAt_0 : decode cX1_numberAt 0 = .ok (.iload_n 1, 1) := dk_27 (dk_at dksX1_numberAt_0 0 rfl rfl)
theorem dX1_numberAt_1 : decode cX1_numberAt 1 = .ok (.iconst 0, 1) := dk_3 (dk_at dksX1_numberAt_0 1 rfl rfl)
theorem dX1_numberAt_2 : decode cX1_numberAt 2 = .ok (.aload_n 0, 1) := dk_42 (dk_at dksX1_numberAt_0 2 rfl rfl)
theorem dX1_numberAt_3 : decode cX1_numberAt 3 = .ok (.arraylength, 1) := dk_190 (dk_at dksX1_numberAt_0 3 rfl rfl)
theorem dX1_numberAt_4 : decode cX1_numberAt 4 = .ok (.iconst 1, 1) := dk_4 (dk_at dksX1_numberAt_0 4 rfl rfl)
theorem dX1_numberAt_5 : decode cX1_numberAt 5 = .ok (.isub, 1) := dk_100 (dk_at dksX1_numberAt_0 5 rfl rfl)
theorem dX1_numberAt_6 : decode cX1_numberAt 6 = .ok (.invokestatic 59, 3) := dk_184 0 59 (dk_at dksX1_numberAt_0 6 rfl rfl)
theorem dX1_numberAt_9 : decode cX1_numberAt 9 = .ok (.invokestatic 124, 3) := dk_184 0 124 (dk_at dksX1_numberAt_0 9 rfl rfl)
theorem dX1_numberAt_12 : decode cX1_numberAt 12 = .ok (.aload_n 0, 1) := dk_42 (dk_at dksX1_numberAt_0 12 rfl rfl)
theorem dX1_numberAt_13 : decode cX1_numberAt 13 = .ok (.iload_n 1, 1) := dk_27 (dk_at dksX1_numberAt_0 13 rfl rfl)
theorem dX1_numberAt_14 : decode cX1_numberAt 14 = .ok (.iaload, 1) := dk_46 (dk_at dksX1_numberAt_0 14 rfl rfl)
theorem dX1_numberAt_15 : decode cX1_numberAt 15 = .ok (.ireturn, 1) := dk_172 (dk_at dksX1_numberAt_0 15 rfl rfl)
abbrev cX1_planStack : ByteArray := prog_1_method_40_code
def yX1_planStack : MethodName := ⟨RX1, "planStack", "(II)I"⟩
def dkwX1_planStack_0 : List UInt8 := [42, 27, 182, 1, 15, 180, 1, 27, 28, 184, 1, 23, 172]
abbrev dktX1_planStack_0 : List UInt8 := dkwX1_planStack_0 ++ []
theorem dksX1_planStack_0 : cX1_planStack.data.toList.drop 0 = dktX1_planStack_0 := by decide +kernel
theorem dX1_planStack_0 : decode cX1_planStack 0 = .ok (.aload_n 0, 1) := dk_42 (dk_at dksX1_planStack_0 0 rfl rfl)
theorem dX1_planStack_1 : decode cX1_planStack 1 = .ok (.iload_n 1, 1) := dk_27 (dk_at dksX1_planStack_0 1 rfl rfl)
theorem dX1_planStack_2 : decode cX1_planStack 2 = .ok (.invokevirtual 271, 3) := dk_182 1 15 (dk_at dksX1_planStack_0 2 rfl rfl)
theorem dX1_planStack_5 : decode cX1_planStack 5 = .ok (.getfield 283, 3) := dk_180 1 27 (dk_at dksX1_planStack_0 5 rfl rfl)
theorem dX1_planStack_8 : decode cX1_planStack 8 = .ok (.iload_n 2, 1) := dk_28 (dk_at dksX1_planStack_0 8 rfl rfl)
theorem dX1_planStack_9 : decode cX1_planStack 9 = .ok (.invokestatic 279, 3) := dk_184 1 23 (dk_at dksX1_planStack_0 9 rfl rfl)
theorem dX1_planStack_12 : decode cX1_planStack 12 = .ok (.ireturn, 1) := dk_172 (dk_at dksX1_planStack_0 12 rfl rfl)
abbrev cX1_dig : ByteArray := prog_1_method_42_code
def yX1_dig : MethodName := ⟨RX1, "dig", "(I)I"⟩
def dkwX1_dig_0 : List UInt8 := [42, 42, 27, 182, 1, 15, 182, 1, 29, 172]
abbrev dktX1_dig_0 : List UInt8 := dkwX1_dig_0 ++ []
theorem dksX1_dig_0 : cX1_dig.data.toList.drop 0 = dktX1_dig_0 := by decide +kernel
theorem dX1_dig_0 : decode cX1_dig 0 = .ok (.aload_n 0, 1) := dk_42 (dk_at dksX1_dig_0 0 rfl rfl)
theorem dX1_dig_1 : decode cX1_dig 1 = .ok (.aload_n 0, 1) := dk_42 (dk_at dksX1_dig_0 1 rfl rfl)
theorem dX1_dig_2 : decode cX1_dig 2 = .ok (.iload_n 1, 1) := dk_27 (dk_at dksX1_dig_0 2 rfl rfl)
theorem dX1_dig_3 : decode cX1_dig 3 = .ok (.invokevirtual 271, 3) := dk_182 1 15 (dk_at dksX1_dig_0 3 rfl rfl)
theorem dX1_dig_6 : decode cX1_dig 6 = .ok (.invokevirtual 285, 3) := dk_182 1 29 (dk_at dksX1_dig_0 6 rfl rfl)
theorem dX1_dig_9 : decode cX1_dig 9 = .ok (.ireturn, 1) := dk_172 (dk_at dksX1_dig_0 9 rfl rfl)
abbrev cX1_make : ByteArray := prog_1_method_41_code
def yX1_make : MethodName := ⟨RX1, "make", "(LQuaylock$Plan;)I"⟩
def dkwX1_make_1 : List UInt8 := [180, 1, 27, 28, 46, 182, 0, 206, 132, 2, 1, 167, 255, 223, 43, 180, 0, 213, 190, 172]
abbrev dktX1_make_1 : List UInt8 := dkwX1_make_1 ++ []
def dkwX1_make_0 : List UInt8 := [3, 61, 28, 43, 180, 0, 213, 190, 162, 0, 30, 42, 42, 180, 0, 22, 43, 180, 0, 213, 28, 46, 50, 43]
abbrev dktX1_make_0 : List UInt8 := dkwX1_make_0 ++ dktX1_make_1
theorem dksX1_make_0 : cX1_make.data.toList.drop 0 = dktX1_make_0 := by decide +kernel
theorem dksX1_make_1 : cX1_make.data.toList.drop 24 = dktX1_make_1 := dk_seg dksX1_make_0 24 rfl rfl
theorem dX1_make_0 : decode cX1_make 0 = .ok (.iconst 0, 1) := dk_3 (dk_at dksX1_make_0 0 rfl rfl)
theorem dX1_make_1 : decode cX1_make 1 = .ok (.istore_n 2, 1) := dk_61 (dk_at dksX1_make_0 1 rfl rfl)
theorem dX1_make_2 : decode cX1_make 2 = .ok (.iload_n 2, 1) := dk_28 (dk_at dksX1_make_0 2 rfl rfl)
theorem dX1_make_3 : decode cX1_make 3 = .ok (.aload_n 1, 1) := dk_43 (dk_at dksX1_make_0 3 rfl rfl)
theorem dX1_make_4 : decode cX1_make 4 = .ok (.getfield 213, 3) := dk_180 0 213 (dk_at dksX1_make_0 4 rfl rfl)
theorem dX1_make_7 : decode cX1_make 7 = .ok (.arraylength, 1) := dk_190 (dk_at dksX1_make_0 7 rfl rfl)
theorem dX1_make_8 : decode cX1_make 8 = .ok (.if_icmp .ge 30, 3) := dk_162 0 30 (dk_at dksX1_make_0 8 rfl rfl)
theorem dX1_make_11 : decode cX1_make 11 = .ok (.aload_n 0, 1) := dk_42 (dk_at dksX1_make_0 11 rfl rfl)
theorem dX1_make_12 : decode cX1_make 12 = .ok (.aload_n 0, 1) := dk_42 (dk_at dksX1_make_0 12 rfl rfl)
theorem dX1_make_13 : decode cX1_make 13 = .ok (.getfield 22, 3) := dk_180 0 22 (dk_at dksX1_make_0 13 rfl rfl)
theorem dX1_make_16 : decode cX1_make 16 = .ok (.aload_n 1, 1) := dk_43 (dk_at dksX1_make_0 16 rfl rfl)
theorem dX1_make_17 : decode cX1_make 17 = .ok (.getfield 213, 3) := dk_180 0 213 (dk_at dksX1_make_0 17 rfl rfl)
theorem dX1_make_20 : decode cX1_make 20 = .ok (.iload_n 2, 1) := dk_28 (dk_at dksX1_make_0 20 rfl rfl)
theorem dX1_make_21 : decode cX1_make 21 = .ok (.iaload, 1) := dk_46 (dk_at dksX1_make_0 21 rfl rfl)
theorem dX1_make_22 : decode cX1_make 22 = .ok (.aaload, 1) := dk_50 (dk_at dksX1_make_0 22 rfl rfl)
theorem dX1_make_23 : decode cX1_make 23 = .ok (.aload_n 1, 1) := dk_43 (dk_at dksX1_make_0 23 rfl rfl)
theorem dX1_make_24 : decode cX1_make 24 = .ok (.getfield 283, 3) := dk_180 1 27 (dk_at dksX1_make_1 0 rfl rfl)
theorem dX1_make_27 : decode cX1_make 27 = .ok (.iload_n 2, 1) := dk_28 (dk_at dksX1_make_1 3 rfl rfl)
theorem dX1_make_28 : decode cX1_make 28 = .ok (.iaload, 1) := dk_46 (dk_at dksX1_make_1 4 rfl rfl)
theorem dX1_make_29 : decode cX1_make 29 = .ok (.invokevirtual 206, 3) := dk_182 0 206 (dk_at dksX1_make_1 5 rfl rfl)
theorem dX1_make_32 : decode cX1_make 32 = .ok (.iinc 2 1, 3) := dk_132 2 1 (dk_at dksX1_make_1 8 rfl rfl)
theorem dX1_make_35 : decode cX1_make 35 = .ok (.goto (-33), 3) := dk_167 255 223 (dk_at dksX1_make_1 11 rfl rfl)
theorem dX1_make_38 : decode cX1_make 38 = .ok (.aload_n 1, 1) := dk_43 (dk_at dksX1_make_1 14 rfl rfl)
theorem dX1_make_39 : decode cX1_make 39 = .ok (.getfield 213, 3) := dk_180 0 213 (dk_at dksX1_make_1 15 rfl rfl)
theorem dX1_make_42 : decode cX1_make 42 = .ok (.arraylength, 1) := dk_190 (dk_at dksX1_make_1 18 rfl rfl)
theorem dX1_make_43 : decode cX1_make 43 = .ok (.ireturn, 1) := dk_172 (dk_at dksX1_make_1 19 rfl rfl)
abbrev cX1_book : ByteArray := prog_1_method_45_code
def yX1_book : MethodName := ⟨RX1, "book", "(III)I"⟩
def dkwX1_book_6 : List UInt8 := [180, 0, 36, 25, 5, 25, 6, 182, 1, 47, 87, 25, 6, 180, 1, 48, 172]
abbrev dktX1_book_6 : List UInt8 := dkwX1_book_6 ++ []
def dkwX1_book_5 : List UInt8 := [25, 4, 25, 5, 183, 1, 43, 58, 6, 42, 180, 0, 29, 25, 6, 185, 1, 46, 2, 0, 87, 42]
abbrev dktX1_book_5 : List UInt8 := dkwX1_book_5 ++ dktX1_book_6
def dkwX1_book_4 : List UInt8 := [162, 0, 7, 4, 167, 0, 4, 3, 184, 0, 77, 187, 0, 147, 89, 42, 180, 0, 29, 185, 1, 40, 1, 0]
abbrev dktX1_book_4 : List UInt8 := dkwX1_book_4 ++ dktX1_book_5
def dkwX1_book_3 : List UInt8 := [42, 180, 0, 36, 25, 5, 182, 1, 37, 154, 0, 21, 42, 180, 0, 29, 185, 1, 40, 1, 0, 16, 30]
abbrev dktX1_book_3 : List UInt8 := dkwX1_book_3 ++ dktX1_book_4
def dkwX1_book_2 : List UInt8 := [3, 184, 0, 91, 187, 0, 179, 89, 28, 29, 183, 1, 36, 58, 5, 42, 25, 4, 182, 0, 174, 199, 0, 33]
abbrev dktX1_book_2 : List UInt8 := dkwX1_book_2 ++ dktX1_book_3
def dkwX1_book_1 : List UInt8 := [163, 0, 7, 4, 167, 0, 4, 3, 184, 0, 74, 25, 4, 28, 182, 0, 183, 154, 0, 7, 4, 167, 0, 4]
abbrev dktX1_book_1 : List UInt8 := dkwX1_book_1 ++ dktX1_book_2
def dkwX1_book_0 : List UInt8 := [42, 27, 182, 0, 104, 58, 4, 29, 184, 1, 33, 28, 42, 180, 0, 165, 164, 0, 14, 28, 17, 3, 231]
abbrev dktX1_book_0 : List UInt8 := dkwX1_book_0 ++ dktX1_book_1
theorem dksX1_book_0 : cX1_book.data.toList.drop 0 = dktX1_book_0 := by decide +kernel
theorem dksX1_book_1 : cX1_book.data.toList.drop 23 = dktX1_book_1 := dk_seg dksX1_book_0 23 rfl rfl
theorem dksX1_book_2 : cX1_book.data.toList.drop 47 = dktX1_book_2 := dk_seg dksX1_book_1 24 rfl rfl
theorem dksX1_book_3 : cX1_book.data.toList.drop 71 = dktX1_book_3 := dk_seg dksX1_book_2 24 rfl rfl
theorem dksX1_book_4 : cX1_book.data.toList.drop 94 = dktX1_book_4 := dk_seg dksX1_book_3 23 rfl rfl
theorem dksX1_book_5 : cX1_book.data.toList.drop 118 = dktX1_book_5 := dk_seg dksX1_book_4 24 rfl rfl
theorem dksX1_book_6 : cX1_book.data.toList.drop 140 = dktX1_book_6 := dk_seg dksX1_book_5 22 rfl rfl
theorem dX1_book_0 : decode cX1_book 0 = .ok (.aload_n 0, 1) := dk_42 (dk_at dksX1_book_0 0 rfl rfl)
theorem dX1_book_1 : decode cX1_book 1 = .ok (.iload_n 1, 1) := dk_27 (dk_at dksX1_book_0 1 rfl rfl)
theorem dX1_book_2 : decode cX1_book 2 = .ok (.invokevirtual 104, 3) := dk_182 0 104 (dk_at dksX1_book_0 2 rfl rfl)
theorem dX1_book_5 : decode cX1_book 5 = .ok (.astore 4, 2) := dk_58 4 (dk_at dksX1_book_0 5 rfl rfl)
theorem dX1_book_7 : decode cX1_book 7 = .ok (.iload_n 3, 1) := dk_29 (dk_at dksX1_book_0 7 rfl rfl)
theorem dX1_book_8 : decode cX1_book 8 = .ok (.invokestatic 289, 3) := dk_184 1 33 (dk_at dksX1_book_0 8 rfl rfl)
theorem dX1_book_11 : decode cX1_book 11 = .ok (.iload_n 2, 1) := dk_28 (dk_at dksX1_book_0 11 rfl rfl)
theorem dX1_book_12 : decode cX1_book 12 = .ok (.aload_n 0, 1) := dk_42 (dk_at dksX1_book_0 12 rfl rfl)
theorem dX1_book_13 : decode cX1_book 13 = .ok (.getfield 165, 3) := dk_180 0 165 (dk_at dksX1_book_0 13 rfl rfl)
theorem dX1_book_16 : decode cX1_book 16 = .ok (.if_icmp .le 14, 3) := dk_164 0 14 (dk_at dksX1_book_0 16 rfl rfl)
theorem dX1_book_19 : decode cX1_book 19 = .ok (.iload_n 2, 1) := dk_28 (dk_at dksX1_book_0 19 rfl rfl)
theorem dX1_book_20 : decode cX1_book 20 = .ok (.sipush 999, 3) := dk_17 3 231 (dk_at dksX1_book_0 20 rfl rfl)
theorem dX1_book_23 : decode cX1_book 23 = .ok (.if_icmp .gt 7, 3) := dk_163 0 7 (dk_at dksX1_book_1 0 rfl rfl)
theorem dX1_book_26 : decode cX1_book 26 = .ok (.iconst 1, 1) := dk_4 (dk_at dksX1_book_1 3 rfl rfl)
theorem dX1_book_27 : decode cX1_book 27 = .ok (.goto 4, 3) := dk_167 0 4 (dk_at dksX1_book_1 4 rfl rfl)
theorem dX1_book_30 : decode cX1_book 30 = .ok (.iconst 0, 1) := dk_3 (dk_at dksX1_book_1 7 rfl rfl)
theorem dX1_book_31 : decode cX1_book 31 = .ok (.invokestatic 74, 3) := dk_184 0 74 (dk_at dksX1_book_1 8 rfl rfl)
theorem dX1_book_34 : decode cX1_book 34 = .ok (.aload 4, 2) := dk_25 4 (dk_at dksX1_book_1 11 rfl rfl)
theorem dX1_book_36 : decode cX1_book 36 = .ok (.iload_n 2, 1) := dk_28 (dk_at dksX1_book_1 13 rfl rfl)
theorem dX1_book_37 : decode cX1_book 37 = .ok (.invokevirtual 183, 3) := dk_182 0 183 (dk_at dksX1_book_1 14 rfl rfl)
theorem dX1_book_40 : decode cX1_book 40 = .ok (.ifCond .ne 7, 3) := dk_154 0 7 (dk_at dksX1_book_1 17 rfl rfl)
theorem dX1_book_43 : decode cX1_book 43 = .ok (.iconst 1, 1) := dk_4 (dk_at dksX1_book_1 20 rfl rfl)
theorem dX1_book_44 : decode cX1_book 44 = .ok (.goto 4, 3) := dk_167 0 4 (dk_at dksX1_book_1 21 rfl rfl)
theorem dX1_book_47 : decode cX1_book 47 = .ok (.iconst 0, 1) := dk_3 (dk_at dksX1_book_2 0 rfl rfl)
theorem dX1_book_48 : decode cX1_book 48 = .ok (.invokestatic 91, 3) := dk_184 0 91 (dk_at dksX1_book_2 1 rfl rfl)
theorem dX1_book_51 : decode cX1_book 51 = .ok (.new 179, 3) := dk_187 0 179 (dk_at dksX1_book_2 4 rfl rfl)
theorem dX1_book_54 : decode cX1_book 54 = .ok (.dup, 1) := dk_89 (dk_at dksX1_book_2 7 rfl rfl)
theorem dX1_book_55 : decode cX1_book 55 = .ok (.iload_n 2, 1) := dk_28 (dk_at dksX1_book_2 8 rfl rfl)
theorem dX1_book_56 : decode cX1_book 56 = .ok (.iload_n 3, 1) := dk_29 (dk_at dksX1_book_2 9 rfl rfl)
theorem dX1_book_57 : decode cX1_book 57 = .ok (.invokespecial 292, 3) := dk_183 1 36 (dk_at dksX1_book_2 10 rfl rfl)
theorem dX1_book_60 : decode cX1_book 60 = .ok (.astore 5, 2) := dk_58 5 (dk_at dksX1_book_2 13 rfl rfl)
theorem dX1_book_62 : decode cX1_book 62 = .ok (.aload_n 0, 1) := dk_42 (dk_at dksX1_book_2 15 rfl rfl)
theorem dX1_book_63 : decode cX1_book 63 = .ok (.aload 4, 2) := dk_25 4 (dk_at dksX1_book_2 16 rfl rfl)
theorem dX1_book_65 : decode cX1_book 65 = .ok (.invokevirtual 174, 3) := dk_182 0 174 (dk_at dksX1_book_2 18 rfl rfl)
theorem dX1_book_68 : decode cX1_book 68 = .ok (.ifnonnull 33, 3) := dk_199 0 33 (dk_at dksX1_book_2 21 rfl rfl)
theorem dX1_book_71 : decode cX1_book 71 = .ok (.aload_n 0, 1) := dk_42 (dk_at dksX1_book_3 0 rfl rfl)
theorem dX1_book_72 : decode cX1_book 72 = .ok (.getfield 36, 3) := dk_180 0 36 (dk_at dksX1_book_3 1 rfl rfl)
theorem dX1_book_75 : decode cX1_book 75 = .ok (.aload 5, 2) := dk_25 5 (dk_at dksX1_book_3 4 rfl rfl)
theorem dX1_book_77 : decode cX1_book 77 = .ok (.invokevirtual 293, 3) := dk_182 1 37 (dk_at dksX1_book_3 6 rfl rfl)
theorem dX1_book_80 : decode cX1_book 80 = .ok (.ifCond .ne 21, 3) := dk_154 0 21 (dk_at dksX1_book_3 9 rfl rfl)
theorem dX1_book_83 : decode cX1_book 83 = .ok (.aload_n 0, 1) := dk_42 (dk_at dksX1_book_3 12 rfl rfl)
theorem dX1_book_84 : decode cX1_book 84 = .ok (.getfield 29, 3) := dk_180 0 29 (dk_at dksX1_book_3 13 rfl rfl)
theorem dX1_book_87 : decode cX1_book 87 = .ok (.invokeinterface 296 1, 5) := by decide +kernel
theorem dX1_book_92 : decode cX1_book 92 = .ok (.bipush 30, 2) := dk_16 30 (dk_at dksX1_book_3 21 rfl rfl)
theorem dX1_book_94 : decode cX1_book 94 = .ok (.if_icmp .ge 7, 3) := dk_162 0 7 (dk_at dksX1_book_4 0 rfl rfl)
theorem dX1_book_97 : decode cX1_book 97 = .ok (.iconst 1, 1) := dk_4 (dk_at dksX1_book_4 3 rfl rfl)
theorem dX1_book_98 : decode cX1_book 98 = .ok (.goto 4, 3) := dk_167 0 4 (dk_at dksX1_book_4 4 rfl rfl)
theorem dX1_book_101 : decode cX1_book 101 = .ok (.iconst 0, 1) := dk_3 (dk_at dksX1_book_4 7 rfl rfl)
theorem dX1_book_102 : decode cX1_book 102 = .ok (.invokestatic 77, 3) := dk_184 0 77 (dk_at dksX1_book_4 8 rfl rfl)
theorem dX1_book_105 : decode cX1_book 105 = .ok (.new 147, 3) := dk_187 0 147 (dk_at dksX1_book_4 11 rfl rfl)
theorem dX1_book_108 : decode cX1_book 108 = .ok (.dup, 1) := dk_89 (dk_at dksX1_book_4 14 rfl rfl)
theorem dX1_book_109 : decode cX1_book 109 = .ok (.aload_n 0, 1) := dk_42 (dk_at dksX1_book_4 15 rfl rfl)
theorem dX1_book_110 : decode cX1_book 110 = .ok (.getfield 29, 3) := dk_180 0 29 (dk_at dksX1_book_4 16 rfl rfl)
theorem dX1_book_113 : decode cX1_book 113 = .ok (.invokeinterface 296 1, 5) := by decide +kernel
theorem dX1_book_118 : decode cX1_book 118 = .ok (.aload 4, 2) := dk_25 4 (dk_at dksX1_book_5 0 rfl rfl)
theorem dX1_book_120 : decode cX1_book 120 = .ok (.aload 5, 2) := dk_25 5 (dk_at dksX1_book_5 2 rfl rfl)
theorem dX1_book_122 : decode cX1_book 122 = .ok (.invokespecial 299, 3) := dk_183 1 43 (dk_at dksX1_book_5 4 rfl rfl)
theorem dX1_book_125 : decode cX1_book 125 = .ok (.astore 6, 2) := dk_58 6 (dk_at dksX1_book_5 7 rfl rfl)
theorem dX1_book_127 : decode cX1_book 127 = .ok (.aload_n 0, 1) := dk_42 (dk_at dksX1_book_5 9 rfl rfl)
theorem dX1_book_128 : decode cX1_book 128 = .ok (.getfield 29, 3) := dk_180 0 29 (dk_at dksX1_book_5 10 rfl rfl)
theorem dX1_book_131 : decode cX1_book 131 = .ok (.aload 6, 2) := dk_25 6 (dk_at dksX1_book_5 13 rfl rfl)
theorem dX1_book_133 : decode cX1_book 133 = .ok (.invokeinterface 302 2, 5) := by decide +kernel
theorem dX1_book_138 : decode cX1_book 138 = .ok (.pop, 1) := dk_87 (dk_at dksX1_book_5 20 rfl rfl)
theorem dX1_book_139 : decode cX1_book 139 = .ok (.aload_n 0, 1) := dk_42 (dk_at dksX1_book_5 21 rfl rfl)
theorem dX1_book_140 : decode cX1_book 140 = .ok (.getfield 36, 3) := dk_180 0 36 (dk_at dksX1_book_6 0 rfl rfl)
theorem dX1_book_143 : decode cX1_book 143 = .ok (.aload 5, 2) := dk_25 5 (dk_at dksX1_book_6 3 rfl rfl)
theorem dX1_book_145 : decode cX1_book 145 = .ok (.aload 6, 2) := dk_25 6 (dk_at dksX1_book_6 5 rfl rfl)
theorem dX1_book_147 : decode cX1_book 147 = .ok (.invokevirtual 303, 3) := dk_182 1 47 (dk_at dksX1_book_6 7 rfl rfl)
theorem dX1_book_150 : decode cX1_book 150 = .ok (.pop, 1) := dk_87 (dk_at dksX1_book_6 10 rfl rfl)
theorem dX1_book_151 : decode cX1_book 151 = .ok (.aload 6, 2) := dk_25 6 (dk_at dksX1_book_6 11 rfl rfl)
theorem dX1_book_153 : decode cX1_book 153 = .ok (.getfield 304, 3) := dk_180 1 48 (dk_at dksX1_book_6 13 rfl rfl)
theorem dX1_book_156 : decode cX1_book 156 = .ok (.ireturn, 1) := dk_172 (dk_at dksX1_book_6 16 rfl rfl)
abbrev cX1_checkLane : ByteArray := prog_1_method_44_code
def yX1_checkLane : MethodName := ⟨RX1, "checkLane", "(I)V"⟩
def dkwX1_checkLane_0 : List UInt8 := [26, 3, 5, 184, 0, 59, 184, 0, 67, 177]
abbrev dktX1_checkLane_0 : List UInt8 := dkwX1_checkLane_0 ++ []
theorem dksX1_checkLane_0 : cX1_checkLane.data.toList.drop 0 = dktX1_checkLane_0 := by decide +kernel
theorem dX1_checkLane_0 : decode cX1_checkLane 0 = .ok (.iload_n 0, 1) := dk_26 (dk_at dksX1_checkLane_0 0 rfl rfl)
theorem dX1_checkLane_1 : decode cX1_checkLane 1 = .ok (.iconst 0, 1) := dk_3 (dk_at dksX1_checkLane_0 1 rfl rfl)
theorem dX1_checkLane_2 : decode cX1_checkLane 2 = .ok (.iconst 2, 1) := dk_5 (dk_at dksX1_checkLane_0 2 rfl rfl)
theorem dX1_checkLane_3 : decode cX1_checkLane 3 = .ok (.invokestatic 59, 3) := dk_184 0 59 (dk_at dksX1_checkLane_0 3 rfl rfl)
theorem dX1_checkLane_6 : decode cX1_checkLane 6 = .ok (.invokestatic 67, 3) := dk_184 0 67 (dk_at dksX1_checkLane_0 6 rfl rfl)
theorem dX1_checkLane_9 : decode cX1_checkLane 9 = .ok (.return_, 1) := dk_177 (dk_at dksX1_checkLane_0 9 rfl rfl)
abbrev cX1_cancel : ByteArray := prog_1_method_47_code
def yX1_cancel : MethodName := ⟨RX1, "cancel", "(I)I"⟩
def dkwX1_cancel_1 : List UInt8 := [44, 16, 99, 182, 0, 186, 42, 180, 0, 36, 182, 1, 56, 172]
abbrev dktX1_cancel_1 : List UInt8 := dkwX1_cancel_1 ++ []
def dkwX1_cancel_0 : List UInt8 := [42, 27, 182, 1, 52, 77, 44, 180, 0, 153, 16, 98, 160, 0, 7, 4, 167, 0, 4, 3, 184, 0, 77, 42]
abbrev dktX1_cancel_0 : List UInt8 := dkwX1_cancel_0 ++ dktX1_cancel_1
theorem dksX1_cancel_0 : cX1_cancel.data.toList.drop 0 = dktX1_cancel_0 := by decide +kernel
theorem dksX1_cancel_1 : cX1_cancel.data.toList.drop 24 = dktX1_cancel_1 := dk_seg dksX1_cancel_0 24 rfl rfl
theorem dX1_cancel_0 : decode cX1_cancel 0 = .ok (.aload_n 0, 1) := dk_42 (dk_at dksX1_cancel_0 0 rfl rfl)
theorem dX1_cancel_1 : decode cX1_cancel 1 = .ok (.iload_n 1, 1) := dk_27 (dk_at dksX1_cancel_0 1 rfl rfl)
theorem dX1_cancel_2 : decode cX1_cancel 2 = .ok (.invokevirtual 308, 3) := dk_182 1 52 (dk_at dksX1_cancel_0 2 rfl rfl)
theorem dX1_cancel_5 : decode cX1_cancel 5 = .ok (.astore_n 2, 1) := dk_77 (dk_at dksX1_cancel_0 5 rfl rfl)
theorem dX1_cancel_6 : decode cX1_cancel 6 = .ok (.aload_n 2, 1) := dk_44 (dk_at dksX1_cancel_0 6 rfl rfl)
theorem dX1_cancel_7 : decode cX1_cancel 7 = .ok (.getfield 153, 3) := dk_180 0 153 (dk_at dksX1_cancel_0 7 rfl rfl)
theorem dX1_cancel_10 : decode cX1_cancel 10 = .ok (.bipush 98, 2) := dk_16 98 (dk_at dksX1_cancel_0 10 rfl rfl)
theorem dX1_cancel_12 : decode cX1_cancel 12 = .ok (.if_icmp .ne 7, 3) := dk_160 0 7 (dk_at dksX1_cancel_0 12 rfl rfl)
theorem dX1_cancel_15 : decode cX1_cancel 15 = .ok (.iconst 1, 1) := dk_4 (dk_at dksX1_cancel_0 15 rfl rfl)
theorem dX1_cancel_16 : decode cX1_cancel 16 = .ok (.goto 4, 3) := dk_167 0 4 (dk_at dksX1_cancel_0 16 rfl rfl)
theorem dX1_cancel_19 : decode cX1_cancel 19 = .ok (.iconst 0, 1) := dk_3 (dk_at dksX1_cancel_0 19 rfl rfl)
theorem dX1_cancel_20 : decode cX1_cancel 20 = .ok (.invokestatic 77, 3) := dk_184 0 77 (dk_at dksX1_cancel_0 20 rfl rfl)
theorem dX1_cancel_23 : decode cX1_cancel 23 = .ok (.aload_n 0, 1) := dk_42 (dk_at dksX1_cancel_0 23 rfl rfl)
theorem dX1_cancel_24 : decode cX1_cancel 24 = .ok (.aload_n 2, 1) := dk_44 (dk_at dksX1_cancel_1 0 rfl rfl)
theorem dX1_cancel_25 : decode cX1_cancel 25 = .ok (.bipush 99, 2) := dk_16 99 (dk_at dksX1_cancel_1 1 rfl rfl)
theorem dX1_cancel_27 : decode cX1_cancel 27 = .ok (.invokevirtual 186, 3) := dk_182 0 186 (dk_at dksX1_cancel_1 3 rfl rfl)
theorem dX1_cancel_30 : decode cX1_cancel 30 = .ok (.aload_n 0, 1) := dk_42 (dk_at dksX1_cancel_1 6 rfl rfl)
theorem dX1_cancel_31 : decode cX1_cancel 31 = .ok (.getfield 36, 3) := dk_180 0 36 (dk_at dksX1_cancel_1 7 rfl rfl)
theorem dX1_cancel_34 : decode cX1_cancel 34 = .ok (.invokevirtual 312, 3) := dk_182 1 56 (dk_at dksX1_cancel_1 10 rfl rfl)
theorem dX1_cancel_37 : decode cX1_cancel 37 = .ok (.ireturn, 1) := dk_172 (dk_at dksX1_cancel_1 13 rfl rfl)
abbrev cX1_appointmentWith : ByteArray := prog_1_method_46_code
def yX1_appointmentWith : MethodName := ⟨RX1, "appointmentWith", "(I)LQuaylock$Appointment;"⟩
def dkwX1_appointmentWith_1 : List UInt8 := [185, 1, 49, 2, 0, 192, 0, 147, 176]
abbrev dktX1_appointmentWith_1 : List UInt8 := dkwX1_appointmentWith_1 ++ []
def dkwX1_appointmentWith_0 : List UInt8 := [27, 3, 42, 180, 0, 29, 185, 1, 40, 1, 0, 4, 100, 184, 0, 59, 184, 0, 67, 42, 180, 0, 29, 27]
abbrev dktX1_appointmentWith_0 : List UInt8 := dkwX1_appointmentWith_0 ++ dktX1_appointmentWith_1
theorem dksX1_appointmentWith_0 : cX1_appointmentWith.data.toList.drop 0 = dktX1_appointmentWith_0 := by decide +kernel
theorem dksX1_appointmentWith_1 : cX1_appointmentWith.data.toList.drop 24 = dktX1_appointmentWith_1 := dk_seg dksX1_appointmentWith_0 24 rfl rfl
theorem dX1_appointmentWith_0 : decode cX1_appointmentWith 0 = .ok (.iload_n 1, 1) := dk_27 (dk_at dksX1_appointmentWith_0 0 rfl rfl)
theorem dX1_appointmentWith_1 : decode cX1_appointmentWith 1 = .ok (.iconst 0, 1) := dk_3 (dk_at dksX1_appointmentWith_0 1 rfl rfl)
theorem dX1_appointmentWith_2 : decode cX1_appointmentWith 2 = .ok (.aload_n 0, 1) := dk_42 (dk_at dksX1_appointmentWith_0 2 rfl rfl)
theorem dX1_appointmentWith_3 : decode cX1_appointmentWith 3 = .ok (.getfield 29, 3) := dk_180 0 29 (dk_at dksX1_appointmentWith_0 3 rfl rfl)
theorem dX1_appointmentWith_6 : decode cX1_appointmentWith 6 = .ok (.invokeinterface 296 1, 5) := by decide +kernel
theorem dX1_appointmentWith_11 : decode cX1_appointmentWith 11 = .ok (.iconst 1, 1) := dk_4 (dk_at dksX1_appointmentWith_0 11 rfl rfl)
theorem dX1_appointmentWith_12 : decode cX1_appointmentWith 12 = .ok (.isub, 1) := dk_100 (dk_at dksX1_appointmentWith_0 12 rfl rfl)
theorem dX1_appointmentWith_13 : decode cX1_appointmentWith 13 = .ok (.invokestatic 59, 3) := dk_184 0 59 (dk_at dksX1_appointmentWith_0 13 rfl rfl)
theorem dX1_appointmentWith_16 : decode cX1_appointmentWith 16 = .ok (.invokestatic 67, 3) := dk_184 0 67 (dk_at dksX1_appointmentWith_0 16 rfl rfl)
theorem dX1_appointmentWith_19 : decode cX1_appointmentWith 19 = .ok (.aload_n 0, 1) := dk_42 (dk_at dksX1_appointmentWith_0 19 rfl rfl)
theorem dX1_appointmentWith_20 : decode cX1_appointmentWith 20 = .ok (.getfield 29, 3) := dk_180 0 29 (dk_at dksX1_appointmentWith_0 20 rfl rfl)
theorem dX1_appointmentWith_23 : decode cX1_appointmentWith 23 = .ok (.iload_n 1, 1) := dk_27 (dk_at dksX1_appointmentWith_0 23 rfl rfl)
theorem dX1_appointmentWith_24 : decode cX1_appointmentWith 24 = .ok (.invokeinterface 305 2, 5) := by decide +kernel
theorem dX1_appointmentWith_29 : decode cX1_appointmentWith 29 = .ok (.checkcast 147, 3) := dk_192 0 147 (dk_at dksX1_appointmentWith_1 5 rfl rfl)
theorem dX1_appointmentWith_32 : decode cX1_appointmentWith 32 = .ok (.areturn, 1) := dk_176 (dk_at dksX1_appointmentWith_1 8 rfl rfl)
abbrev cX1_stateOf : ByteArray := prog_1_method_48_code
def yX1_stateOf : MethodName := ⟨RX1, "stateOf", "(I)C"⟩
def dkwX1_stateOf_0 : List UInt8 := [42, 27, 182, 1, 52, 180, 0, 153, 172]
abbrev dktX1_stateOf_0 : List UInt8 := dkwX1_stateOf_0 ++ []
theorem dksX1_stateOf_0 : cX1_stateOf.data.toList.drop 0 = dktX1_stateOf_0 := by decide +kernel
theorem dX1_stateOf_0 : decode cX1_stateOf 0 = .ok (.aload_n 0, 1) := dk_42 (dk_at dksX1_stateOf_0 0 rfl rfl)
theorem dX1_stateOf_1 : decode cX1_stateOf 1 = .ok (.iload_n 1, 1) := dk_27 (dk_at dksX1_stateOf_0 1 rfl rfl)
theorem dX1_stateOf_2 : decode cX1_stateOf 2 = .ok (.invokevirtual 308, 3) := dk_182 1 52 (dk_at dksX1_stateOf_0 2 rfl rfl)
theorem dX1_stateOf_5 : decode cX1_stateOf 5 = .ok (.getfield 153, 3) := dk_180 0 153 (dk_at dksX1_stateOf_0 5 rfl rfl)
theorem dX1_stateOf_8 : decode cX1_stateOf 8 = .ok (.ireturn, 1) := dk_172 (dk_at dksX1_stateOf_0 8 rfl rfl)
abbrev cX1_appointmentOf : ByteArray := prog_1_method_49_code
def yX1_appointmentOf : MethodName := ⟨RX1, "appointmentOf", "(I)I"⟩
def dkwX1_appointmentOf_1 : List UInt8 := [180, 1, 48, 172]
abbrev dktX1_appointmentOf_1 : List UInt8 := dkwX1_appointmentOf_1 ++ []
def dkwX1_appointmentOf_0 : List UInt8 := [42, 42, 27, 182, 0, 104, 182, 0, 174, 77, 44, 198, 0, 7, 4, 167, 0, 4, 3, 184, 0, 124, 44]
abbrev dktX1_appointmentOf_0 : List UInt8 := dkwX1_appointmentOf_0 ++ dktX1_appointmentOf_1
theorem dksX1_appointmentOf_0 : cX1_appointmentOf.data.toList.drop 0 = dktX1_appointmentOf_0 := by decide +kernel
theorem dksX1_appointmentOf_1 : cX1_appointmentOf.data.toList.drop 23 = dktX1_appointmentOf_1 := dk_seg dksX1_appointmentOf_0 23 rfl rfl
theorem dX1_appointmentOf_0 : decode cX1_appointmentOf 0 = .ok (.aload_n 0, 1) := dk_42 (dk_at dksX1_appointmentOf_0 0 rfl rfl)
theorem dX1_appointmentOf_1 : decode cX1_appointmentOf 1 = .ok (.aload_n 0, 1) := dk_42 (dk_at dksX1_appointmentOf_0 1 rfl rfl)
theorem dX1_appointmentOf_2 : decode cX1_appointmentOf 2 = .ok (.iload_n 1, 1) := dk_27 (dk_at dksX1_appointmentOf_0 2 rfl rfl)
theorem dX1_appointmentOf_3 : decode cX1_appointmentOf 3 = .ok (.invokevirtual 104, 3) := dk_182 0 104 (dk_at dksX1_appointmentOf_0 3 rfl rfl)
theorem dX1_appointmentOf_6 : decode cX1_appointmentOf 6 = .ok (.invokevirtual 174, 3) := dk_182 0 174 (dk_at dksX1_appointmentOf_0 6 rfl rfl)
theorem dX1_appointmentOf_9 : decode cX1_appointmentOf 9 = .ok (.astore_n 2, 1) := dk_77 (dk_at dksX1_appointmentOf_0 9 rfl rfl)
theorem dX1_appointmentOf_10 : decode cX1_appointmentOf 10 = .ok (.aload_n 2, 1) := dk_44 (dk_at dksX1_appointmentOf_0 10 rfl rfl)
theorem dX1_appointmentOf_11 : decode cX1_appointmentOf 11 = .ok (.ifnull 7, 3) := dk_198 0 7 (dk_at dksX1_appointmentOf_0 11 rfl rfl)
theorem dX1_appointmentOf_14 : decode cX1_appointmentOf 14 = .ok (.iconst 1, 1) := dk_4 (dk_at dksX1_appointmentOf_0 14 rfl rfl)
theorem dX1_appointmentOf_15 : decode cX1_appointmentOf 15 = .ok (.goto 4, 3) := dk_167 0 4 (dk_at dksX1_appointmentOf_0 15 rfl rfl)
theorem dX1_appointmentOf_18 : decode cX1_appointmentOf 18 = .ok (.iconst 0, 1) := dk_3 (dk_at dksX1_appointmentOf_0 18 rfl rfl)
theorem dX1_appointmentOf_19 : decode cX1_appointmentOf 19 = .ok (.invokestatic 124, 3) := dk_184 0 124 (dk_at dksX1_appointmentOf_0 19 rfl rfl)
theorem dX1_appointmentOf_22 : decode cX1_appointmentOf 22 = .ok (.aload_n 2, 1) := dk_44 (dk_at dksX1_appointmentOf_0 22 rfl rfl)
theorem dX1_appointmentOf_23 : decode cX1_appointmentOf 23 = .ok (.getfield 304, 3) := dk_180 1 48 (dk_at dksX1_appointmentOf_1 0 rfl rfl)
theorem dX1_appointmentOf_26 : decode cX1_appointmentOf 26 = .ok (.ireturn, 1) := dk_172 (dk_at dksX1_appointmentOf_1 3 rfl rfl)
abbrev cX1_inLane : ByteArray := prog_1_method_50_code
def yX1_inLane : MethodName := ⟨RX1, "inLane", "(II)I"⟩
def dkwX1_inLane_1 : List UInt8 := [27, 183, 1, 36, 182, 1, 57, 192, 0, 147, 78, 45, 199, 0, 7, 2, 167, 0, 7, 45, 180, 1, 48, 172]
abbrev dktX1_inLane_1 : List UInt8 := dkwX1_inLane_1 ++ []
def dkwX1_inLane_0 : List UInt8 := [27, 184, 1, 33, 28, 3, 17, 3, 231, 184, 0, 59, 184, 0, 74, 42, 180, 0, 36, 187, 0, 179, 89, 28]
abbrev dktX1_inLane_0 : List UInt8 := dkwX1_inLane_0 ++ dktX1_inLane_1
theorem dksX1_inLane_0 : cX1_inLane.data.toList.drop 0 = dktX1_inLane_0 := by decide +kernel
theorem dksX1_inLane_1 : cX1_inLane.data.toList.drop 24 = dktX1_inLane_1 := dk_seg dksX1_inLane_0 24 rfl rfl
theorem dX1_inLane_0 : decode cX1_inLane 0 = .ok (.iload_n 1, 1) := dk_27 (dk_at dksX1_inLane_0 0 rfl rfl)
theorem dX1_inLane_1 : decode cX1_inLane 1 = .ok (.invokestatic 289, 3) := dk_184 1 33 (dk_at dksX1_inLane_0 1 rfl rfl)
theorem dX1_inLane_4 : decode cX1_inLane 4 = .ok (.iload_n 2, 1) := dk_28 (dk_at dksX1_inLane_0 4 rfl rfl)
theorem dX1_inLane_5 : decode cX1_inLane 5 = .ok (.iconst 0, 1) := dk_3 (dk_at dksX1_inLane_0 5 rfl rfl)
theorem dX1_inLane_6 : decode cX1_inLane 6 = .ok (.sipush 999, 3) := dk_17 3 231 (dk_at dksX1_inLane_0 6 rfl rfl)
theorem dX1_inLane_9 : decode cX1_inLane 9 = .ok (.invokestatic 59, 3) := dk_184 0 59 (dk_at dksX1_inLane_0 9 rfl rfl)
theorem dX1_inLane_12 : decode cX1_inLane 12 = .ok (.invokestatic 74, 3) := dk_184 0 74 (dk_at dksX1_inLane_0 12 rfl rfl)
theorem dX1_inLane_15 : decode cX1_inLane 15 = .ok (.aload_n 0, 1) := dk_42 (dk_at dksX1_inLane_0 15 rfl rfl)
theorem dX1_inLane_16 : decode cX1_inLane 16 = .ok (.getfield 36, 3) := dk_180 0 36 (dk_at dksX1_inLane_0 16 rfl rfl)
theorem dX1_inLane_19 : decode cX1_inLane 19 = .ok (.new 179, 3) := dk_187 0 179 (dk_at dksX1_inLane_0 19 rfl rfl)
theorem dX1_inLane_22 : decode cX1_inLane 22 = .ok (.dup, 1) := dk_89 (dk_at dksX1_inLane_0 22 rfl rfl)
theorem dX1_inLane_23 : decode cX1_inLane 23 = .ok (.iload_n 2, 1) := dk_28 (dk_at dksX1_inLane_0 23 rfl rfl)
theorem dX1_inLane_24 : decode cX1_inLane 24 = .ok (.iload_n 1, 1) := dk_27 (dk_at dksX1_inLane_1 0 rfl rfl)
theorem dX1_inLane_25 : decode cX1_inLane 25 = .ok (.invokespecial 292, 3) := dk_183 1 36 (dk_at dksX1_inLane_1 1 rfl rfl)
theorem dX1_inLane_28 : decode cX1_inLane 28 = .ok (.invokevirtual 313, 3) := dk_182 1 57 (dk_at dksX1_inLane_1 4 rfl rfl)
theorem dX1_inLane_31 : decode cX1_inLane 31 = .ok (.checkcast 147, 3) := dk_192 0 147 (dk_at dksX1_inLane_1 7 rfl rfl)
theorem dX1_inLane_34 : decode cX1_inLane 34 = .ok (.astore_n 3, 1) := dk_78 (dk_at dksX1_inLane_1 10 rfl rfl)
theorem dX1_inLane_35 : decode cX1_inLane 35 = .ok (.aload_n 3, 1) := dk_45 (dk_at dksX1_inLane_1 11 rfl rfl)
theorem dX1_inLane_36 : decode cX1_inLane 36 = .ok (.ifnonnull 7, 3) := dk_199 0 7 (dk_at dksX1_inLane_1 12 rfl rfl)
theorem dX1_inLane_39 : decode cX1_inLane 39 = .ok (.iconst (-1), 1) := dk_2 (dk_at dksX1_inLane_1 15 rfl rfl)
theorem dX1_inLane_40 : decode cX1_inLane 40 = .ok (.goto 7, 3) := dk_167 0 7 (dk_at dksX1_inLane_1 16 rfl rfl)
theorem dX1_inLane_43 : decode cX1_inLane 43 = .ok (.aload_n 3, 1) := dk_45 (dk_at dksX1_inLane_1 19 rfl rfl)
theorem dX1_inLane_44 : decode cX1_inLane 44 = .ok (.getfield 304, 3) := dk_180 1 48 (dk_at dksX1_inLane_1 20 rfl rfl)
theorem dX1_inLane_47 : decode cX1_inLane 47 = .ok (.ireturn, 1) := dk_172 (dk_at dksX1_inLane_1 23 rfl rfl)
abbrev cX1_firstHour : ByteArray := prog_1_method_52_code
def yX1_firstHour : MethodName := ⟨RX1, "firstHour", "(I)I"⟩
def dkwX1_firstHour_3 : List UInt8 := [184, 0, 124, 29, 172]
abbrev dktX1_firstHour_3 : List UInt8 := dkwX1_firstHour_3 ++ []
def dkwX1_firstHour_2 : List UInt8 := [182, 1, 64, 154, 0, 9, 132, 3, 1, 167, 255, 238, 29, 17, 3, 231, 163, 0, 7, 4, 167, 0, 4, 3]
abbrev dktX1_firstHour_2 : List UInt8 := dkwX1_firstHour_2 ++ dktX1_firstHour_3
def dkwX1_firstHour_1 : List UInt8 := [42, 180, 0, 165, 4, 96, 44, 180, 0, 171, 184, 1, 58, 62, 29, 17, 3, 231, 163, 0, 17, 42, 29]
abbrev dktX1_firstHour_1 : List UInt8 := dkwX1_firstHour_1 ++ dktX1_firstHour_2
def dkwX1_firstHour_0 : List UInt8 := [42, 27, 182, 0, 104, 77, 44, 180, 0, 168, 16, 45, 160, 0, 12, 42, 180, 0, 165, 4, 96, 167, 0, 16]
abbrev dktX1_firstHour_0 : List UInt8 := dkwX1_firstHour_0 ++ dktX1_firstHour_1
theorem dksX1_firstHour_0 : cX1_firstHour.data.toList.drop 0 = dktX1_firstHour_0 := by decide +kernel
theorem dksX1_firstHour_1 : cX1_firstHour.data.toList.drop 24 = dktX1_firstHour_1 := dk_seg dksX1_firstHour_0 24 rfl rfl
theorem dksX1_firstHour_2 : cX1_firstHour.data.toList.drop 47 = dktX1_firstHour_2 := dk_seg dksX1_firstHour_1 23 rfl rfl
theorem dksX1_firstHour_3 : cX1_firstHour.data.toList.drop 71 = dktX1_firstHour_3 := dk_seg dksX1_firstHour_2 24 rfl rfl
theorem dX1_firstHour_0 : decode cX1_firstHour 0 = .ok (.aload_n 0, 1) := dk_42 (dk_at dksX1_firstHour_0 0 rfl rfl)
theorem dX1_firstHour_1 : decode cX1_firstHour 1 = .ok (.iload_n 1, 1) := dk_27 (dk_at dksX1_firstHour_0 1 rfl rfl)
theorem dX1_firstHour_2 : decode cX1_firstHour 2 = .ok (.invokevirtual 104, 3) := dk_182 0 104 (dk_at dksX1_firstHour_0 2 rfl rfl)
theorem dX1_firstHour_5 : decode cX1_firstHour 5 = .ok (.astore_n 2, 1) := dk_77 (dk_at dksX1_firstHour_0 5 rfl rfl)
theorem dX1_firstHour_6 : decode cX1_firstHour 6 = .ok (.aload_n 2, 1) := dk_44 (dk_at dksX1_firstHour_0 6 rfl rfl)
theorem dX1_firstHour_7 : decode cX1_firstHour 7 = .ok (.getfield 168, 3) := dk_180 0 168 (dk_at dksX1_firstHour_0 7 rfl rfl)
theorem dX1_firstHour_10 : decode cX1_firstHour 10 = .ok (.bipush 45, 2) := dk_16 45 (dk_at dksX1_firstHour_0 10 rfl rfl)
theorem dX1_firstHour_12 : decode cX1_firstHour 12 = .ok (.if_icmp .ne 12, 3) := dk_160 0 12 (dk_at dksX1_firstHour_0 12 rfl rfl)
theorem dX1_firstHour_15 : decode cX1_firstHour 15 = .ok (.aload_n 0, 1) := dk_42 (dk_at dksX1_firstHour_0 15 rfl rfl)
theorem dX1_firstHour_16 : decode cX1_firstHour 16 = .ok (.getfield 165, 3) := dk_180 0 165 (dk_at dksX1_firstHour_0 16 rfl rfl)
theorem dX1_firstHour_19 : decode cX1_firstHour 19 = .ok (.iconst 1, 1) := dk_4 (dk_at dksX1_firstHour_0 19 rfl rfl)
theorem dX1_firstHour_20 : decode cX1_firstHour 20 = .ok (.iadd, 1) := dk_96 (dk_at dksX1_firstHour_0 20 rfl rfl)
theorem dX1_firstHour_21 : decode cX1_firstHour 21 = .ok (.goto 16, 3) := dk_167 0 16 (dk_at dksX1_firstHour_0 21 rfl rfl)
theorem dX1_firstHour_24 : decode cX1_firstHour 24 = .ok (.aload_n 0, 1) := dk_42 (dk_at dksX1_firstHour_1 0 rfl rfl)
theorem dX1_firstHour_25 : decode cX1_firstHour 25 = .ok (.getfield 165, 3) := dk_180 0 165 (dk_at dksX1_firstHour_1 1 rfl rfl)
theorem dX1_firstHour_28 : decode cX1_firstHour 28 = .ok (.iconst 1, 1) := dk_4 (dk_at dksX1_firstHour_1 4 rfl rfl)
theorem dX1_firstHour_29 : decode cX1_firstHour 29 = .ok (.iadd, 1) := dk_96 (dk_at dksX1_firstHour_1 5 rfl rfl)
theorem dX1_firstHour_30 : decode cX1_firstHour 30 = .ok (.aload_n 2, 1) := dk_44 (dk_at dksX1_firstHour_1 6 rfl rfl)
theorem dX1_firstHour_31 : decode cX1_firstHour 31 = .ok (.getfield 171, 3) := dk_180 0 171 (dk_at dksX1_firstHour_1 7 rfl rfl)
theorem dX1_firstHour_34 : decode cX1_firstHour 34 = .ok (.invokestatic 314, 3) := dk_184 1 58 (dk_at dksX1_firstHour_1 10 rfl rfl)
theorem dX1_firstHour_37 : decode cX1_firstHour 37 = .ok (.istore_n 3, 1) := dk_62 (dk_at dksX1_firstHour_1 13 rfl rfl)
theorem dX1_firstHour_38 : decode cX1_firstHour 38 = .ok (.iload_n 3, 1) := dk_29 (dk_at dksX1_firstHour_1 14 rfl rfl)
theorem dX1_firstHour_39 : decode cX1_firstHour 39 = .ok (.sipush 999, 3) := dk_17 3 231 (dk_at dksX1_firstHour_1 15 rfl rfl)
theorem dX1_firstHour_42 : decode cX1_firstHour 42 = .ok (.if_icmp .gt 17, 3) := dk_163 0 17 (dk_at dksX1_firstHour_1 18 rfl rfl)
theorem dX1_firstHour_45 : decode cX1_firstHour 45 = .ok (.aload_n 0, 1) := dk_42 (dk_at dksX1_firstHour_1 21 rfl rfl)
theorem dX1_firstHour_46 : decode cX1_firstHour 46 = .ok (.iload_n 3, 1) := dk_29 (dk_at dksX1_firstHour_1 22 rfl rfl)
theorem dX1_firstHour_47 : decode cX1_firstHour 47 = .ok (.invokevirtual 320, 3) := dk_182 1 64 (dk_at dksX1_firstHour_2 0 rfl rfl)
theorem dX1_firstHour_50 : decode cX1_firstHour 50 = .ok (.ifCond .ne 9, 3) := dk_154 0 9 (dk_at dksX1_firstHour_2 3 rfl rfl)
theorem dX1_firstHour_53 : decode cX1_firstHour 53 = .ok (.iinc 3 1, 3) := dk_132 3 1 (dk_at dksX1_firstHour_2 6 rfl rfl)
theorem dX1_firstHour_56 : decode cX1_firstHour 56 = .ok (.goto (-18), 3) := dk_167 255 238 (dk_at dksX1_firstHour_2 9 rfl rfl)
theorem dX1_firstHour_59 : decode cX1_firstHour 59 = .ok (.iload_n 3, 1) := dk_29 (dk_at dksX1_firstHour_2 12 rfl rfl)
theorem dX1_firstHour_60 : decode cX1_firstHour 60 = .ok (.sipush 999, 3) := dk_17 3 231 (dk_at dksX1_firstHour_2 13 rfl rfl)
theorem dX1_firstHour_63 : decode cX1_firstHour 63 = .ok (.if_icmp .gt 7, 3) := dk_163 0 7 (dk_at dksX1_firstHour_2 16 rfl rfl)
theorem dX1_firstHour_66 : decode cX1_firstHour 66 = .ok (.iconst 1, 1) := dk_4 (dk_at dksX1_firstHour_2 19 rfl rfl)
theorem dX1_firstHour_67 : decode cX1_firstHour 67 = .ok (.goto 4, 3) := dk_167 0 4 (dk_at dksX1_firstHour_2 20 rfl rfl)
theorem dX1_firstHour_70 : decode cX1_firstHour 70 = .ok (.iconst 0, 1) := dk_3 (dk_at dksX1_firstHour_2 23 rfl rfl)
theorem dX1_firstHour_71 : decode cX1_firstHour 71 = .ok (.invokestatic 124, 3) := dk_184 0 124 (dk_at dksX1_firstHour_3 0 rfl rfl)
theorem dX1_firstHour_74 : decode cX1_firstHour 74 = .ok (.iload_n 3, 1) := dk_29 (dk_at dksX1_firstHour_3 3 rfl rfl)
theorem dX1_firstHour_75 : decode cX1_firstHour 75 = .ok (.ireturn, 1) := dk_172 (dk_at dksX1_firstHour_3 4 rfl rfl)
abbrev cX1_isFree : ByteArray := prog_1_method_51_code
def yX1_isFree : MethodName := ⟨RX1, "isFree", "(I)Z"⟩
def dkwX1_isFree_1 : List UInt8 := [183, 1, 36, 182, 1, 37, 154, 0, 7, 4, 167, 0, 4, 3, 61, 132, 3, 1, 167, 255, 219, 28, 172]
abbrev dktX1_isFree_1 : List UInt8 := dkwX1_isFree_1 ++ []
def dkwX1_isFree_0 : List UInt8 := [3, 61, 3, 62, 29, 6, 162, 0, 38, 28, 154, 0, 22, 42, 180, 0, 36, 187, 0, 179, 89, 27, 29]
abbrev dktX1_isFree_0 : List UInt8 := dkwX1_isFree_0 ++ dktX1_isFree_1
theorem dksX1_isFree_0 : cX1_isFree.data.toList.drop 0 = dktX1_isFree_0 := by decide +kernel
theorem dksX1_isFree_1 : cX1_isFree.data.toList.drop 23 = dktX1_isFree_1 := dk_seg dksX1_isFree_0 23 rfl rfl
theorem dX1_isFree_0 : decode cX1_isFree 0 = .ok (.iconst 0, 1) := dk_3 (dk_at dksX1_isFree_0 0 rfl rfl)
theorem dX1_isFree_1 : decode cX1_isFree 1 = .ok (.istore_n 2, 1) := dk_61 (dk_at dksX1_isFree_0 1 rfl rfl)
theorem dX1_isFree_2 : decode cX1_isFree 2 = .ok (.iconst 0, 1) := dk_3 (dk_at dksX1_isFree_0 2 rfl rfl)
theorem dX1_isFree_3 : decode cX1_isFree 3 = .ok (.istore_n 3, 1) := dk_62 (dk_at dksX1_isFree_0 3 rfl rfl)
theorem dX1_isFree_4 : decode cX1_isFree 4 = .ok (.iload_n 3, 1) := dk_29 (dk_at dksX1_isFree_0 4 rfl rfl)
theorem dX1_isFree_5 : decode cX1_isFree 5 = .ok (.iconst 3, 1) := dk_6 (dk_at dksX1_isFree_0 5 rfl rfl)
theorem dX1_isFree_6 : decode cX1_isFree 6 = .ok (.if_icmp .ge 38, 3) := dk_162 0 38 (dk_at dksX1_isFree_0 6 rfl rfl)
theorem dX1_isFree_9 : decode cX1_isFree 9 = .ok (.iload_n 2, 1) := dk_28 (dk_at dksX1_isFree_0 9 rfl rfl)
theorem dX1_isFree_10 : decode cX1_isFree 10 = .ok (.ifCond .ne 22, 3) := dk_154 0 22 (dk_at dksX1_isFree_0 10 rfl rfl)
theorem dX1_isFree_13 : decode cX1_isFree 13 = .ok (.aload_n 0, 1) := dk_42 (dk_at dksX1_isFree_0 13 rfl rfl)
theorem dX1_isFree_14 : decode cX1_isFree 14 = .ok (.getfield 36, 3) := dk_180 0 36 (dk_at dksX1_isFree_0 14 rfl rfl)
theorem dX1_isFree_17 : decode cX1_isFree 17 = .ok (.new 179, 3) := dk_187 0 179 (dk_at dksX1_isFree_0 17 rfl rfl)
theorem dX1_isFree_20 : decode cX1_isFree 20 = .ok (.dup, 1) := dk_89 (dk_at dksX1_isFree_0 20 rfl rfl)
theorem dX1_isFree_21 : decode cX1_isFree 21 = .ok (.iload_n 1, 1) := dk_27 (dk_at dksX1_isFree_0 21 rfl rfl)
theorem dX1_isFree_22 : decode cX1_isFree 22 = .ok (.iload_n 3, 1) := dk_29 (dk_at dksX1_isFree_0 22 rfl rfl)
theorem dX1_isFree_23 : decode cX1_isFree 23 = .ok (.invokespecial 292, 3) := dk_183 1 36 (dk_at dksX1_isFree_1 0 rfl rfl)
theorem dX1_isFree_26 : decode cX1_isFree 26 = .ok (.invokevirtual 293, 3) := dk_182 1 37 (dk_at dksX1_isFree_1 3 rfl rfl)
theorem dX1_isFree_29 : decode cX1_isFree 29 = .ok (.ifCond .ne 7, 3) := dk_154 0 7 (dk_at dksX1_isFree_1 6 rfl rfl)
theorem dX1_isFree_32 : decode cX1_isFree 32 = .ok (.iconst 1, 1) := dk_4 (dk_at dksX1_isFree_1 9 rfl rfl)
theorem dX1_isFree_33 : decode cX1_isFree 33 = .ok (.goto 4, 3) := dk_167 0 4 (dk_at dksX1_isFree_1 10 rfl rfl)
theorem dX1_isFree_36 : decode cX1_isFree 36 = .ok (.iconst 0, 1) := dk_3 (dk_at dksX1_isFree_1 13 rfl rfl)
theorem dX1_isFree_37 : decode cX1_isFree 37 = .ok (.istore_n 2, 1) := dk_61 (dk_at dksX1_isFree_1 14 rfl rfl)
theorem dX1_isFree_38 : decode cX1_isFree 38 = .ok (.iinc 3 1, 3) := dk_132 3 1 (dk_at dksX1_isFree_1 15 rfl rfl)
theorem dX1_isFree_41 : decode cX1_isFree 41 = .ok (.goto (-37), 3) := dk_167 255 219 (dk_at dksX1_isFree_1 18 rfl rfl)
theorem dX1_isFree_44 : decode cX1_isFree 44 = .ok (.iload_n 2, 1) := dk_28 (dk_at dksX1_isFree_1 21 rfl rfl)
theorem dX1_isFree_45 : decode cX1_isFree 45 = .ok (.ireturn, 1) := dk_172 (dk_at dksX1_isFree_1 22 rfl rfl)
abbrev cX1_pass : ByteArray := prog_1_method_55_code
def yX1_pass : MethodName := ⟨RX1, "pass", "(I)I"⟩
def dkwX1_pass_5 : List UInt8 := [132, 3, 1, 167, 255, 171, 28, 172]
abbrev dktX1_pass_5 : List UInt8 := dkwX1_pass_5 ++ []
def dkwX1_pass_4 : List UInt8 := [185, 1, 82, 1, 0, 192, 0, 147, 182, 1, 87, 153, 0, 7, 4, 167, 0, 4, 3, 96, 61, 167, 255, 196]
abbrev dktX1_pass_4 : List UInt8 := dkwX1_pass_4 ++ dktX1_pass_5
def dkwX1_pass_3 : List UInt8 := [192, 0, 179, 180, 0, 178, 42, 180, 0, 165, 160, 0, 36, 28, 42, 42, 180, 0, 36, 182, 1, 78]
abbrev dktX1_pass_3 : List UInt8 := dkwX1_pass_3 ++ dktX1_pass_4
def dkwX1_pass_2 : List UInt8 := [181, 0, 165, 42, 182, 1, 71, 42, 180, 0, 36, 182, 1, 74, 154, 0, 56, 42, 180, 0, 36, 182, 1, 75]
abbrev dktX1_pass_2 : List UInt8 := dkwX1_pass_2 ++ dktX1_pass_3
def dkwX1_pass_1 : List UInt8 := [167, 0, 4, 3, 184, 0, 74, 3, 61, 3, 62, 29, 27, 162, 0, 86, 42, 89, 180, 0, 165, 4, 96]
abbrev dktX1_pass_1 : List UInt8 := dkwX1_pass_1 ++ dktX1_pass_2
def dkwX1_pass_0 : List UInt8 := [27, 4, 16, 24, 184, 0, 59, 153, 0, 19, 42, 180, 0, 165, 27, 96, 17, 3, 231, 163, 0, 7, 4]
abbrev dktX1_pass_0 : List UInt8 := dkwX1_pass_0 ++ dktX1_pass_1
theorem dksX1_pass_0 : cX1_pass.data.toList.drop 0 = dktX1_pass_0 := by decide +kernel
theorem dksX1_pass_1 : cX1_pass.data.toList.drop 23 = dktX1_pass_1 := dk_seg dksX1_pass_0 23 rfl rfl
theorem dksX1_pass_2 : cX1_pass.data.toList.drop 46 = dktX1_pass_2 := dk_seg dksX1_pass_1 23 rfl rfl
theorem dksX1_pass_3 : cX1_pass.data.toList.drop 70 = dktX1_pass_3 := dk_seg dksX1_pass_2 24 rfl rfl
theorem dksX1_pass_4 : cX1_pass.data.toList.drop 92 = dktX1_pass_4 := dk_seg dksX1_pass_3 22 rfl rfl
theorem dksX1_pass_5 : cX1_pass.data.toList.drop 116 = dktX1_pass_5 := dk_seg dksX1_pass_4 24 rfl rfl
theorem dX1_pass_0 : decode cX1_pass 0 = .ok (.iload_n 1, 1) := dk_27 (dk_at dksX1_pass_0 0 rfl rfl)
theorem dX1_pass_1 : decode cX1_pass 1 = .ok (.iconst 1, 1) := dk_4 (dk_at dksX1_pass_0 1 rfl rfl)
theorem dX1_pass_2 : decode cX1_pass 2 = .ok (.bipush 24, 2) := dk_16 24 (dk_at dksX1_pass_0 2 rfl rfl)
theorem dX1_pass_4 : decode cX1_pass 4 = .ok (.invokestatic 59, 3) := dk_184 0 59 (dk_at dksX1_pass_0 4 rfl rfl)
theorem dX1_pass_7 : decode cX1_pass 7 = .ok (.ifCond .eq 19, 3) := dk_153 0 19 (dk_at dksX1_pass_0 7 rfl rfl)
theorem dX1_pass_10 : decode cX1_pass 10 = .ok (.aload_n 0, 1) := dk_42 (dk_at dksX1_pass_0 10 rfl rfl)
theorem dX1_pass_11 : decode cX1_pass 11 = .ok (.getfield 165, 3) := dk_180 0 165 (dk_at dksX1_pass_0 11 rfl rfl)
theorem dX1_pass_14 : decode cX1_pass 14 = .ok (.iload_n 1, 1) := dk_27 (dk_at dksX1_pass_0 14 rfl rfl)
theorem dX1_pass_15 : decode cX1_pass 15 = .ok (.iadd, 1) := dk_96 (dk_at dksX1_pass_0 15 rfl rfl)
theorem dX1_pass_16 : decode cX1_pass 16 = .ok (.sipush 999, 3) := dk_17 3 231 (dk_at dksX1_pass_0 16 rfl rfl)
theorem dX1_pass_19 : decode cX1_pass 19 = .ok (.if_icmp .gt 7, 3) := dk_163 0 7 (dk_at dksX1_pass_0 19 rfl rfl)
theorem dX1_pass_22 : decode cX1_pass 22 = .ok (.iconst 1, 1) := dk_4 (dk_at dksX1_pass_0 22 rfl rfl)
theorem dX1_pass_23 : decode cX1_pass 23 = .ok (.goto 4, 3) := dk_167 0 4 (dk_at dksX1_pass_1 0 rfl rfl)
theorem dX1_pass_26 : decode cX1_pass 26 = .ok (.iconst 0, 1) := dk_3 (dk_at dksX1_pass_1 3 rfl rfl)
theorem dX1_pass_27 : decode cX1_pass 27 = .ok (.invokestatic 74, 3) := dk_184 0 74 (dk_at dksX1_pass_1 4 rfl rfl)
theorem dX1_pass_30 : decode cX1_pass 30 = .ok (.iconst 0, 1) := dk_3 (dk_at dksX1_pass_1 7 rfl rfl)
theorem dX1_pass_31 : decode cX1_pass 31 = .ok (.istore_n 2, 1) := dk_61 (dk_at dksX1_pass_1 8 rfl rfl)
theorem dX1_pass_32 : decode cX1_pass 32 = .ok (.iconst 0, 1) := dk_3 (dk_at dksX1_pass_1 9 rfl rfl)
theorem dX1_pass_33 : decode cX1_pass 33 = .ok (.istore_n 3, 1) := dk_62 (dk_at dksX1_pass_1 10 rfl rfl)
theorem dX1_pass_34 : decode cX1_pass 34 = .ok (.iload_n 3, 1) := dk_29 (dk_at dksX1_pass_1 11 rfl rfl)
theorem dX1_pass_35 : decode cX1_pass 35 = .ok (.iload_n 1, 1) := dk_27 (dk_at dksX1_pass_1 12 rfl rfl)
theorem dX1_pass_36 : decode cX1_pass 36 = .ok (.if_icmp .ge 86, 3) := dk_162 0 86 (dk_at dksX1_pass_1 13 rfl rfl)
theorem dX1_pass_39 : decode cX1_pass 39 = .ok (.aload_n 0, 1) := dk_42 (dk_at dksX1_pass_1 16 rfl rfl)
theorem dX1_pass_40 : decode cX1_pass 40 = .ok (.dup, 1) := dk_89 (dk_at dksX1_pass_1 17 rfl rfl)
theorem dX1_pass_41 : decode cX1_pass 41 = .ok (.getfield 165, 3) := dk_180 0 165 (dk_at dksX1_pass_1 18 rfl rfl)
theorem dX1_pass_44 : decode cX1_pass 44 = .ok (.iconst 1, 1) := dk_4 (dk_at dksX1_pass_1 21 rfl rfl)
theorem dX1_pass_45 : decode cX1_pass 45 = .ok (.iadd, 1) := dk_96 (dk_at dksX1_pass_1 22 rfl rfl)
theorem dX1_pass_46 : decode cX1_pass 46 = .ok (.putfield 165, 3) := dk_181 0 165 (dk_at dksX1_pass_2 0 rfl rfl)
theorem dX1_pass_49 : decode cX1_pass 49 = .ok (.aload_n 0, 1) := dk_42 (dk_at dksX1_pass_2 3 rfl rfl)
theorem dX1_pass_50 : decode cX1_pass 50 = .ok (.invokevirtual 327, 3) := dk_182 1 71 (dk_at dksX1_pass_2 4 rfl rfl)
theorem dX1_pass_53 : decode cX1_pass 53 = .ok (.aload_n 0, 1) := dk_42 (dk_at dksX1_pass_2 7 rfl rfl)
theorem dX1_pass_54 : decode cX1_pass 54 = .ok (.getfield 36, 3) := dk_180 0 36 (dk_at dksX1_pass_2 8 rfl rfl)
theorem dX1_pass_57 : decode cX1_pass 57 = .ok (.invokevirtual 330, 3) := dk_182 1 74 (dk_at dksX1_pass_2 11 rfl rfl)
theorem dX1_pass_60 : decode cX1_pass 60 = .ok (.ifCond .ne 56, 3) := dk_154 0 56 (dk_at dksX1_pass_2 14 rfl rfl)
theorem dX1_pass_63 : decode cX1_pass 63 = .ok (.aload_n 0, 1) := dk_42 (dk_at dksX1_pass_2 17 rfl rfl)
theorem dX1_pass_64 : decode cX1_pass 64 = .ok (.getfield 36, 3) := dk_180 0 36 (dk_at dksX1_pass_2 18 rfl rfl)
theorem dX1_pass_67 : decode cX1_pass 67 = .ok (.invokevirtual 331, 3) := dk_182 1 75 (dk_at dksX1_pass_2 21 rfl rfl)
theorem dX1_pass_70 : decode cX1_pass 70 = .ok (.checkcast 179, 3) := dk_192 0 179 (dk_at dksX1_pass_3 0 rfl rfl)
theorem dX1_pass_73 : decode cX1_pass 73 = .ok (.getfield 178, 3) := dk_180 0 178 (dk_at dksX1_pass_3 3 rfl rfl)
theorem dX1_pass_76 : decode cX1_pass 76 = .ok (.aload_n 0, 1) := dk_42 (dk_at dksX1_pass_3 6 rfl rfl)
theorem dX1_pass_77 : decode cX1_pass 77 = .ok (.getfield 165, 3) := dk_180 0 165 (dk_at dksX1_pass_3 7 rfl rfl)
theorem dX1_pass_80 : decode cX1_pass 80 = .ok (.if_icmp .ne 36, 3) := dk_160 0 36 (dk_at dksX1_pass_3 10 rfl rfl)
theorem dX1_pass_83 : decode cX1_pass 83 = .ok (.iload_n 2, 1) := dk_28 (dk_at dksX1_pass_3 13 rfl rfl)
theorem dX1_pass_84 : decode cX1_pass 84 = .ok (.aload_n 0, 1) := dk_42 (dk_at dksX1_pass_3 14 rfl rfl)
theorem dX1_pass_85 : decode cX1_pass 85 = .ok (.aload_n 0, 1) := dk_42 (dk_at dksX1_pass_3 15 rfl rfl)
theorem dX1_pass_86 : decode cX1_pass 86 = .ok (.getfield 36, 3) := dk_180 0 36 (dk_at dksX1_pass_3 16 rfl rfl)
theorem dX1_pass_89 : decode cX1_pass 89 = .ok (.invokevirtual 334, 3) := dk_182 1 78 (dk_at dksX1_pass_3 19 rfl rfl)
theorem dX1_pass_92 : decode cX1_pass 92 = .ok (.invokeinterface 338 1, 5) := by decide +kernel
theorem dX1_pass_97 : decode cX1_pass 97 = .ok (.checkcast 147, 3) := dk_192 0 147 (dk_at dksX1_pass_4 5 rfl rfl)
theorem dX1_pass_100 : decode cX1_pass 100 = .ok (.invokevirtual 343, 3) := dk_182 1 87 (dk_at dksX1_pass_4 8 rfl rfl)
theorem dX1_pass_103 : decode cX1_pass 103 = .ok (.ifCond .eq 7, 3) := dk_153 0 7 (dk_at dksX1_pass_4 11 rfl rfl)
theorem dX1_pass_106 : decode cX1_pass 106 = .ok (.iconst 1, 1) := dk_4 (dk_at dksX1_pass_4 14 rfl rfl)
theorem dX1_pass_107 : decode cX1_pass 107 = .ok (.goto 4, 3) := dk_167 0 4 (dk_at dksX1_pass_4 15 rfl rfl)
theorem dX1_pass_110 : decode cX1_pass 110 = .ok (.iconst 0, 1) := dk_3 (dk_at dksX1_pass_4 18 rfl rfl)
theorem dX1_pass_111 : decode cX1_pass 111 = .ok (.iadd, 1) := dk_96 (dk_at dksX1_pass_4 19 rfl rfl)
theorem dX1_pass_112 : decode cX1_pass 112 = .ok (.istore_n 2, 1) := dk_61 (dk_at dksX1_pass_4 20 rfl rfl)
theorem dX1_pass_113 : decode cX1_pass 113 = .ok (.goto (-60), 3) := dk_167 255 196 (dk_at dksX1_pass_4 21 rfl rfl)
theorem dX1_pass_116 : decode cX1_pass 116 = .ok (.iinc 3 1, 3) := dk_132 3 1 (dk_at dksX1_pass_5 0 rfl rfl)
theorem dX1_pass_119 : decode cX1_pass 119 = .ok (.goto (-85), 3) := dk_167 255 171 (dk_at dksX1_pass_5 3 rfl rfl)
theorem dX1_pass_122 : decode cX1_pass 122 = .ok (.iload_n 2, 1) := dk_28 (dk_at dksX1_pass_5 6 rfl rfl)
theorem dX1_pass_123 : decode cX1_pass 123 = .ok (.ireturn, 1) := dk_172 (dk_at dksX1_pass_5 7 rfl rfl)
abbrev cX1_endHolds : ByteArray := prog_1_method_53_code
def yX1_endHolds : MethodName := ⟨RX1, "endHolds", "()V"⟩
def dkwX1_endHolds_2 : List UInt8 := [160, 0, 10, 25, 4, 16, 45, 181, 0, 168, 132, 3, 1, 167, 255, 209, 177]
abbrev dktX1_endHolds_2 : List UInt8 := dkwX1_endHolds_2 ++ []
def dkwX1_endHolds_1 : List UInt8 := [198, 0, 32, 25, 4, 180, 0, 168, 16, 45, 159, 0, 22, 25, 4, 180, 0, 171, 42, 180, 0, 165]
abbrev dktX1_endHolds_1 : List UInt8 := dkwX1_endHolds_1 ++ dktX1_endHolds_2
def dkwX1_endHolds_0 : List UInt8 := [42, 180, 0, 22, 76, 43, 190, 61, 3, 62, 29, 28, 162, 0, 48, 43, 29, 50, 58, 4, 25, 4]
abbrev dktX1_endHolds_0 : List UInt8 := dkwX1_endHolds_0 ++ dktX1_endHolds_1
theorem dksX1_endHolds_0 : cX1_endHolds.data.toList.drop 0 = dktX1_endHolds_0 := by decide +kernel
theorem dksX1_endHolds_1 : cX1_endHolds.data.toList.drop 22 = dktX1_endHolds_1 := dk_seg dksX1_endHolds_0 22 rfl rfl
theorem dksX1_endHolds_2 : cX1_endHolds.data.toList.drop 44 = dktX1_endHolds_2 := dk_seg dksX1_endHolds_1 22 rfl rfl
theorem dX1_endHolds_0 : decode cX1_endHolds 0 = .ok (.aload_n 0, 1) := dk_42 (dk_at dksX1_endHolds_0 0 rfl rfl)
theorem dX1_endHolds_1 : decode cX1_endHolds 1 = .ok (.getfield 22, 3) := dk_180 0 22 (dk_at dksX1_endHolds_0 1 rfl rfl)
theorem dX1_endHolds_4 : decode cX1_endHolds 4 = .ok (.astore_n 1, 1) := dk_76 (dk_at dksX1_endHolds_0 4 rfl rfl)
theorem dX1_endHolds_5 : decode cX1_endHolds 5 = .ok (.aload_n 1, 1) := dk_43 (dk_at dksX1_endHolds_0 5 rfl rfl)
theorem dX1_endHolds_6 : decode cX1_endHolds 6 = .ok (.arraylength, 1) := dk_190 (dk_at dksX1_endHolds_0 6 rfl rfl)
theorem dX1_endHolds_7 : decode cX1_endHolds 7 = .ok (.istore_n 2, 1) := dk_61 (dk_at dksX1_endHolds_0 7 rfl rfl)
theorem dX1_endHolds_8 : decode cX1_endHolds 8 = .ok (.iconst 0, 1) := dk_3 (dk_at dksX1_endHolds_0 8 rfl rfl)
theorem dX1_endHolds_9 : decode cX1_endHolds 9 = .ok (.istore_n 3, 1) := dk_62 (dk_at dksX1_endHolds_0 9 rfl rfl)
theorem dX1_endHolds_10 : decode cX1_endHolds 10 = .ok (.iload_n 3, 1) := dk_29 (dk_at dksX1_endHolds_0 10 rfl rfl)
theorem dX1_endHolds_11 : decode cX1_endHolds 11 = .ok (.iload_n 2, 1) := dk_28 (dk_at dksX1_endHolds_0 11 rfl rfl)
theorem dX1_endHolds_12 : decode cX1_endHolds 12 = .ok (.if_icmp .ge 48, 3) := dk_162 0 48 (dk_at dksX1_endHolds_0 12 rfl rfl)
theorem dX1_endHolds_15 : decode cX1_endHolds 15 = .ok (.aload_n 1, 1) := dk_43 (dk_at dksX1_endHolds_0 15 rfl rfl)
theorem dX1_endHolds_16 : decode cX1_endHolds 16 = .ok (.iload_n 3, 1) := dk_29 (dk_at dksX1_endHolds_0 16 rfl rfl)
theorem dX1_endHolds_17 : decode cX1_endHolds 17 = .ok (.aaload, 1) := dk_50 (dk_at dksX1_endHolds_0 17 rfl rfl)
theorem dX1_endHolds_18 : decode cX1_endHolds 18 = .ok (.astore 4, 2) := dk_58 4 (dk_at dksX1_endHolds_0 18 rfl rfl)
theorem dX1_endHolds_20 : decode cX1_endHolds 20 = .ok (.aload 4, 2) := dk_25 4 (dk_at dksX1_endHolds_0 20 rfl rfl)
theorem dX1_endHolds_22 : decode cX1_endHolds 22 = .ok (.ifnull 32, 3) := dk_198 0 32 (dk_at dksX1_endHolds_1 0 rfl rfl)
theorem dX1_endHolds_25 : decode cX1_endHolds 25 = .ok (.aload 4, 2) := dk_25 4 (dk_at dksX1_endHolds_1 3 rfl rfl)
theorem dX1_endHolds_27 : decode cX1_endHolds 27 = .ok (.getfield 168, 3) := dk_180 0 168 (dk_at dksX1_endHolds_1 5 rfl rfl)
theorem dX1_endHolds_30 : decode cX1_endHolds 30 = .ok (.bipush 45, 2) := dk_16 45 (dk_at dksX1_endHolds_1 8 rfl rfl)
theorem dX1_endHolds_32 : decode cX1_endHolds 32 = .ok (.if_icmp .eq 22, 3) := dk_159 0 22 (dk_at dksX1_endHolds_1 10 rfl rfl)
theorem dX1_endHolds_35 : decode cX1_endHolds 35 = .ok (.aload 4, 2) := dk_25 4 (dk_at dksX1_endHolds_1 13 rfl rfl)
theorem dX1_endHolds_37 : decode cX1_endHolds 37 = .ok (.getfield 171, 3) := dk_180 0 171 (dk_at dksX1_endHolds_1 15 rfl rfl)
theorem dX1_endHolds_40 : decode cX1_endHolds 40 = .ok (.aload_n 0, 1) := dk_42 (dk_at dksX1_endHolds_1 18 rfl rfl)
theorem dX1_endHolds_41 : decode cX1_endHolds 41 = .ok (.getfield 165, 3) := dk_180 0 165 (dk_at dksX1_endHolds_1 19 rfl rfl)
theorem dX1_endHolds_44 : decode cX1_endHolds 44 = .ok (.if_icmp .ne 10, 3) := dk_160 0 10 (dk_at dksX1_endHolds_2 0 rfl rfl)
theorem dX1_endHolds_47 : decode cX1_endHolds 47 = .ok (.aload 4, 2) := dk_25 4 (dk_at dksX1_endHolds_2 3 rfl rfl)
theorem dX1_endHolds_49 : decode cX1_endHolds 49 = .ok (.bipush 45, 2) := dk_16 45 (dk_at dksX1_endHolds_2 5 rfl rfl)
theorem dX1_endHolds_51 : decode cX1_endHolds 51 = .ok (.putfield 168, 3) := dk_181 0 168 (dk_at dksX1_endHolds_2 7 rfl rfl)
theorem dX1_endHolds_54 : decode cX1_endHolds 54 = .ok (.iinc 3 1, 3) := dk_132 3 1 (dk_at dksX1_endHolds_2 10 rfl rfl)
theorem dX1_endHolds_57 : decode cX1_endHolds 57 = .ok (.goto (-47), 3) := dk_167 255 209 (dk_at dksX1_endHolds_2 13 rfl rfl)
theorem dX1_endHolds_60 : decode cX1_endHolds 60 = .ok (.return_, 1) := dk_177 (dk_at dksX1_endHolds_2 16 rfl rfl)
abbrev cX1_serve : ByteArray := prog_1_method_54_code
def yX1_serve : MethodName := ⟨RX1, "serve", "(LQuaylock$Appointment;)Z"⟩
def dkwX1_serve_4 : List UInt8 := [180, 0, 108, 133, 97, 181, 1, 67, 4, 172]
abbrev dktX1_serve_4 : List UInt8 := dkwX1_serve_4 ++ []
def dkwX1_serve_3 : List UInt8 := [44, 180, 0, 101, 1, 83, 42, 89, 180, 0, 94, 4, 100, 181, 0, 94, 42, 89, 180, 1, 67, 44]
abbrev dktX1_serve_3 : List UInt8 := dkwX1_serve_3 ++ dktX1_serve_4
def dkwX1_serve_2 : List UInt8 := [182, 1, 29, 87, 42, 180, 0, 10, 42, 180, 0, 10, 44, 182, 0, 111, 182, 0, 200, 87, 42, 180, 0, 22]
abbrev dktX1_serve_2 : List UInt8 := dkwX1_serve_2 ++ dktX1_serve_3
def dkwX1_serve_1 : List UInt8 := [42, 43, 45, 199, 0, 8, 16, 109, 167, 0, 5, 16, 100, 182, 0, 186, 45, 199, 0, 5, 3, 172, 42, 45]
abbrev dktX1_serve_1 : List UInt8 := dkwX1_serve_1 ++ dktX1_serve_2
def dkwX1_serve_0 : List UInt8 := [43, 180, 0, 149, 77, 44, 180, 0, 168, 16, 45, 160, 0, 11, 42, 44, 182, 1, 11, 167, 0, 4, 1, 78]
abbrev dktX1_serve_0 : List UInt8 := dkwX1_serve_0 ++ dktX1_serve_1
theorem dksX1_serve_0 : cX1_serve.data.toList.drop 0 = dktX1_serve_0 := by decide +kernel
theorem dksX1_serve_1 : cX1_serve.data.toList.drop 24 = dktX1_serve_1 := dk_seg dksX1_serve_0 24 rfl rfl
theorem dksX1_serve_2 : cX1_serve.data.toList.drop 48 = dktX1_serve_2 := dk_seg dksX1_serve_1 24 rfl rfl
theorem dksX1_serve_3 : cX1_serve.data.toList.drop 72 = dktX1_serve_3 := dk_seg dksX1_serve_2 24 rfl rfl
theorem dksX1_serve_4 : cX1_serve.data.toList.drop 94 = dktX1_serve_4 := dk_seg dksX1_serve_3 22 rfl rfl
theorem dX1_serve_0 : decode cX1_serve 0 = .ok (.aload_n 1, 1) := dk_43 (dk_at dksX1_serve_0 0 rfl rfl)
theorem dX1_serve_1 : decode cX1_serve 1 = .ok (.getfield 149, 3) := dk_180 0 149 (dk_at dksX1_serve_0 1 rfl rfl)
theorem dX1_serve_4 : decode cX1_serve 4 = .ok (.astore_n 2, 1) := dk_77 (dk_at dksX1_serve_0 4 rfl rfl)
theorem dX1_serve_5 : decode cX1_serve 5 = .ok (.aload_n 2, 1) := dk_44 (dk_at dksX1_serve_0 5 rfl rfl)
theorem dX1_serve_6 : decode cX1_serve 6 = .ok (.getfield 168, 3) := dk_180 0 168 (dk_at dksX1_serve_0 6 rfl rfl)
theorem dX1_serve_9 : decode cX1_serve 9 = .ok (.bipush 45, 2) := dk_16 45 (dk_at dksX1_serve_0 9 rfl rfl)
theorem dX1_serve_11 : decode cX1_serve 11 = .ok (.if_icmp .ne 11, 3) := dk_160 0 11 (dk_at dksX1_serve_0 11 rfl rfl)
theorem dX1_serve_14 : decode cX1_serve 14 = .ok (.aload_n 0, 1) := dk_42 (dk_at dksX1_serve_0 14 rfl rfl)
theorem dX1_serve_15 : decode cX1_serve 15 = .ok (.aload_n 2, 1) := dk_44 (dk_at dksX1_serve_0 15 rfl rfl)
theorem dX1_serve_16 : decode cX1_serve 16 = .ok (.invokevirtual 267, 3) := dk_182 1 11 (dk_at dksX1_serve_0 16 rfl rfl)
theorem dX1_serve_19 : decode cX1_serve 19 = .ok (.goto 4, 3) := dk_167 0 4 (dk_at dksX1_serve_0 19 rfl rfl)
theorem dX1_serve_22 : decode cX1_serve 22 = .ok (.aconst_null, 1) := dk_1 (dk_at dksX1_serve_0 22 rfl rfl)
theorem dX1_serve_23 : decode cX1_serve 23 = .ok (.astore_n 3, 1) := dk_78 (dk_at dksX1_serve_0 23 rfl rfl)
theorem dX1_serve_24 : decode cX1_serve 24 = .ok (.aload_n 0, 1) := dk_42 (dk_at dksX1_serve_1 0 rfl rfl)
theorem dX1_serve_25 : decode cX1_serve 25 = .ok (.aload_n 1, 1) := dk_43 (dk_at dksX1_serve_1 1 rfl rfl)
theorem dX1_serve_26 : decode cX1_serve 26 = .ok (.aload_n 3, 1) := dk_45 (dk_at dksX1_serve_1 2 rfl rfl)
theorem dX1_serve_27 : decode cX1_serve 27 = .ok (.ifnonnull 8, 3) := dk_199 0 8 (dk_at dksX1_serve_1 3 rfl rfl)
theorem dX1_serve_30 : decode cX1_serve 30 = .ok (.bipush 109, 2) := dk_16 109 (dk_at dksX1_serve_1 6 rfl rfl)
theorem dX1_serve_32 : decode cX1_serve 32 = .ok (.goto 5, 3) := dk_167 0 5 (dk_at dksX1_serve_1 8 rfl rfl)
theorem dX1_serve_35 : decode cX1_serve 35 = .ok (.bipush 100, 2) := dk_16 100 (dk_at dksX1_serve_1 11 rfl rfl)
theorem dX1_serve_37 : decode cX1_serve 37 = .ok (.invokevirtual 186, 3) := dk_182 0 186 (dk_at dksX1_serve_1 13 rfl rfl)
theorem dX1_serve_40 : decode cX1_serve 40 = .ok (.aload_n 3, 1) := dk_45 (dk_at dksX1_serve_1 16 rfl rfl)
theorem dX1_serve_41 : decode cX1_serve 41 = .ok (.ifnonnull 5, 3) := dk_199 0 5 (dk_at dksX1_serve_1 17 rfl rfl)
theorem dX1_serve_44 : decode cX1_serve 44 = .ok (.iconst 0, 1) := dk_3 (dk_at dksX1_serve_1 20 rfl rfl)
theorem dX1_serve_45 : decode cX1_serve 45 = .ok (.ireturn, 1) := dk_172 (dk_at dksX1_serve_1 21 rfl rfl)
theorem dX1_serve_46 : decode cX1_serve 46 = .ok (.aload_n 0, 1) := dk_42 (dk_at dksX1_serve_1 22 rfl rfl)
theorem dX1_serve_47 : decode cX1_serve 47 = .ok (.aload_n 3, 1) := dk_45 (dk_at dksX1_serve_1 23 rfl rfl)
theorem dX1_serve_48 : decode cX1_serve 48 = .ok (.invokevirtual 285, 3) := dk_182 1 29 (dk_at dksX1_serve_2 0 rfl rfl)
theorem dX1_serve_51 : decode cX1_serve 51 = .ok (.pop, 1) := dk_87 (dk_at dksX1_serve_2 3 rfl rfl)
theorem dX1_serve_52 : decode cX1_serve 52 = .ok (.aload_n 0, 1) := dk_42 (dk_at dksX1_serve_2 4 rfl rfl)
theorem dX1_serve_53 : decode cX1_serve 53 = .ok (.getfield 10, 3) := dk_180 0 10 (dk_at dksX1_serve_2 5 rfl rfl)
theorem dX1_serve_56 : decode cX1_serve 56 = .ok (.aload_n 0, 1) := dk_42 (dk_at dksX1_serve_2 8 rfl rfl)
theorem dX1_serve_57 : decode cX1_serve 57 = .ok (.getfield 10, 3) := dk_180 0 10 (dk_at dksX1_serve_2 9 rfl rfl)
theorem dX1_serve_60 : decode cX1_serve 60 = .ok (.aload_n 2, 1) := dk_44 (dk_at dksX1_serve_2 12 rfl rfl)
theorem dX1_serve_61 : decode cX1_serve 61 = .ok (.invokevirtual 111, 3) := dk_182 0 111 (dk_at dksX1_serve_2 13 rfl rfl)
theorem dX1_serve_64 : decode cX1_serve 64 = .ok (.invokevirtual 200, 3) := dk_182 0 200 (dk_at dksX1_serve_2 16 rfl rfl)
theorem dX1_serve_67 : decode cX1_serve 67 = .ok (.pop, 1) := dk_87 (dk_at dksX1_serve_2 19 rfl rfl)
theorem dX1_serve_68 : decode cX1_serve 68 = .ok (.aload_n 0, 1) := dk_42 (dk_at dksX1_serve_2 20 rfl rfl)
theorem dX1_serve_69 : decode cX1_serve 69 = .ok (.getfield 22, 3) := dk_180 0 22 (dk_at dksX1_serve_2 21 rfl rfl)
theorem dX1_serve_72 : decode cX1_serve 72 = .ok (.aload_n 2, 1) := dk_44 (dk_at dksX1_serve_3 0 rfl rfl)
theorem dX1_serve_73 : decode cX1_serve 73 = .ok (.getfield 101, 3) := dk_180 0 101 (dk_at dksX1_serve_3 1 rfl rfl)
theorem dX1_serve_76 : decode cX1_serve 76 = .ok (.aconst_null, 1) := dk_1 (dk_at dksX1_serve_3 4 rfl rfl)
theorem dX1_serve_77 : decode cX1_serve 77 = .ok (.aastore, 1) := dk_83 (dk_at dksX1_serve_3 5 rfl rfl)
theorem dX1_serve_78 : decode cX1_serve 78 = .ok (.aload_n 0, 1) := dk_42 (dk_at dksX1_serve_3 6 rfl rfl)
theorem dX1_serve_79 : decode cX1_serve 79 = .ok (.dup, 1) := dk_89 (dk_at dksX1_serve_3 7 rfl rfl)
theorem dX1_serve_80 : decode cX1_serve 80 = .ok (.getfield 94, 3) := dk_180 0 94 (dk_at dksX1_serve_3 8 rfl rfl)
theorem dX1_serve_83 : decode cX1_serve 83 = .ok (.iconst 1, 1) := dk_4 (dk_at dksX1_serve_3 11 rfl rfl)
theorem dX1_serve_84 : decode cX1_serve 84 = .ok (.isub, 1) := dk_100 (dk_at dksX1_serve_3 12 rfl rfl)
theorem dX1_serve_85 : decode cX1_serve 85 = .ok (.putfield 94, 3) := dk_181 0 94 (dk_at dksX1_serve_3 13 rfl rfl)
theorem dX1_serve_88 : decode cX1_serve 88 = .ok (.aload_n 0, 1) := dk_42 (dk_at dksX1_serve_3 16 rfl rfl)
theorem dX1_serve_89 : decode cX1_serve 89 = .ok (.dup, 1) := dk_89 (dk_at dksX1_serve_3 17 rfl rfl)
theorem dX1_serve_90 : decode cX1_serve 90 = .ok (.getfield 323, 3) := dk_180 1 67 (dk_at dksX1_serve_3 18 rfl rfl)
theorem dX1_serve_93 : decode cX1_serve 93 = .ok (.aload_n 2, 1) := dk_44 (dk_at dksX1_serve_3 21 rfl rfl)
theorem dX1_serve_94 : decode cX1_serve 94 = .ok (.getfield 108, 3) := dk_180 0 108 (dk_at dksX1_serve_4 0 rfl rfl)
theorem dX1_serve_97 : decode cX1_serve 97 = .ok (.i2l, 1) := dk_133 (dk_at dksX1_serve_4 3 rfl rfl)
theorem dX1_serve_98 : decode cX1_serve 98 = .ok (.ladd, 1) := dk_97 (dk_at dksX1_serve_4 4 rfl rfl)
theorem dX1_serve_99 : decode cX1_serve 99 = .ok (.putfield 323, 3) := dk_181 1 67 (dk_at dksX1_serve_4 5 rfl rfl)
theorem dX1_serve_102 : decode cX1_serve 102 = .ok (.iconst 1, 1) := dk_4 (dk_at dksX1_serve_4 8 rfl rfl)
theorem dX1_serve_103 : decode cX1_serve 103 = .ok (.ireturn, 1) := dk_172 (dk_at dksX1_serve_4 9 rfl rfl)
abbrev cX1_doneShare : ByteArray := prog_1_method_59_code
def yX1_doneShare : MethodName := ⟨RX1, "doneShare", "()F"⟩
def dkwX1_doneShare_1 : List UInt8 := [158, 0, 7, 4, 167, 0, 4, 3, 184, 0, 124, 27, 134, 28, 134, 110, 174]
abbrev dktX1_doneShare_1 : List UInt8 := dkwX1_doneShare_1 ++ []
def dkwX1_doneShare_0 : List UInt8 := [42, 16, 100, 182, 1, 91, 60, 27, 42, 16, 109, 182, 1, 91, 96, 42, 16, 103, 182, 1, 91, 96, 61, 28]
abbrev dktX1_doneShare_0 : List UInt8 := dkwX1_doneShare_0 ++ dktX1_doneShare_1
theorem dksX1_doneShare_0 : cX1_doneShare.data.toList.drop 0 = dktX1_doneShare_0 := by decide +kernel
theorem dksX1_doneShare_1 : cX1_doneShare.data.toList.drop 24 = dktX1_doneShare_1 := dk_seg dksX1_doneShare_0 24 rfl rfl
theorem dX1_doneShare_0 : decode cX1_doneShare 0 = .ok (.aload_n 0, 1) := dk_42 (dk_at dksX1_doneShare_0 0 rfl rfl)
theorem dX1_doneShare_1 : decode cX1_doneShare 1 = .ok (.bipush 100, 2) := dk_16 100 (dk_at dksX1_doneShare_0 1 rfl rfl)
theorem dX1_doneShare_3 : decode cX1_doneShare 3 = .ok (.invokevirtual 347, 3) := dk_182 1 91 (dk_at dksX1_doneShare_0 3 rfl rfl)
theorem dX1_doneShare_6 : decode cX1_doneShare 6 = .ok (.istore_n 1, 1) := dk_60 (dk_at dksX1_doneShare_0 6 rfl rfl)
theorem dX1_doneShare_7 : decode cX1_doneShare 7 = .ok (.iload_n 1, 1) := dk_27 (dk_at dksX1_doneShare_0 7 rfl rfl)
theorem dX1_doneShare_8 : decode cX1_doneShare 8 = .ok (.aload_n 0, 1) := dk_42 (dk_at dksX1_doneShare_0 8 rfl rfl)
theorem dX1_doneShare_9 : decode cX1_doneShare 9 = .ok (.bipush 109, 2) := dk_16 109 (dk_at dksX1_doneShare_0 9 rfl rfl)
theorem dX1_doneShare_11 : decode cX1_doneShare 11 = .ok (.invokevirtual 347, 3) := dk_182 1 91 (dk_at dksX1_doneShare_0 11 rfl rfl)
theorem dX1_doneShare_14 : decode cX1_doneShare 14 = .ok (.iadd, 1) := dk_96 (dk_at dksX1_doneShare_0 14 rfl rfl)
theorem dX1_doneShare_15 : decode cX1_doneShare 15 = .ok (.aload_n 0, 1) := dk_42 (dk_at dksX1_doneShare_0 15 rfl rfl)
theorem dX1_doneShare_16 : decode cX1_doneShare 16 = .ok (.bipush 103, 2) := dk_16 103 (dk_at dksX1_doneShare_0 16 rfl rfl)
theorem dX1_doneShare_18 : decode cX1_doneShare 18 = .ok (.invokevirtual 347, 3) := dk_182 1 91 (dk_at dksX1_doneShare_0 18 rfl rfl)
theorem dX1_doneShare_21 : decode cX1_doneShare 21 = .ok (.iadd, 1) := dk_96 (dk_at dksX1_doneShare_0 21 rfl rfl)
theorem dX1_doneShare_22 : decode cX1_doneShare 22 = .ok (.istore_n 2, 1) := dk_61 (dk_at dksX1_doneShare_0 22 rfl rfl)
theorem dX1_doneShare_23 : decode cX1_doneShare 23 = .ok (.iload_n 2, 1) := dk_28 (dk_at dksX1_doneShare_0 23 rfl rfl)
theorem dX1_doneShare_24 : decode cX1_doneShare 24 = .ok (.ifCond .le 7, 3) := dk_158 0 7 (dk_at dksX1_doneShare_1 0 rfl rfl)
theorem dX1_doneShare_27 : decode cX1_doneShare 27 = .ok (.iconst 1, 1) := dk_4 (dk_at dksX1_doneShare_1 3 rfl rfl)
theorem dX1_doneShare_28 : decode cX1_doneShare 28 = .ok (.goto 4, 3) := dk_167 0 4 (dk_at dksX1_doneShare_1 4 rfl rfl)
theorem dX1_doneShare_31 : decode cX1_doneShare 31 = .ok (.iconst 0, 1) := dk_3 (dk_at dksX1_doneShare_1 7 rfl rfl)
theorem dX1_doneShare_32 : decode cX1_doneShare 32 = .ok (.invokestatic 124, 3) := dk_184 0 124 (dk_at dksX1_doneShare_1 8 rfl rfl)
theorem dX1_doneShare_35 : decode cX1_doneShare 35 = .ok (.iload_n 1, 1) := dk_27 (dk_at dksX1_doneShare_1 11 rfl rfl)
theorem dX1_doneShare_36 : decode cX1_doneShare 36 = .ok (.i2f, 1) := dk_134 (dk_at dksX1_doneShare_1 12 rfl rfl)
theorem dX1_doneShare_37 : decode cX1_doneShare 37 = .ok (.iload_n 2, 1) := dk_28 (dk_at dksX1_doneShare_1 13 rfl rfl)
theorem dX1_doneShare_38 : decode cX1_doneShare 38 = .ok (.i2f, 1) := dk_134 (dk_at dksX1_doneShare_1 14 rfl rfl)
theorem dX1_doneShare_39 : decode cX1_doneShare 39 = .ok (.fdiv, 1) := dk_110 (dk_at dksX1_doneShare_1 15 rfl rfl)
theorem dX1_doneShare_40 : decode cX1_doneShare 40 = .ok (.freturn, 1) := dk_174 (dk_at dksX1_doneShare_1 16 rfl rfl)
abbrev cX1_count : ByteArray := prog_1_method_58_code
def yX1_count : MethodName := ⟨RX1, "count", "(C)I"⟩
def dkwX1_count_2 : List UInt8 := [3, 96, 61, 167, 255, 219, 28, 172]
abbrev dktX1_count_2 : List UInt8 := dkwX1_count_2 ++ []
def dkwX1_count_1 : List UInt8 := [185, 0, 143, 1, 0, 192, 0, 147, 58, 4, 28, 25, 4, 180, 0, 153, 27, 160, 0, 7, 4, 167, 0, 4]
abbrev dktX1_count_1 : List UInt8 := dkwX1_count_1 ++ dktX1_count_2
def dkwX1_count_0 : List UInt8 := [3, 61, 42, 180, 0, 29, 185, 0, 131, 1, 0, 78, 45, 185, 0, 137, 1, 0, 153, 0, 34, 45]
abbrev dktX1_count_0 : List UInt8 := dkwX1_count_0 ++ dktX1_count_1
theorem dksX1_count_0 : cX1_count.data.toList.drop 0 = dktX1_count_0 := by decide +kernel
theorem dksX1_count_1 : cX1_count.data.toList.drop 22 = dktX1_count_1 := dk_seg dksX1_count_0 22 rfl rfl
theorem dksX1_count_2 : cX1_count.data.toList.drop 46 = dktX1_count_2 := dk_seg dksX1_count_1 24 rfl rfl
theorem dX1_count_0 : decode cX1_count 0 = .ok (.iconst 0, 1) := dk_3 (dk_at dksX1_count_0 0 rfl rfl)
theorem dX1_count_1 : decode cX1_count 1 = .ok (.istore_n 2, 1) := dk_61 (dk_at dksX1_count_0 1 rfl rfl)
theorem dX1_count_2 : decode cX1_count 2 = .ok (.aload_n 0, 1) := dk_42 (dk_at dksX1_count_0 2 rfl rfl)
theorem dX1_count_3 : decode cX1_count 3 = .ok (.getfield 29, 3) := dk_180 0 29 (dk_at dksX1_count_0 3 rfl rfl)
theorem dX1_count_6 : decode cX1_count 6 = .ok (.invokeinterface 131 1, 5) := by decide +kernel
theorem dX1_count_11 : decode cX1_count 11 = .ok (.astore_n 3, 1) := dk_78 (dk_at dksX1_count_0 11 rfl rfl)
theorem dX1_count_12 : decode cX1_count 12 = .ok (.aload_n 3, 1) := dk_45 (dk_at dksX1_count_0 12 rfl rfl)
theorem dX1_count_13 : decode cX1_count 13 = .ok (.invokeinterface 137 1, 5) := by decide +kernel
theorem dX1_count_18 : decode cX1_count 18 = .ok (.ifCond .eq 34, 3) := dk_153 0 34 (dk_at dksX1_count_0 18 rfl rfl)
theorem dX1_count_21 : decode cX1_count 21 = .ok (.aload_n 3, 1) := dk_45 (dk_at dksX1_count_0 21 rfl rfl)
theorem dX1_count_22 : decode cX1_count 22 = .ok (.invokeinterface 143 1, 5) := by decide +kernel
theorem dX1_count_27 : decode cX1_count 27 = .ok (.checkcast 147, 3) := dk_192 0 147 (dk_at dksX1_count_1 5 rfl rfl)
theorem dX1_count_30 : decode cX1_count 30 = .ok (.astore 4, 2) := dk_58 4 (dk_at dksX1_count_1 8 rfl rfl)
theorem dX1_count_32 : decode cX1_count 32 = .ok (.iload_n 2, 1) := dk_28 (dk_at dksX1_count_1 10 rfl rfl)
theorem dX1_count_33 : decode cX1_count 33 = .ok (.aload 4, 2) := dk_25 4 (dk_at dksX1_count_1 11 rfl rfl)
theorem dX1_count_35 : decode cX1_count 35 = .ok (.getfield 153, 3) := dk_180 0 153 (dk_at dksX1_count_1 13 rfl rfl)
theorem dX1_count_38 : decode cX1_count 38 = .ok (.iload_n 1, 1) := dk_27 (dk_at dksX1_count_1 16 rfl rfl)
theorem dX1_count_39 : decode cX1_count 39 = .ok (.if_icmp .ne 7, 3) := dk_160 0 7 (dk_at dksX1_count_1 17 rfl rfl)
theorem dX1_count_42 : decode cX1_count 42 = .ok (.iconst 1, 1) := dk_4 (dk_at dksX1_count_1 20 rfl rfl)
theorem dX1_count_43 : decode cX1_count 43 = .ok (.goto 4, 3) := dk_167 0 4 (dk_at dksX1_count_1 21 rfl rfl)
theorem dX1_count_46 : decode cX1_count 46 = .ok (.iconst 0, 1) := dk_3 (dk_at dksX1_count_2 0 rfl rfl)
theorem dX1_count_47 : decode cX1_count 47 = .ok (.iadd, 1) := dk_96 (dk_at dksX1_count_2 1 rfl rfl)
theorem dX1_count_48 : decode cX1_count 48 = .ok (.istore_n 2, 1) := dk_61 (dk_at dksX1_count_2 2 rfl rfl)
theorem dX1_count_49 : decode cX1_count 49 = .ok (.goto (-37), 3) := dk_167 255 219 (dk_at dksX1_count_2 3 rfl rfl)
theorem dX1_count_52 : decode cX1_count 52 = .ok (.iload_n 2, 1) := dk_28 (dk_at dksX1_count_2 6 rfl rfl)
theorem dX1_count_53 : decode cX1_count 53 = .ok (.ireturn, 1) := dk_172 (dk_at dksX1_count_2 7 rfl rfl)
theorem q58 : (Jvm.Cond.initialized "Quaylock") ∈ lw_all := lw_g (lw_at lw_m1 1 rfl) rfl
theorem q98 : (Jvm.Cond.instantiable "Quaylock" (11 : Nat)) ∈ lw_all := lw_g (lw_at lw_m1 41 rfl) rfl
theorem q100 : (Jvm.Cond.instanceMethod ({ cls := "Quaylock", name := "<init>", desc := "()V" } : Jvm.MethodName)) ∈ lw_all := lw_g (lw_at lw_m1 43 rfl) rfl
theorem q101 : (Jvm.Cond.code ({ cls := "Quaylock", name := "<init>", desc := "()V" } : Jvm.MethodName) prog_1_method_2_code (1 : Nat) (Option.none : Option Jvm.ClassFile.FieldType)) ∈ lw_all := lw_g (lw_at lw_m1 44 rfl) rfl
theorem q102 : (Jvm.Cond.methodLink "Quaylock" (1 : Nat) ({ cls := "java/lang/Object", name := "<init>", desc := "()V" } : Jvm.MethodName)) ∈ lw_all := lw_g (lw_at lw_m1 45 rfl) rfl
theorem q105 : (Jvm.Cond.classLink "Quaylock" (7 : Nat) "Quaylock$Yard") ∈ lw_all := lw_g (lw_at lw_m1 48 rfl) rfl
theorem q107 : (Jvm.Cond.methodLink "Quaylock" (9 : Nat) ({ cls := "Quaylock$Yard", name := "<init>", desc := "()V" } : Jvm.MethodName)) ∈ lw_all := lw_g (lw_at lw_m1 50 rfl) rfl
theorem q115 : (Jvm.Cond.fieldLinkNest "Quaylock" (121 : Nat) "Quaylock$Yard" "heights" "[I" "Quaylock") ∈ lw_tbl := lw_at lw_m1 58 rfl
theorem q122 : (Jvm.Cond.classLink "Quaylock" (20 : Nat) "Quaylock$Box") ∈ lw_all := lw_g (lw_at lw_m1 65 rfl) rfl
theorem q123 : (Jvm.Cond.classLink "Quaylock" (26 : Nat) "java/util/ArrayList") ∈ lw_all := lw_g (lw_at lw_m1 66 rfl) rfl
theorem q125 : (Jvm.Cond.methodLink "Quaylock" (28 : Nat) ({ cls := "java/util/ArrayList", name := "<init>", desc := "()V" } : Jvm.MethodName)) ∈ lw_all := lw_g (lw_at lw_m1 68 rfl) rfl
theorem q152 : (Jvm.Cond.classLink "Quaylock" (33 : Nat) "java/util/TreeMap") ∈ lw_all := lw_g (lw_at lw_m1 95 rfl) rfl
theorem q154 : (Jvm.Cond.methodLink "Quaylock" (35 : Nat) ({ cls := "java/util/TreeMap", name := "<init>", desc := "()V" } : Jvm.MethodName)) ∈ lw_all := lw_g (lw_at lw_m1 97 rfl) rfl
theorem q185 : (Jvm.Cond.fieldLink "Quaylock" (10 : Nat) "Quaylock" "yard" "LQuaylock$Yard;") ∈ lw_all := lw_g (lw_at lw_m1 128 rfl) rfl
theorem q186 : (Jvm.Cond.fieldLink "Quaylock" (16 : Nat) "Quaylock" "reaches" "[I") ∈ lw_all := lw_g (lw_at lw_m1 129 rfl) rfl
theorem q187 : (Jvm.Cond.fieldLink "Quaylock" (22 : Nat) "Quaylock" "boxes" "[LQuaylock$Box;") ∈ lw_all := lw_g (lw_at lw_m1 130 rfl) rfl
theorem q188 : (Jvm.Cond.fieldLink "Quaylock" (29 : Nat) "Quaylock" "appointments" "Ljava/util/List;") ∈ lw_all := lw_g (lw_at lw_m1 131 rfl) rfl
theorem q189 : (Jvm.Cond.fieldLink "Quaylock" (36 : Nat) "Quaylock" "booked" "Ljava/util/TreeMap;") ∈ lw_all := lw_g (lw_at lw_m1 132 rfl) rfl
theorem q190 : (Jvm.Cond.fieldLink "Quaylock" (71 : Nat) "Quaylock" "stacks" "I") ∈ lw_all := lw_g (lw_at lw_m1 133 rfl) rfl
theorem q191 : (Jvm.Cond.fieldLink "Quaylock" (55 : Nat) "Quaylock" "came" "I") ∈ lw_all := lw_g (lw_at lw_m1 134 rfl) rfl
theorem q192 : (Jvm.Cond.fieldLink "Quaylock" (94 : Nat) "Quaylock" "present" "I") ∈ lw_all := lw_g (lw_at lw_m1 135 rfl) rfl
theorem q193 : (Jvm.Cond.fieldLink "Quaylock" (203 : Nat) "Quaylock" "moves" "I") ∈ lw_all := lw_g (lw_at lw_m1 136 rfl) rfl
theorem q194 : (Jvm.Cond.fieldLink "Quaylock" (165 : Nat) "Quaylock" "now" "I") ∈ lw_all := lw_g (lw_at lw_m1 137 rfl) rfl
theorem q195 : (Jvm.Cond.fieldLink "Quaylock" (323 : Nat) "Quaylock" "weightLeft" "J") ∈ lw_all := lw_g (lw_at lw_m1 138 rfl) rfl
theorem q196 : (Jvm.Cond.laysFinal "Quaylock" "Quaylock" "yard" "LQuaylock$Yard;") ∈ lw_all := lw_g (lw_at lw_m1 139 rfl) rfl
theorem q197 : (Jvm.Cond.soleField "Quaylock" "yard") ∈ lw_all := lw_g (lw_at lw_m1 140 rfl) rfl
theorem q198 : (Jvm.Cond.laysFinal "Quaylock" "Quaylock" "reaches" "[I") ∈ lw_all := lw_g (lw_at lw_m1 141 rfl) rfl
theorem q199 : (Jvm.Cond.soleField "Quaylock" "reaches") ∈ lw_all := lw_g (lw_at lw_m1 142 rfl) rfl
theorem q200 : (Jvm.Cond.laysFinal "Quaylock" "Quaylock" "boxes" "[LQuaylock$Box;") ∈ lw_all := lw_g (lw_at lw_m1 143 rfl) rfl
theorem q201 : (Jvm.Cond.soleField "Quaylock" "boxes") ∈ lw_all := lw_g (lw_at lw_m1 144 rfl) rfl
theorem q202 : (Jvm.Cond.laysFinal "Quaylock" "Quaylock" "appointments" "Ljava/util/List;") ∈ lw_all := lw_g (lw_at lw_m1 145 rfl) rfl
theorem q203 : (Jvm.Cond.soleField "Quaylock" "appointments") ∈ lw_all := lw_g (lw_at lw_m1 146 rfl) rfl
theorem q204 : (Jvm.Cond.laysFinal "Quaylock" "Quaylock" "booked" "Ljava/util/TreeMap;") ∈ lw_all := lw_g (lw_at lw_m1 147 rfl) rfl
theorem q205 : (Jvm.Cond.soleField "Quaylock" "booked") ∈ lw_all := lw_g (lw_at lw_m1 148 rfl) rfl
theorem q206 : (Jvm.Cond.lays "Quaylock" "Quaylock" "stacks" "I") ∈ lw_all := lw_g (lw_at lw_m1 149 rfl) rfl
theorem q207 : (Jvm.Cond.soleField "Quaylock" "stacks") ∈ lw_all := lw_g (lw_at lw_m1 150 rfl) rfl
theorem q208 : (Jvm.Cond.lays "Quaylock" "Quaylock" "came" "I") ∈ lw_all := lw_g (lw_at lw_m1 151 rfl) rfl
theorem q209 : (Jvm.Cond.soleField "Quaylock" "came") ∈ lw_all := lw_g (lw_at lw_m1 152 rfl) rfl
theorem q210 : (Jvm.Cond.lays "Quaylock" "Quaylock" "present" "I") ∈ lw_all := lw_g (lw_at lw_m1 153 rfl) rfl
theorem q211 : (Jvm.Cond.soleField "Quaylock" "present") ∈ lw_all := lw_g (lw_at lw_m1 154 rfl) rfl
theorem q212 : (Jvm.Cond.lays "Quaylock" "Quaylock" "moves" "I") ∈ lw_all := lw_g (lw_at lw_m1 155 rfl) rfl
theorem q213 : (Jvm.Cond.soleField "Quaylock" "moves") ∈ lw_all := lw_g (lw_at lw_m1 156 rfl) rfl
theorem q214 : (Jvm.Cond.lays "Quaylock" "Quaylock" "now" "I") ∈ lw_all := lw_g (lw_at lw_m1 157 rfl) rfl
theorem q215 : (Jvm.Cond.soleField "Quaylock" "now") ∈ lw_all := lw_g (lw_at lw_m1 158 rfl) rfl
theorem q216 : (Jvm.Cond.lays "Quaylock" "Quaylock" "weightLeft" "J") ∈ lw_all := lw_g (lw_at lw_m1 159 rfl) rfl
theorem q217 : (Jvm.Cond.soleField "Quaylock" "weightLeft") ∈ lw_all := lw_g (lw_at lw_m1 160 rfl) rfl
theorem q218 : (Jvm.Cond.superclass "Quaylock" "java/lang/Object") ∈ lw_all := lw_g (lw_at lw_m1 161 rfl) rfl
theorem q220 : (Jvm.Cond.instanceMethod ({ cls := "Quaylock", name := "boxes", desc := "()I" } : Jvm.MethodName)) ∈ lw_all := lw_g (lw_at lw_m1 163 rfl) rfl
theorem q221 : (Jvm.Cond.selects "Quaylock" ({ cls := "Quaylock", name := "boxes", desc := "()I" } : Jvm.MethodName) ({ cls := "Quaylock", name := "boxes", desc := "()I" } : Jvm.MethodName)) ∈ lw_all := lw_g (lw_at lw_m1 164 rfl) rfl
theorem q222 : (Jvm.Cond.code ({ cls := "Quaylock", name := "boxes", desc := "()I" } : Jvm.MethodName) prog_1_method_13_code (1 : Nat) (Option.some Jvm.ClassFile.FieldType.int)) ∈ lw_all := lw_g (lw_at lw_m1 165 rfl) rfl
theorem q224 : (Jvm.Cond.instanceMethod ({ cls := "Quaylock", name := "isInYard", desc := "(I)Z" } : Jvm.MethodName)) ∈ lw_all := lw_g (lw_at lw_m1 167 rfl) rfl
theorem q225 : (Jvm.Cond.selects "Quaylock" ({ cls := "Quaylock", name := "isInYard", desc := "(I)Z" } : Jvm.MethodName) ({ cls := "Quaylock", name := "isInYard", desc := "(I)Z" } : Jvm.MethodName)) ∈ lw_all := lw_g (lw_at lw_m1 168 rfl) rfl
theorem q226 : (Jvm.Cond.code ({ cls := "Quaylock", name := "isInYard", desc := "(I)Z" } : Jvm.MethodName) prog_1_method_14_code (2 : Nat) (Option.some Jvm.ClassFile.FieldType.boolean)) ∈ lw_all := lw_g (lw_at lw_m1 169 rfl) rfl
theorem q227 : (Jvm.Cond.methodLink "Quaylock" (63 : Nat) ({ cls := "Quaylock", name := "isPresent", desc := "(I)Z" } : Jvm.MethodName)) ∈ lw_all := lw_g (lw_at lw_m1 170 rfl) rfl
theorem q228 : (Jvm.Cond.privateMethod ({ cls := "Quaylock", name := "isPresent", desc := "(I)Z" } : Jvm.MethodName)) ∈ lw_tbl := lw_at lw_m1 171 rfl
theorem q229 : (Jvm.Cond.instanceMethod ({ cls := "Quaylock", name := "isPresent", desc := "(I)Z" } : Jvm.MethodName)) ∈ lw_all := lw_g (lw_at lw_m1 172 rfl) rfl
theorem q230 : (Jvm.Cond.code ({ cls := "Quaylock", name := "isPresent", desc := "(I)Z" } : Jvm.MethodName) prog_1_method_8_code (2 : Nat) (Option.some Jvm.ClassFile.FieldType.boolean)) ∈ lw_all := lw_g (lw_at lw_m1 173 rfl) rfl
theorem q231 : (Jvm.Cond.methodLink "Quaylock" (59 : Nat) ({ cls := "Quaylock", name := "isBetween", desc := "(III)Z" } : Jvm.MethodName)) ∈ lw_all := lw_g (lw_at lw_m1 174 rfl) rfl
theorem q232 : (Jvm.Cond.static ({ cls := "Quaylock", name := "isBetween", desc := "(III)Z" } : Jvm.MethodName)) ∈ lw_all := lw_g (lw_at lw_m1 175 rfl) rfl
theorem q233 : (Jvm.Cond.code ({ cls := "Quaylock", name := "isBetween", desc := "(III)Z" } : Jvm.MethodName) prog_1_method_1_code (3 : Nat) (Option.some Jvm.ClassFile.FieldType.boolean)) ∈ lw_all := lw_g (lw_at lw_m1 176 rfl) rfl
theorem q235 : (Jvm.Cond.instanceMethod ({ cls := "Quaylock", name := "moves", desc := "()I" } : Jvm.MethodName)) ∈ lw_all := lw_g (lw_at lw_m1 178 rfl) rfl
theorem q236 : (Jvm.Cond.selects "Quaylock" ({ cls := "Quaylock", name := "moves", desc := "()I" } : Jvm.MethodName) ({ cls := "Quaylock", name := "moves", desc := "()I" } : Jvm.MethodName)) ∈ lw_all := lw_g (lw_at lw_m1 179 rfl) rfl
theorem q237 : (Jvm.Cond.code ({ cls := "Quaylock", name := "moves", desc := "()I" } : Jvm.MethodName) prog_1_method_43_code (1 : Nat) (Option.some Jvm.ClassFile.FieldType.int)) ∈ lw_all := lw_g (lw_at lw_m1 180 rfl) rfl
theorem q239 : (Jvm.Cond.instanceMethod ({ cls := "Quaylock", name := "now", desc := "()I" } : Jvm.MethodName)) ∈ lw_all := lw_g (lw_at lw_m1 182 rfl) rfl
theorem q240 : (Jvm.Cond.selects "Quaylock" ({ cls := "Quaylock", name := "now", desc := "()I" } : Jvm.MethodName) ({ cls := "Quaylock", name := "now", desc := "()I" } : Jvm.MethodName)) ∈ lw_all := lw_g (lw_at lw_m1 183 rfl) rfl
theorem q241 : (Jvm.Cond.code ({ cls := "Quaylock", name := "now", desc := "()I" } : Jvm.MethodName) prog_1_method_56_code (1 : Nat) (Option.some Jvm.ClassFile.FieldType.int)) ∈ lw_all := lw_g (lw_at lw_m1 184 rfl) rfl
theorem q243 : (Jvm.Cond.instanceMethod ({ cls := "Quaylock", name := "weightLeft", desc := "()J" } : Jvm.MethodName)) ∈ lw_all := lw_g (lw_at lw_m1 186 rfl) rfl
theorem q244 : (Jvm.Cond.selects "Quaylock" ({ cls := "Quaylock", name := "weightLeft", desc := "()J" } : Jvm.MethodName) ({ cls := "Quaylock", name := "weightLeft", desc := "()J" } : Jvm.MethodName)) ∈ lw_all := lw_g (lw_at lw_m1 187 rfl) rfl
theorem q245 : (Jvm.Cond.code ({ cls := "Quaylock", name := "weightLeft", desc := "()J" } : Jvm.MethodName) prog_1_method_57_code (1 : Nat) (Option.some Jvm.ClassFile.FieldType.long)) ∈ lw_all := lw_g (lw_at lw_m1 188 rfl) rfl
theorem q252 : (Jvm.Cond.instanceMethod ({ cls := "Quaylock", name := "addStack", desc := "(I)I" } : Jvm.MethodName)) ∈ lw_all := lw_g (lw_at lw_m1 195 rfl) rfl
theorem q253 : (Jvm.Cond.selects "Quaylock" ({ cls := "Quaylock", name := "addStack", desc := "(I)I" } : Jvm.MethodName) ({ cls := "Quaylock", name := "addStack", desc := "(I)I" } : Jvm.MethodName)) ∈ lw_all := lw_g (lw_at lw_m1 196 rfl) rfl
theorem q254 : (Jvm.Cond.code ({ cls := "Quaylock", name := "addStack", desc := "(I)I" } : Jvm.MethodName) prog_1_method_11_code (2 : Nat) (Option.some Jvm.ClassFile.FieldType.int)) ∈ lw_all := lw_g (lw_at lw_m1 197 rfl) rfl
theorem q255 : (Jvm.Cond.methodLink "Quaylock" (74 : Nat) ({ cls := "Quaylock", name := "checkArgument", desc := "(Z)V" } : Jvm.MethodName)) ∈ lw_all := lw_g (lw_at lw_m1 198 rfl) rfl
theorem q256 : (Jvm.Cond.static ({ cls := "Quaylock", name := "checkArgument", desc := "(Z)V" } : Jvm.MethodName)) ∈ lw_all := lw_g (lw_at lw_m1 199 rfl) rfl
theorem q257 : (Jvm.Cond.code ({ cls := "Quaylock", name := "checkArgument", desc := "(Z)V" } : Jvm.MethodName) prog_1_method_3_code (1 : Nat) (Option.none : Option Jvm.ClassFile.FieldType)) ∈ lw_all := lw_g (lw_at lw_m1 200 rfl) rfl
theorem q258 : (Jvm.Cond.classLink "Quaylock" (40 : Nat) "java/lang/IllegalArgumentException") ∈ lw_all := lw_g (lw_at lw_m1 201 rfl) rfl
theorem q302 : (Jvm.Cond.methodLink "Quaylock" (42 : Nat) ({ cls := "java/lang/IllegalArgumentException", name := "<init>", desc := "()V" } : Jvm.MethodName)) ∈ lw_all := lw_g (lw_at lw_m2 5 rfl) rfl
theorem q325 : (Jvm.Cond.methodLink "Quaylock" (77 : Nat) ({ cls := "Quaylock", name := "checkState", desc := "(Z)V" } : Jvm.MethodName)) ∈ lw_all := lw_g (lw_at lw_m2 28 rfl) rfl
theorem q326 : (Jvm.Cond.static ({ cls := "Quaylock", name := "checkState", desc := "(Z)V" } : Jvm.MethodName)) ∈ lw_all := lw_g (lw_at lw_m2 29 rfl) rfl
theorem q327 : (Jvm.Cond.code ({ cls := "Quaylock", name := "checkState", desc := "(Z)V" } : Jvm.MethodName) prog_1_method_4_code (1 : Nat) (Option.none : Option Jvm.ClassFile.FieldType)) ∈ lw_all := lw_g (lw_at lw_m2 30 rfl) rfl
theorem q328 : (Jvm.Cond.classLink "Quaylock" (43 : Nat) "java/lang/IllegalStateException") ∈ lw_all := lw_g (lw_at lw_m2 31 rfl) rfl
theorem q337 : (Jvm.Cond.methodLink "Quaylock" (45 : Nat) ({ cls := "java/lang/IllegalStateException", name := "<init>", desc := "()V" } : Jvm.MethodName)) ∈ lw_all := lw_g (lw_at lw_m2 40 rfl) rfl
theorem q381 : (Jvm.Cond.instanceMethod ({ cls := "Quaylock", name := "addBox", desc := "(II)I" } : Jvm.MethodName)) ∈ lw_all := lw_g (lw_at lw_m2 84 rfl) rfl
theorem q382 : (Jvm.Cond.selects "Quaylock" ({ cls := "Quaylock", name := "addBox", desc := "(II)I" } : Jvm.MethodName) ({ cls := "Quaylock", name := "addBox", desc := "(II)I" } : Jvm.MethodName)) ∈ lw_all := lw_g (lw_at lw_m2 85 rfl) rfl
theorem q383 : (Jvm.Cond.code ({ cls := "Quaylock", name := "addBox", desc := "(II)I" } : Jvm.MethodName) prog_1_method_12_code (4 : Nat) (Option.some Jvm.ClassFile.FieldType.int)) ∈ lw_all := lw_g (lw_at lw_m2 86 rfl) rfl
theorem q384 : (Jvm.Cond.methodLink "Quaylock" (80 : Nat) ({ cls := "Quaylock", name := "checkStack", desc := "(I)V" } : Jvm.MethodName)) ∈ lw_all := lw_g (lw_at lw_m2 87 rfl) rfl
theorem q385 : (Jvm.Cond.privateMethod ({ cls := "Quaylock", name := "checkStack", desc := "(I)V" } : Jvm.MethodName)) ∈ lw_tbl := lw_at lw_m2 88 rfl
theorem q386 : (Jvm.Cond.instanceMethod ({ cls := "Quaylock", name := "checkStack", desc := "(I)V" } : Jvm.MethodName)) ∈ lw_all := lw_g (lw_at lw_m2 89 rfl) rfl
theorem q387 : (Jvm.Cond.code ({ cls := "Quaylock", name := "checkStack", desc := "(I)V" } : Jvm.MethodName) prog_1_method_10_code (2 : Nat) (Option.none : Option Jvm.ClassFile.FieldType)) ∈ lw_all := lw_g (lw_at lw_m2 90 rfl) rfl
theorem q388 : (Jvm.Cond.methodLink "Quaylock" (67 : Nat) ({ cls := "Quaylock", name := "checkIndex", desc := "(Z)V" } : Jvm.MethodName)) ∈ lw_all := lw_g (lw_at lw_m2 91 rfl) rfl
theorem q389 : (Jvm.Cond.static ({ cls := "Quaylock", name := "checkIndex", desc := "(Z)V" } : Jvm.MethodName)) ∈ lw_all := lw_g (lw_at lw_m2 92 rfl) rfl
theorem q390 : (Jvm.Cond.code ({ cls := "Quaylock", name := "checkIndex", desc := "(Z)V" } : Jvm.MethodName) prog_1_method_7_code (1 : Nat) (Option.none : Option Jvm.ClassFile.FieldType)) ∈ lw_all := lw_g (lw_at lw_m2 93 rfl) rfl
theorem q391 : (Jvm.Cond.classLink "Quaylock" (52 : Nat) "java/lang/IndexOutOfBoundsException") ∈ lw_all := lw_g (lw_at lw_m2 94 rfl) rfl
theorem q400 : (Jvm.Cond.methodLink "Quaylock" (54 : Nat) ({ cls := "java/lang/IndexOutOfBoundsException", name := "<init>", desc := "()V" } : Jvm.MethodName)) ∈ lw_all := lw_g (lw_at lw_m2 103 rfl) rfl
theorem q407 : (Jvm.Cond.methodLink "Quaylock" (84 : Nat) ({ cls := "Quaylock$Box", name := "<init>", desc := "(II)V" } : Jvm.MethodName)) ∈ lw_all := lw_g (lw_at lw_m2 110 rfl) rfl
theorem q413 : (Jvm.Cond.fieldLinkNest "Quaylock" (101 : Nat) "Quaylock$Box" "number" "I" "Quaylock") ∈ lw_tbl := lw_at lw_m2 116 rfl
theorem q416 : (Jvm.Cond.fieldLinkNest "Quaylock" (108 : Nat) "Quaylock$Box" "weight" "I" "Quaylock") ∈ lw_tbl := lw_at lw_m2 119 rfl
theorem q418 : (Jvm.Cond.fieldLinkNest "Quaylock" (168 : Nat) "Quaylock$Box" "hold" "C" "Quaylock") ∈ lw_tbl := lw_at lw_m2 121 rfl
theorem q420 : (Jvm.Cond.fieldLinkNest "Quaylock" (171 : Nat) "Quaylock$Box" "until" "I" "Quaylock") ∈ lw_tbl := lw_at lw_m2 123 rfl
theorem q430 : (Jvm.Cond.methodLink "Quaylock" (87 : Nat) ({ cls := "Quaylock$Yard", name := "takes", desc := "(IILQuaylock$Box;)Z" } : Jvm.MethodName)) ∈ lw_all := lw_g (lw_at lw_m2 133 rfl) rfl
theorem q442 : (Jvm.Cond.methodLink "Quaylock" (91 : Nat) ({ cls := "Quaylock", name := "checkPossible", desc := "(Z)V" } : Jvm.MethodName)) ∈ lw_all := lw_g (lw_at lw_m2 145 rfl) rfl
theorem q443 : (Jvm.Cond.static ({ cls := "Quaylock", name := "checkPossible", desc := "(Z)V" } : Jvm.MethodName)) ∈ lw_all := lw_g (lw_at lw_m2 146 rfl) rfl
theorem q444 : (Jvm.Cond.code ({ cls := "Quaylock", name := "checkPossible", desc := "(Z)V" } : Jvm.MethodName) prog_1_method_6_code (1 : Nat) (Option.none : Option Jvm.ClassFile.FieldType)) ∈ lw_all := lw_g (lw_at lw_m2 147 rfl) rfl
theorem q445 : (Jvm.Cond.classLink "Quaylock" (49 : Nat) "java/lang/UnsupportedOperationException") ∈ lw_all := lw_g (lw_at lw_m2 148 rfl) rfl
theorem q454 : (Jvm.Cond.methodLink "Quaylock" (51 : Nat) ({ cls := "java/lang/UnsupportedOperationException", name := "<init>", desc := "()V" } : Jvm.MethodName)) ∈ lw_all := lw_g (lw_at lw_m2 157 rfl) rfl
theorem q460 : (Jvm.Cond.methodLink "Quaylock" (97 : Nat) ({ cls := "Quaylock$Yard", name := "push", desc := "(ILQuaylock$Box;)V" } : Jvm.MethodName)) ∈ lw_all := lw_g (lw_at lw_m2 163 rfl) rfl
theorem q468 : (Jvm.Cond.instanceMethod ({ cls := "Quaylock", name := "weight", desc := "(I)I" } : Jvm.MethodName)) ∈ lw_all := lw_g (lw_at lw_m2 171 rfl) rfl
theorem q469 : (Jvm.Cond.selects "Quaylock" ({ cls := "Quaylock", name := "weight", desc := "(I)I" } : Jvm.MethodName) ({ cls := "Quaylock", name := "weight", desc := "(I)I" } : Jvm.MethodName)) ∈ lw_all := lw_g (lw_at lw_m2 172 rfl) rfl
theorem q470 : (Jvm.Cond.code ({ cls := "Quaylock", name := "weight", desc := "(I)I" } : Jvm.MethodName) prog_1_method_15_code (2 : Nat) (Option.some Jvm.ClassFile.FieldType.int)) ∈ lw_all := lw_g (lw_at lw_m2 173 rfl) rfl
theorem q471 : (Jvm.Cond.methodLink "Quaylock" (104 : Nat) ({ cls := "Quaylock", name := "boxWith", desc := "(I)LQuaylock$Box;" } : Jvm.MethodName)) ∈ lw_all := lw_g (lw_at lw_m2 174 rfl) rfl
theorem q472 : (Jvm.Cond.privateMethod ({ cls := "Quaylock", name := "boxWith", desc := "(I)LQuaylock$Box;" } : Jvm.MethodName)) ∈ lw_tbl := lw_at lw_m2 175 rfl
theorem q473 : (Jvm.Cond.instanceMethod ({ cls := "Quaylock", name := "boxWith", desc := "(I)LQuaylock$Box;" } : Jvm.MethodName)) ∈ lw_all := lw_g (lw_at lw_m2 176 rfl) rfl
theorem q474 : (Jvm.Cond.code ({ cls := "Quaylock", name := "boxWith", desc := "(I)LQuaylock$Box;" } : Jvm.MethodName) prog_1_method_9_code (2 : Nat) (Option.some (Jvm.ClassFile.FieldType.object "Quaylock$Box"))) ∈ lw_all := lw_g (lw_at lw_m2 177 rfl) rfl
theorem q479 : (Jvm.Cond.instanceMethod ({ cls := "Quaylock", name := "stackOf", desc := "(I)I" } : Jvm.MethodName)) ∈ lw_all := lw_g (lw_at lw_m2 182 rfl) rfl
theorem q480 : (Jvm.Cond.selects "Quaylock" ({ cls := "Quaylock", name := "stackOf", desc := "(I)I" } : Jvm.MethodName) ({ cls := "Quaylock", name := "stackOf", desc := "(I)I" } : Jvm.MethodName)) ∈ lw_all := lw_g (lw_at lw_m2 183 rfl) rfl
theorem q481 : (Jvm.Cond.code ({ cls := "Quaylock", name := "stackOf", desc := "(I)I" } : Jvm.MethodName) prog_1_method_16_code (2 : Nat) (Option.some Jvm.ClassFile.FieldType.int)) ∈ lw_all := lw_g (lw_at lw_m2 184 rfl) rfl
theorem q482 : (Jvm.Cond.methodLink "Quaylock" (111 : Nat) ({ cls := "Quaylock$Yard", name := "stackOf", desc := "(LQuaylock$Box;)I" } : Jvm.MethodName)) ∈ lw_all := lw_g (lw_at lw_m2 185 rfl) rfl
theorem q490 : (Jvm.Cond.instanceMethod ({ cls := "Quaylock", name := "level", desc := "(I)I" } : Jvm.MethodName)) ∈ lw_all := lw_g (lw_at lw_m2 193 rfl) rfl
theorem q491 : (Jvm.Cond.selects "Quaylock" ({ cls := "Quaylock", name := "level", desc := "(I)I" } : Jvm.MethodName) ({ cls := "Quaylock", name := "level", desc := "(I)I" } : Jvm.MethodName)) ∈ lw_all := lw_g (lw_at lw_m2 194 rfl) rfl
theorem q492 : (Jvm.Cond.code ({ cls := "Quaylock", name := "level", desc := "(I)I" } : Jvm.MethodName) prog_1_method_17_code (2 : Nat) (Option.some Jvm.ClassFile.FieldType.int)) ∈ lw_all := lw_g (lw_at lw_m2 195 rfl) rfl
theorem q493 : (Jvm.Cond.methodLink "Quaylock" (115 : Nat) ({ cls := "Quaylock$Yard", name := "levelOf", desc := "(LQuaylock$Box;)I" } : Jvm.MethodName)) ∈ lw_all := lw_g (lw_at lw_m2 196 rfl) rfl
theorem q502 : (Jvm.Cond.instanceMethod ({ cls := "Quaylock", name := "above", desc := "(I)I" } : Jvm.MethodName)) ∈ lw_all := lw_g (lw_at lw_m2 205 rfl) rfl
theorem q503 : (Jvm.Cond.selects "Quaylock" ({ cls := "Quaylock", name := "above", desc := "(I)I" } : Jvm.MethodName) ({ cls := "Quaylock", name := "above", desc := "(I)I" } : Jvm.MethodName)) ∈ lw_all := lw_g (lw_at lw_m2 206 rfl) rfl
theorem q504 : (Jvm.Cond.code ({ cls := "Quaylock", name := "above", desc := "(I)I" } : Jvm.MethodName) prog_1_method_18_code (2 : Nat) (Option.some Jvm.ClassFile.FieldType.int)) ∈ lw_all := lw_g (lw_at lw_m2 207 rfl) rfl
theorem q505 : (Jvm.Cond.methodLink "Quaylock" (118 : Nat) ({ cls := "Quaylock$Yard", name := "above", desc := "(LQuaylock$Box;)I" } : Jvm.MethodName)) ∈ lw_all := lw_g (lw_at lw_m2 208 rfl) rfl
theorem q514 : (Jvm.Cond.instanceMethod ({ cls := "Quaylock", name := "height", desc := "(I)I" } : Jvm.MethodName)) ∈ lw_all := lw_g (lw_at lw_m2 217 rfl) rfl
theorem q515 : (Jvm.Cond.selects "Quaylock" ({ cls := "Quaylock", name := "height", desc := "(I)I" } : Jvm.MethodName) ({ cls := "Quaylock", name := "height", desc := "(I)I" } : Jvm.MethodName)) ∈ lw_all := lw_g (lw_at lw_m2 218 rfl) rfl
theorem q516 : (Jvm.Cond.code ({ cls := "Quaylock", name := "height", desc := "(I)I" } : Jvm.MethodName) prog_1_method_19_code (2 : Nat) (Option.some Jvm.ClassFile.FieldType.int)) ∈ lw_all := lw_g (lw_at lw_m2 219 rfl) rfl
theorem q522 : (Jvm.Cond.instanceMethod ({ cls := "Quaylock", name := "boxAt", desc := "(II)I" } : Jvm.MethodName)) ∈ lw_all := lw_g (lw_at lw_m2 225 rfl) rfl
theorem q523 : (Jvm.Cond.selects "Quaylock" ({ cls := "Quaylock", name := "boxAt", desc := "(II)I" } : Jvm.MethodName) ({ cls := "Quaylock", name := "boxAt", desc := "(II)I" } : Jvm.MethodName)) ∈ lw_all := lw_g (lw_at lw_m2 226 rfl) rfl
theorem q524 : (Jvm.Cond.code ({ cls := "Quaylock", name := "boxAt", desc := "(II)I" } : Jvm.MethodName) prog_1_method_20_code (3 : Nat) (Option.some Jvm.ClassFile.FieldType.int)) ∈ lw_all := lw_g (lw_at lw_m2 227 rfl) rfl
theorem q525 : (Jvm.Cond.methodLink "Quaylock" (124 : Nat) ({ cls := "Quaylock", name := "checkElement", desc := "(Z)V" } : Jvm.MethodName)) ∈ lw_all := lw_g (lw_at lw_m2 228 rfl) rfl
theorem q526 : (Jvm.Cond.static ({ cls := "Quaylock", name := "checkElement", desc := "(Z)V" } : Jvm.MethodName)) ∈ lw_all := lw_g (lw_at lw_m2 229 rfl) rfl
theorem q527 : (Jvm.Cond.code ({ cls := "Quaylock", name := "checkElement", desc := "(Z)V" } : Jvm.MethodName) prog_1_method_5_code (1 : Nat) (Option.none : Option Jvm.ClassFile.FieldType)) ∈ lw_all := lw_g (lw_at lw_m2 230 rfl) rfl
theorem q528 : (Jvm.Cond.classLink "Quaylock" (46 : Nat) "java/util/NoSuchElementException") ∈ lw_all := lw_g (lw_at lw_m2 231 rfl) rfl
theorem q537 : (Jvm.Cond.methodLink "Quaylock" (48 : Nat) ({ cls := "java/util/NoSuchElementException", name := "<init>", desc := "()V" } : Jvm.MethodName)) ∈ lw_all := lw_g (lw_at lw_m3 0 rfl) rfl
theorem q543 : (Jvm.Cond.methodLink "Quaylock" (127 : Nat) ({ cls := "Quaylock$Yard", name := "at", desc := "(II)LQuaylock$Box;" } : Jvm.MethodName)) ∈ lw_all := lw_g (lw_at lw_m3 6 rfl) rfl
theorem q548 : (Jvm.Cond.instanceMethod ({ cls := "Quaylock", name := "hold", desc := "(ICI)I" } : Jvm.MethodName)) ∈ lw_all := lw_g (lw_at lw_m3 11 rfl) rfl
theorem q549 : (Jvm.Cond.selects "Quaylock" ({ cls := "Quaylock", name := "hold", desc := "(ICI)I" } : Jvm.MethodName) ({ cls := "Quaylock", name := "hold", desc := "(ICI)I" } : Jvm.MethodName)) ∈ lw_all := lw_g (lw_at lw_m3 12 rfl) rfl
theorem q550 : (Jvm.Cond.code ({ cls := "Quaylock", name := "hold", desc := "(ICI)I" } : Jvm.MethodName) prog_1_method_23_code (6 : Nat) (Option.some Jvm.ClassFile.FieldType.int)) ∈ lw_all := lw_g (lw_at lw_m3 13 rfl) rfl
theorem q551 : (Jvm.Cond.methodLink "Quaylock" (174 : Nat) ({ cls := "Quaylock", name := "bookedFor", desc := "(LQuaylock$Box;)LQuaylock$Appointment;" } : Jvm.MethodName)) ∈ lw_all := lw_g (lw_at lw_m3 14 rfl) rfl
theorem q552 : (Jvm.Cond.privateMethod ({ cls := "Quaylock", name := "bookedFor", desc := "(LQuaylock$Box;)LQuaylock$Appointment;" } : Jvm.MethodName)) ∈ lw_tbl := lw_at lw_m3 15 rfl
theorem q553 : (Jvm.Cond.instanceMethod ({ cls := "Quaylock", name := "bookedFor", desc := "(LQuaylock$Box;)LQuaylock$Appointment;" } : Jvm.MethodName)) ∈ lw_all := lw_g (lw_at lw_m3 16 rfl) rfl
theorem q554 : (Jvm.Cond.code ({ cls := "Quaylock", name := "bookedFor", desc := "(LQuaylock$Box;)LQuaylock$Appointment;" } : Jvm.MethodName) prog_1_method_21_code (5 : Nat) (Option.some (Jvm.ClassFile.FieldType.object "Quaylock$Appointment"))) ∈ lw_all := lw_g (lw_at lw_m3 17 rfl) rfl
theorem q555 : (Jvm.Cond.interfaceEntry "Quaylock" (131 : Nat)) ∈ lw_tbl := lw_at lw_m3 18 rfl
theorem q556 : (Jvm.Cond.methodLink "Quaylock" (131 : Nat) ({ cls := "java/util/List", name := "iterator", desc := "()Ljava/util/Iterator;" } : Jvm.MethodName)) ∈ lw_all := lw_g (lw_at lw_m3 19 rfl) rfl
theorem q584 : (Jvm.Cond.interfaceEntry "Quaylock" (137 : Nat)) ∈ lw_tbl := lw_at lw_m3 47 rfl
theorem q585 : (Jvm.Cond.methodLink "Quaylock" (137 : Nat) ({ cls := "java/util/Iterator", name := "hasNext", desc := "()Z" } : Jvm.MethodName)) ∈ lw_all := lw_g (lw_at lw_m3 48 rfl) rfl
theorem q594 : (Jvm.Cond.interfaceEntry "Quaylock" (143 : Nat)) ∈ lw_tbl := lw_at lw_m3 57 rfl
theorem q595 : (Jvm.Cond.methodLink "Quaylock" (143 : Nat) ({ cls := "java/util/Iterator", name := "next", desc := "()Ljava/lang/Object;" } : Jvm.MethodName)) ∈ lw_all := lw_g (lw_at lw_m3 58 rfl) rfl
theorem q609 : (Jvm.Cond.classLink "Quaylock" (147 : Nat) "Quaylock$Appointment") ∈ lw_all := lw_g (lw_at lw_m3 72 rfl) rfl
theorem q610 : (Jvm.Cond.methodLink "Quaylock" (183 : Nat) ({ cls := "Quaylock$Box", name := "isHeldAt", desc := "(I)Z" } : Jvm.MethodName)) ∈ lw_all := lw_g (lw_at lw_m3 73 rfl) rfl
theorem q614 : (Jvm.Cond.methodLink "Quaylock" (186 : Nat) ({ cls := "Quaylock", name := "end", desc := "(LQuaylock$Appointment;C)V" } : Jvm.MethodName)) ∈ lw_all := lw_g (lw_at lw_m3 77 rfl) rfl
theorem q615 : (Jvm.Cond.privateMethod ({ cls := "Quaylock", name := "end", desc := "(LQuaylock$Appointment;C)V" } : Jvm.MethodName)) ∈ lw_tbl := lw_at lw_m3 78 rfl
theorem q616 : (Jvm.Cond.instanceMethod ({ cls := "Quaylock", name := "end", desc := "(LQuaylock$Appointment;C)V" } : Jvm.MethodName)) ∈ lw_all := lw_g (lw_at lw_m3 79 rfl) rfl
theorem q617 : (Jvm.Cond.code ({ cls := "Quaylock", name := "end", desc := "(LQuaylock$Appointment;C)V" } : Jvm.MethodName) prog_1_method_22_code (3 : Nat) (Option.none : Option Jvm.ClassFile.FieldType)) ∈ lw_all := lw_g (lw_at lw_m3 80 rfl) rfl
theorem q618 : (Jvm.Cond.methodLink "Quaylock" (161 : Nat) ({ cls := "java/util/TreeMap", name := "remove", desc := "(Ljava/lang/Object;)Ljava/lang/Object;" } : Jvm.MethodName)) ∈ lw_all := lw_g (lw_at lw_m3 81 rfl) rfl
theorem q730 : (Jvm.Cond.instanceMethod ({ cls := "Quaylock", name := "release", desc := "(I)I" } : Jvm.MethodName)) ∈ lw_all := lw_g (lw_at lw_m3 193 rfl) rfl
theorem q731 : (Jvm.Cond.selects "Quaylock" ({ cls := "Quaylock", name := "release", desc := "(I)I" } : Jvm.MethodName) ({ cls := "Quaylock", name := "release", desc := "(I)I" } : Jvm.MethodName)) ∈ lw_all := lw_g (lw_at lw_m3 194 rfl) rfl
theorem q732 : (Jvm.Cond.code ({ cls := "Quaylock", name := "release", desc := "(I)I" } : Jvm.MethodName) prog_1_method_24_code (3 : Nat) (Option.some Jvm.ClassFile.FieldType.int)) ∈ lw_all := lw_g (lw_at lw_m3 195 rfl) rfl
theorem q737 : (Jvm.Cond.instanceMethod ({ cls := "Quaylock", name := "holdOf", desc := "(I)C" } : Jvm.MethodName)) ∈ lw_all := lw_g (lw_at lw_m3 200 rfl) rfl
theorem q738 : (Jvm.Cond.selects "Quaylock" ({ cls := "Quaylock", name := "holdOf", desc := "(I)C" } : Jvm.MethodName) ({ cls := "Quaylock", name := "holdOf", desc := "(I)C" } : Jvm.MethodName)) ∈ lw_all := lw_g (lw_at lw_m3 201 rfl) rfl
theorem q739 : (Jvm.Cond.code ({ cls := "Quaylock", name := "holdOf", desc := "(I)C" } : Jvm.MethodName) prog_1_method_25_code (2 : Nat) (Option.some Jvm.ClassFile.FieldType.char)) ∈ lw_all := lw_g (lw_at lw_m3 202 rfl) rfl
theorem q744 : (Jvm.Cond.instanceMethod ({ cls := "Quaylock", name := "heldUntil", desc := "(I)I" } : Jvm.MethodName)) ∈ lw_all := lw_g (lw_at lw_m3 207 rfl) rfl
theorem q745 : (Jvm.Cond.selects "Quaylock" ({ cls := "Quaylock", name := "heldUntil", desc := "(I)I" } : Jvm.MethodName) ({ cls := "Quaylock", name := "heldUntil", desc := "(I)I" } : Jvm.MethodName)) ∈ lw_all := lw_g (lw_at lw_m3 208 rfl) rfl
theorem q746 : (Jvm.Cond.code ({ cls := "Quaylock", name := "heldUntil", desc := "(I)I" } : Jvm.MethodName) prog_1_method_26_code (3 : Nat) (Option.some Jvm.ClassFile.FieldType.int)) ∈ lw_all := lw_g (lw_at lw_m3 209 rfl) rfl
theorem q751 : (Jvm.Cond.instanceMethod ({ cls := "Quaylock", name := "pinnedAbove", desc := "(I)I" } : Jvm.MethodName)) ∈ lw_all := lw_g (lw_at lw_m3 214 rfl) rfl
theorem q752 : (Jvm.Cond.selects "Quaylock" ({ cls := "Quaylock", name := "pinnedAbove", desc := "(I)I" } : Jvm.MethodName) ({ cls := "Quaylock", name := "pinnedAbove", desc := "(I)I" } : Jvm.MethodName)) ∈ lw_all := lw_g (lw_at lw_m3 215 rfl) rfl
theorem q753 : (Jvm.Cond.code ({ cls := "Quaylock", name := "pinnedAbove", desc := "(I)I" } : Jvm.MethodName) prog_1_method_27_code (6 : Nat) (Option.some Jvm.ClassFile.FieldType.int)) ∈ lw_all := lw_g (lw_at lw_m3 216 rfl) rfl
theorem q754 : (Jvm.Cond.methodLink "Quaylock" (190 : Nat) ({ cls := "Quaylock$Box", name := "isPinned", desc := "()Z" } : Jvm.MethodName)) ∈ lw_all := lw_g (lw_at lw_m3 217 rfl) rfl
theorem q762 : (Jvm.Cond.instanceMethod ({ cls := "Quaylock", name := "why", desc := "(II)C" } : Jvm.MethodName)) ∈ lw_all := lw_g (lw_at lw_m3 225 rfl) rfl
theorem q763 : (Jvm.Cond.selects "Quaylock" ({ cls := "Quaylock", name := "why", desc := "(II)C" } : Jvm.MethodName) ({ cls := "Quaylock", name := "why", desc := "(II)C" } : Jvm.MethodName)) ∈ lw_all := lw_g (lw_at lw_m3 226 rfl) rfl
theorem q764 : (Jvm.Cond.code ({ cls := "Quaylock", name := "why", desc := "(II)C" } : Jvm.MethodName) prog_1_method_29_code (4 : Nat) (Option.some Jvm.ClassFile.FieldType.char)) ∈ lw_all := lw_g (lw_at lw_m3 227 rfl) rfl
theorem q765 : (Jvm.Cond.methodLink "Quaylock" (196 : Nat) ({ cls := "Quaylock", name := "why", desc := "(LQuaylock$Yard;LQuaylock$Box;I)C" } : Jvm.MethodName)) ∈ lw_all := lw_g (lw_at lw_m3 228 rfl) rfl
theorem q766 : (Jvm.Cond.privateMethod ({ cls := "Quaylock", name := "why", desc := "(LQuaylock$Yard;LQuaylock$Box;I)C" } : Jvm.MethodName)) ∈ lw_tbl := lw_at lw_m3 229 rfl
theorem q767 : (Jvm.Cond.instanceMethod ({ cls := "Quaylock", name := "why", desc := "(LQuaylock$Yard;LQuaylock$Box;I)C" } : Jvm.MethodName)) ∈ lw_all := lw_g (lw_at lw_m3 230 rfl) rfl
theorem q768 : (Jvm.Cond.code ({ cls := "Quaylock", name := "why", desc := "(LQuaylock$Yard;LQuaylock$Box;I)C" } : Jvm.MethodName) prog_1_method_28_code (5 : Nat) (Option.some Jvm.ClassFile.FieldType.char)) ∈ lw_all := lw_g (lw_at lw_m3 231 rfl) rfl
theorem q769 : (Jvm.Cond.methodLink "Quaylock" (193 : Nat) ({ cls := "Quaylock$Yard", name := "topOf", desc := "(LQuaylock$Box;)I" } : Jvm.MethodName)) ∈ lw_all := lw_g (lw_at lw_m3 232 rfl) rfl
theorem q777 : (Jvm.Cond.instanceMethod ({ cls := "Quaylock", name := "move", desc := "(II)I" } : Jvm.MethodName)) ∈ lw_all := lw_g (lw_at lw_m4 0 rfl) rfl
theorem q778 : (Jvm.Cond.selects "Quaylock" ({ cls := "Quaylock", name := "move", desc := "(II)I" } : Jvm.MethodName) ({ cls := "Quaylock", name := "move", desc := "(II)I" } : Jvm.MethodName)) ∈ lw_all := lw_g (lw_at lw_m4 1 rfl) rfl
theorem q779 : (Jvm.Cond.code ({ cls := "Quaylock", name := "move", desc := "(II)I" } : Jvm.MethodName) prog_1_method_31_code (4 : Nat) (Option.some Jvm.ClassFile.FieldType.int)) ∈ lw_all := lw_g (lw_at lw_m4 2 rfl) rfl
theorem q780 : (Jvm.Cond.methodLink "Quaylock" (206 : Nat) ({ cls := "Quaylock", name := "moveTo", desc := "(LQuaylock$Box;I)V" } : Jvm.MethodName)) ∈ lw_all := lw_g (lw_at lw_m4 3 rfl) rfl
theorem q781 : (Jvm.Cond.privateMethod ({ cls := "Quaylock", name := "moveTo", desc := "(LQuaylock$Box;I)V" } : Jvm.MethodName)) ∈ lw_tbl := lw_at lw_m4 4 rfl
theorem q782 : (Jvm.Cond.instanceMethod ({ cls := "Quaylock", name := "moveTo", desc := "(LQuaylock$Box;I)V" } : Jvm.MethodName)) ∈ lw_all := lw_g (lw_at lw_m4 5 rfl) rfl
theorem q783 : (Jvm.Cond.code ({ cls := "Quaylock", name := "moveTo", desc := "(LQuaylock$Box;I)V" } : Jvm.MethodName) prog_1_method_30_code (3 : Nat) (Option.none : Option Jvm.ClassFile.FieldType)) ∈ lw_all := lw_g (lw_at lw_m4 6 rfl) rfl
theorem q784 : (Jvm.Cond.methodLink "Quaylock" (200 : Nat) ({ cls := "Quaylock$Yard", name := "pop", desc := "(I)LQuaylock$Box;" } : Jvm.MethodName)) ∈ lw_all := lw_g (lw_at lw_m4 7 rfl) rfl
theorem q792 : (Jvm.Cond.instanceMethod ({ cls := "Quaylock", name := "planLength", desc := "(I)I" } : Jvm.MethodName)) ∈ lw_all := lw_g (lw_at lw_m4 15 rfl) rfl
theorem q793 : (Jvm.Cond.selects "Quaylock" ({ cls := "Quaylock", name := "planLength", desc := "(I)I" } : Jvm.MethodName) ({ cls := "Quaylock", name := "planLength", desc := "(I)I" } : Jvm.MethodName)) ∈ lw_all := lw_g (lw_at lw_m4 16 rfl) rfl
theorem q794 : (Jvm.Cond.code ({ cls := "Quaylock", name := "planLength", desc := "(I)I" } : Jvm.MethodName) prog_1_method_35_code (2 : Nat) (Option.some Jvm.ClassFile.FieldType.int)) ∈ lw_all := lw_g (lw_at lw_m4 17 rfl) rfl
theorem q795 : (Jvm.Cond.methodLink "Quaylock" (271 : Nat) ({ cls := "Quaylock", name := "plan", desc := "(I)LQuaylock$Plan;" } : Jvm.MethodName)) ∈ lw_all := lw_g (lw_at lw_m4 18 rfl) rfl
theorem q796 : (Jvm.Cond.privateMethod ({ cls := "Quaylock", name := "plan", desc := "(I)LQuaylock$Plan;" } : Jvm.MethodName)) ∈ lw_tbl := lw_at lw_m4 19 rfl
theorem q797 : (Jvm.Cond.instanceMethod ({ cls := "Quaylock", name := "plan", desc := "(I)LQuaylock$Plan;" } : Jvm.MethodName)) ∈ lw_all := lw_g (lw_at lw_m4 20 rfl) rfl
theorem q798 : (Jvm.Cond.code ({ cls := "Quaylock", name := "plan", desc := "(I)LQuaylock$Plan;" } : Jvm.MethodName) prog_1_method_34_code (3 : Nat) (Option.some (Jvm.ClassFile.FieldType.object "Quaylock$Plan"))) ∈ lw_all := lw_g (lw_at lw_m4 21 rfl) rfl
theorem q799 : (Jvm.Cond.methodLink "Quaylock" (267 : Nat) ({ cls := "Quaylock", name := "planFor", desc := "(LQuaylock$Box;)LQuaylock$Plan;" } : Jvm.MethodName)) ∈ lw_all := lw_g (lw_at lw_m4 22 rfl) rfl
theorem q800 : (Jvm.Cond.privateMethod ({ cls := "Quaylock", name := "planFor", desc := "(LQuaylock$Box;)LQuaylock$Plan;" } : Jvm.MethodName)) ∈ lw_tbl := lw_at lw_m4 23 rfl
theorem q801 : (Jvm.Cond.instanceMethod ({ cls := "Quaylock", name := "planFor", desc := "(LQuaylock$Box;)LQuaylock$Plan;" } : Jvm.MethodName)) ∈ lw_all := lw_g (lw_at lw_m4 24 rfl) rfl
theorem q802 : (Jvm.Cond.code ({ cls := "Quaylock", name := "planFor", desc := "(LQuaylock$Box;)LQuaylock$Plan;" } : Jvm.MethodName) prog_1_method_33_code (7 : Nat) (Option.some (Jvm.ClassFile.FieldType.object "Quaylock$Plan"))) ∈ lw_all := lw_g (lw_at lw_m4 25 rfl) rfl
theorem q803 : (Jvm.Cond.classLink "Quaylock" (224 : Nat) "java/util/PriorityQueue") ∈ lw_all := lw_g (lw_at lw_m4 26 rfl) rfl
theorem q805 : (Jvm.Cond.classLink "Quaylock" (229 : Nat) "Quaylock$MorePromising") ∈ lw_all := lw_g (lw_at lw_m4 28 rfl) rfl
theorem q807 : (Jvm.Cond.methodLinkNest "Quaylock" (231 : Nat) ({ cls := "Quaylock$MorePromising", name := "<init>", desc := "()V" } : Jvm.MethodName) "Quaylock") ∈ lw_tbl := lw_at lw_m4 30 rfl
theorem q812 : (Jvm.Cond.methodLink "Quaylock" (232 : Nat) ({ cls := "java/util/PriorityQueue", name := "<init>", desc := "(Ljava/util/Comparator;)V" } : Jvm.MethodName)) ∈ lw_all := lw_g (lw_at lw_m4 35 rfl) rfl
theorem q839 : (Jvm.Cond.classLink "Quaylock" (211 : Nat) "Quaylock$Plan") ∈ lw_all := lw_g (lw_at lw_m4 62 rfl) rfl
theorem q841 : (Jvm.Cond.methodLink "Quaylock" (235 : Nat) ({ cls := "Quaylock$Plan", name := "<init>", desc := "(LQuaylock$Yard;[I[II)V" } : Jvm.MethodName)) ∈ lw_all := lw_g (lw_at lw_m4 64 rfl) rfl
theorem q846 : (Jvm.Cond.fieldLinkNest "Quaylock" (210 : Nat) "Quaylock$Plan" "yard" "LQuaylock$Yard;" "Quaylock") ∈ lw_tbl := lw_at lw_m4 69 rfl
theorem q849 : (Jvm.Cond.fieldLinkNest "Quaylock" (213 : Nat) "Quaylock$Plan" "boxes" "[I" "Quaylock") ∈ lw_tbl := lw_at lw_m4 72 rfl
theorem q852 : (Jvm.Cond.fieldLinkNest "Quaylock" (283 : Nat) "Quaylock$Plan" "stacks" "[I" "Quaylock") ∈ lw_tbl := lw_at lw_m4 75 rfl
theorem q864 : (Jvm.Cond.methodLink "Quaylock" (223 : Nat) ({ cls := "java/util/PriorityQueue", name := "add", desc := "(Ljava/lang/Object;)Z" } : Jvm.MethodName)) ∈ lw_all := lw_g (lw_at lw_m4 87 rfl) rfl
theorem q892 : (Jvm.Cond.selects "Quaylock" ({ cls := "java/lang/Object", name := "getClass", desc := "()Ljava/lang/Class;" } : Jvm.MethodName) ({ cls := "java/lang/Object", name := "getClass", desc := "()Ljava/lang/Class;" } : Jvm.MethodName)) ∈ lw_all := lw_g (lw_at lw_m4 115 rfl) rfl
theorem q939 : (Jvm.Cond.methodLink "Quaylock" (238 : Nat) ({ cls := "java/util/PriorityQueue", name := "isEmpty", desc := "()Z" } : Jvm.MethodName)) ∈ lw_all := lw_g (lw_at lw_m4 162 rfl) rfl
theorem q961 : (Jvm.Cond.methodLink "Quaylock" (241 : Nat) ({ cls := "java/util/PriorityQueue", name := "poll", desc := "()Ljava/lang/Object;" } : Jvm.MethodName)) ∈ lw_all := lw_g (lw_at lw_m4 184 rfl) rfl
theorem q971 : (Jvm.Cond.interfaceEntry "Quaylock" (244 : Nat)) ∈ lw_tbl := lw_at lw_m4 194 rfl
theorem q972 : (Jvm.Cond.methodLink "Quaylock" (244 : Nat) ({ cls := "java/util/Map", name := "get", desc := "(Ljava/lang/Object;)Ljava/lang/Object;" } : Jvm.MethodName)) ∈ lw_all := lw_g (lw_at lw_m4 195 rfl) rfl
theorem q981 : (Jvm.Cond.classLink "Quaylock" (249 : Nat) "java/lang/Integer") ∈ lw_all := lw_g (lw_at lw_m4 204 rfl) rfl
theorem q982 : (Jvm.Cond.methodLink "Quaylock" (251 : Nat) ({ cls := "java/lang/Integer", name := "intValue", desc := "()I" } : Jvm.MethodName)) ∈ lw_all := lw_g (lw_at lw_m4 205 rfl) rfl
theorem q986 : (Jvm.Cond.methodLink "Quaylock" (255 : Nat) ({ cls := "java/lang/Integer", name := "valueOf", desc := "(I)Ljava/lang/Integer;" } : Jvm.MethodName)) ∈ lw_all := lw_g (lw_at lw_m4 209 rfl) rfl
theorem q1005 : (Jvm.Cond.interfaceEntry "Quaylock" (259 : Nat)) ∈ lw_tbl := lw_at lw_m4 228 rfl
theorem q1006 : (Jvm.Cond.methodLink "Quaylock" (259 : Nat) ({ cls := "java/util/Map", name := "put", desc := "(Ljava/lang/Object;Ljava/lang/Object;)Ljava/lang/Object;" } : Jvm.MethodName)) ∈ lw_all := lw_g (lw_at lw_m4 229 rfl) rfl
theorem q1063 : (Jvm.Cond.methodLink "Quaylock" (263 : Nat) ({ cls := "Quaylock", name := "goOn", desc := "(LQuaylock$Plan;LQuaylock$Box;ILjava/util/PriorityQueue;)V" } : Jvm.MethodName)) ∈ lw_all := lw_g (lw_at lw_m5 46 rfl) rfl
theorem q1064 : (Jvm.Cond.privateMethod ({ cls := "Quaylock", name := "goOn", desc := "(LQuaylock$Plan;LQuaylock$Box;ILjava/util/PriorityQueue;)V" } : Jvm.MethodName)) ∈ lw_tbl := lw_at lw_m5 47 rfl
theorem q1065 : (Jvm.Cond.instanceMethod ({ cls := "Quaylock", name := "goOn", desc := "(LQuaylock$Plan;LQuaylock$Box;ILjava/util/PriorityQueue;)V" } : Jvm.MethodName)) ∈ lw_all := lw_g (lw_at lw_m5 48 rfl) rfl
theorem q1066 : (Jvm.Cond.code ({ cls := "Quaylock", name := "goOn", desc := "(LQuaylock$Plan;LQuaylock$Box;ILjava/util/PriorityQueue;)V" } : Jvm.MethodName) prog_1_method_32_code (12 : Nat) (Option.none : Option Jvm.ClassFile.FieldType)) ∈ lw_all := lw_g (lw_at lw_m5 49 rfl) rfl
theorem q1067 : (Jvm.Cond.methodLink "Quaylock" (215 : Nat) ({ cls := "Quaylock$Yard", name := "copy", desc := "()LQuaylock$Yard;" } : Jvm.MethodName)) ∈ lw_all := lw_g (lw_at lw_m5 50 rfl) rfl
theorem q1082 : (Jvm.Cond.methodLink "Quaylock" (219 : Nat) ({ cls := "Quaylock$Plan", name := "with", desc := "(LQuaylock$Yard;III)LQuaylock$Plan;" } : Jvm.MethodName)) ∈ lw_all := lw_g (lw_at lw_m5 65 rfl) rfl
theorem q1096 : (Jvm.Cond.instanceMethod ({ cls := "Quaylock", name := "planByTrying", desc := "(I)I" } : Jvm.MethodName)) ∈ lw_all := lw_g (lw_at lw_m5 79 rfl) rfl
theorem q1097 : (Jvm.Cond.selects "Quaylock" ({ cls := "Quaylock", name := "planByTrying", desc := "(I)I" } : Jvm.MethodName) ({ cls := "Quaylock", name := "planByTrying", desc := "(I)I" } : Jvm.MethodName)) ∈ lw_all := lw_g (lw_at lw_m5 80 rfl) rfl
theorem q1098 : (Jvm.Cond.code ({ cls := "Quaylock", name := "planByTrying", desc := "(I)I" } : Jvm.MethodName) prog_1_method_37_code (5 : Nat) (Option.some Jvm.ClassFile.FieldType.int)) ∈ lw_all := lw_g (lw_at lw_m5 81 rfl) rfl
theorem q1099 : (Jvm.Cond.methodLink "Quaylock" (275 : Nat) ({ cls := "Quaylock", name := "canDig", desc := "(LQuaylock$Yard;LQuaylock$Box;I)Z" } : Jvm.MethodName)) ∈ lw_all := lw_g (lw_at lw_m5 82 rfl) rfl
theorem q1100 : (Jvm.Cond.privateMethod ({ cls := "Quaylock", name := "canDig", desc := "(LQuaylock$Yard;LQuaylock$Box;I)Z" } : Jvm.MethodName)) ∈ lw_tbl := lw_at lw_m5 83 rfl
theorem q1101 : (Jvm.Cond.instanceMethod ({ cls := "Quaylock", name := "canDig", desc := "(LQuaylock$Yard;LQuaylock$Box;I)Z" } : Jvm.MethodName)) ∈ lw_all := lw_g (lw_at lw_m5 84 rfl) rfl
theorem q1102 : (Jvm.Cond.code ({ cls := "Quaylock", name := "canDig", desc := "(LQuaylock$Yard;LQuaylock$Box;I)Z" } : Jvm.MethodName) prog_1_method_36_code (9 : Nat) (Option.some Jvm.ClassFile.FieldType.boolean)) ∈ lw_all := lw_g (lw_at lw_m5 85 rfl) rfl
theorem q1107 : (Jvm.Cond.instanceMethod ({ cls := "Quaylock", name := "planBox", desc := "(II)I" } : Jvm.MethodName)) ∈ lw_all := lw_g (lw_at lw_m5 90 rfl) rfl
theorem q1108 : (Jvm.Cond.selects "Quaylock" ({ cls := "Quaylock", name := "planBox", desc := "(II)I" } : Jvm.MethodName) ({ cls := "Quaylock", name := "planBox", desc := "(II)I" } : Jvm.MethodName)) ∈ lw_all := lw_g (lw_at lw_m5 91 rfl) rfl
theorem q1109 : (Jvm.Cond.code ({ cls := "Quaylock", name := "planBox", desc := "(II)I" } : Jvm.MethodName) prog_1_method_39_code (3 : Nat) (Option.some Jvm.ClassFile.FieldType.int)) ∈ lw_all := lw_g (lw_at lw_m5 92 rfl) rfl
theorem q1110 : (Jvm.Cond.methodLink "Quaylock" (279 : Nat) ({ cls := "Quaylock", name := "numberAt", desc := "([II)I" } : Jvm.MethodName)) ∈ lw_all := lw_g (lw_at lw_m5 93 rfl) rfl
theorem q1111 : (Jvm.Cond.static ({ cls := "Quaylock", name := "numberAt", desc := "([II)I" } : Jvm.MethodName)) ∈ lw_all := lw_g (lw_at lw_m5 94 rfl) rfl
theorem q1112 : (Jvm.Cond.code ({ cls := "Quaylock", name := "numberAt", desc := "([II)I" } : Jvm.MethodName) prog_1_method_38_code (2 : Nat) (Option.some Jvm.ClassFile.FieldType.int)) ∈ lw_all := lw_g (lw_at lw_m5 95 rfl) rfl
theorem q1117 : (Jvm.Cond.instanceMethod ({ cls := "Quaylock", name := "planStack", desc := "(II)I" } : Jvm.MethodName)) ∈ lw_all := lw_g (lw_at lw_m5 100 rfl) rfl
theorem q1118 : (Jvm.Cond.selects "Quaylock" ({ cls := "Quaylock", name := "planStack", desc := "(II)I" } : Jvm.MethodName) ({ cls := "Quaylock", name := "planStack", desc := "(II)I" } : Jvm.MethodName)) ∈ lw_all := lw_g (lw_at lw_m5 101 rfl) rfl
theorem q1119 : (Jvm.Cond.code ({ cls := "Quaylock", name := "planStack", desc := "(II)I" } : Jvm.MethodName) prog_1_method_40_code (3 : Nat) (Option.some Jvm.ClassFile.FieldType.int)) ∈ lw_all := lw_g (lw_at lw_m5 102 rfl) rfl
theorem q1124 : (Jvm.Cond.instanceMethod ({ cls := "Quaylock", name := "dig", desc := "(I)I" } : Jvm.MethodName)) ∈ lw_all := lw_g (lw_at lw_m5 107 rfl) rfl
theorem q1125 : (Jvm.Cond.selects "Quaylock" ({ cls := "Quaylock", name := "dig", desc := "(I)I" } : Jvm.MethodName) ({ cls := "Quaylock", name := "dig", desc := "(I)I" } : Jvm.MethodName)) ∈ lw_all := lw_g (lw_at lw_m5 108 rfl) rfl
theorem q1126 : (Jvm.Cond.code ({ cls := "Quaylock", name := "dig", desc := "(I)I" } : Jvm.MethodName) prog_1_method_42_code (2 : Nat) (Option.some Jvm.ClassFile.FieldType.int)) ∈ lw_all := lw_g (lw_at lw_m5 109 rfl) rfl
theorem q1127 : (Jvm.Cond.methodLink "Quaylock" (285 : Nat) ({ cls := "Quaylock", name := "make", desc := "(LQuaylock$Plan;)I" } : Jvm.MethodName)) ∈ lw_all := lw_g (lw_at lw_m5 110 rfl) rfl
theorem q1128 : (Jvm.Cond.privateMethod ({ cls := "Quaylock", name := "make", desc := "(LQuaylock$Plan;)I" } : Jvm.MethodName)) ∈ lw_tbl := lw_at lw_m5 111 rfl
theorem q1129 : (Jvm.Cond.instanceMethod ({ cls := "Quaylock", name := "make", desc := "(LQuaylock$Plan;)I" } : Jvm.MethodName)) ∈ lw_all := lw_g (lw_at lw_m5 112 rfl) rfl
theorem q1130 : (Jvm.Cond.code ({ cls := "Quaylock", name := "make", desc := "(LQuaylock$Plan;)I" } : Jvm.MethodName) prog_1_method_41_code (3 : Nat) (Option.some Jvm.ClassFile.FieldType.int)) ∈ lw_all := lw_g (lw_at lw_m5 113 rfl) rfl
theorem q1135 : (Jvm.Cond.instanceMethod ({ cls := "Quaylock", name := "book", desc := "(III)I" } : Jvm.MethodName)) ∈ lw_all := lw_g (lw_at lw_m5 118 rfl) rfl
theorem q1136 : (Jvm.Cond.selects "Quaylock" ({ cls := "Quaylock", name := "book", desc := "(III)I" } : Jvm.MethodName) ({ cls := "Quaylock", name := "book", desc := "(III)I" } : Jvm.MethodName)) ∈ lw_all := lw_g (lw_at lw_m5 119 rfl) rfl
theorem q1137 : (Jvm.Cond.code ({ cls := "Quaylock", name := "book", desc := "(III)I" } : Jvm.MethodName) prog_1_method_45_code (7 : Nat) (Option.some Jvm.ClassFile.FieldType.int)) ∈ lw_all := lw_g (lw_at lw_m5 120 rfl) rfl
theorem q1138 : (Jvm.Cond.methodLink "Quaylock" (289 : Nat) ({ cls := "Quaylock", name := "checkLane", desc := "(I)V" } : Jvm.MethodName)) ∈ lw_all := lw_g (lw_at lw_m5 121 rfl) rfl
theorem q1139 : (Jvm.Cond.static ({ cls := "Quaylock", name := "checkLane", desc := "(I)V" } : Jvm.MethodName)) ∈ lw_all := lw_g (lw_at lw_m5 122 rfl) rfl
theorem q1140 : (Jvm.Cond.code ({ cls := "Quaylock", name := "checkLane", desc := "(I)V" } : Jvm.MethodName) prog_1_method_44_code (1 : Nat) (Option.none : Option Jvm.ClassFile.FieldType)) ∈ lw_all := lw_g (lw_at lw_m5 123 rfl) rfl
theorem q1141 : (Jvm.Cond.classLink "Quaylock" (179 : Nat) "Quaylock$Slot") ∈ lw_all := lw_g (lw_at lw_m5 124 rfl) rfl
theorem q1143 : (Jvm.Cond.methodLink "Quaylock" (292 : Nat) ({ cls := "Quaylock$Slot", name := "<init>", desc := "(II)V" } : Jvm.MethodName)) ∈ lw_all := lw_g (lw_at lw_m5 126 rfl) rfl
theorem q1148 : (Jvm.Cond.fieldLinkNest "Quaylock" (178 : Nat) "Quaylock$Slot" "hour" "I" "Quaylock") ∈ lw_tbl := lw_at lw_m5 131 rfl
theorem q1155 : (Jvm.Cond.methodLink "Quaylock" (293 : Nat) ({ cls := "java/util/TreeMap", name := "containsKey", desc := "(Ljava/lang/Object;)Z" } : Jvm.MethodName)) ∈ lw_all := lw_g (lw_at lw_m5 138 rfl) rfl
theorem q1159 : (Jvm.Cond.interfaceEntry "Quaylock" (296 : Nat)) ∈ lw_tbl := lw_at lw_m5 142 rfl
theorem q1160 : (Jvm.Cond.methodLink "Quaylock" (296 : Nat) ({ cls := "java/util/List", name := "size", desc := "()I" } : Jvm.MethodName)) ∈ lw_all := lw_g (lw_at lw_m5 143 rfl) rfl
theorem q1167 : (Jvm.Cond.methodLink "Quaylock" (299 : Nat) ({ cls := "Quaylock$Appointment", name := "<init>", desc := "(ILQuaylock$Box;LQuaylock$Slot;)V" } : Jvm.MethodName)) ∈ lw_all := lw_g (lw_at lw_m5 150 rfl) rfl
theorem q1172 : (Jvm.Cond.fieldLinkNest "Quaylock" (304 : Nat) "Quaylock$Appointment" "number" "I" "Quaylock") ∈ lw_tbl := lw_at lw_m5 155 rfl
theorem q1174 : (Jvm.Cond.fieldLinkNest "Quaylock" (149 : Nat) "Quaylock$Appointment" "box" "LQuaylock$Box;" "Quaylock") ∈ lw_tbl := lw_at lw_m5 157 rfl
theorem q1176 : (Jvm.Cond.fieldLinkNest "Quaylock" (157 : Nat) "Quaylock$Appointment" "slot" "LQuaylock$Slot;" "Quaylock") ∈ lw_tbl := lw_at lw_m5 159 rfl
theorem q1178 : (Jvm.Cond.fieldLinkNest "Quaylock" (153 : Nat) "Quaylock$Appointment" "state" "C" "Quaylock") ∈ lw_tbl := lw_at lw_m5 161 rfl
theorem q1188 : (Jvm.Cond.interfaceEntry "Quaylock" (302 : Nat)) ∈ lw_tbl := lw_at lw_m5 171 rfl
theorem q1189 : (Jvm.Cond.methodLink "Quaylock" (302 : Nat) ({ cls := "java/util/List", name := "add", desc := "(Ljava/lang/Object;)Z" } : Jvm.MethodName)) ∈ lw_all := lw_g (lw_at lw_m5 172 rfl) rfl
theorem q1213 : (Jvm.Cond.methodLink "Quaylock" (303 : Nat) ({ cls := "java/util/TreeMap", name := "put", desc := "(Ljava/lang/Object;Ljava/lang/Object;)Ljava/lang/Object;" } : Jvm.MethodName)) ∈ lw_all := lw_g (lw_at lw_m5 196 rfl) rfl
theorem q1218 : (Jvm.Cond.instanceMethod ({ cls := "Quaylock", name := "cancel", desc := "(I)I" } : Jvm.MethodName)) ∈ lw_all := lw_g (lw_at lw_m5 201 rfl) rfl
theorem q1219 : (Jvm.Cond.selects "Quaylock" ({ cls := "Quaylock", name := "cancel", desc := "(I)I" } : Jvm.MethodName) ({ cls := "Quaylock", name := "cancel", desc := "(I)I" } : Jvm.MethodName)) ∈ lw_all := lw_g (lw_at lw_m5 202 rfl) rfl
theorem q1220 : (Jvm.Cond.code ({ cls := "Quaylock", name := "cancel", desc := "(I)I" } : Jvm.MethodName) prog_1_method_47_code (3 : Nat) (Option.some Jvm.ClassFile.FieldType.int)) ∈ lw_all := lw_g (lw_at lw_m5 203 rfl) rfl
theorem q1221 : (Jvm.Cond.methodLink "Quaylock" (308 : Nat) ({ cls := "Quaylock", name := "appointmentWith", desc := "(I)LQuaylock$Appointment;" } : Jvm.MethodName)) ∈ lw_all := lw_g (lw_at lw_m5 204 rfl) rfl
theorem q1222 : (Jvm.Cond.privateMethod ({ cls := "Quaylock", name := "appointmentWith", desc := "(I)LQuaylock$Appointment;" } : Jvm.MethodName)) ∈ lw_tbl := lw_at lw_m5 205 rfl
theorem q1223 : (Jvm.Cond.instanceMethod ({ cls := "Quaylock", name := "appointmentWith", desc := "(I)LQuaylock$Appointment;" } : Jvm.MethodName)) ∈ lw_all := lw_g (lw_at lw_m5 206 rfl) rfl
theorem q1224 : (Jvm.Cond.code ({ cls := "Quaylock", name := "appointmentWith", desc := "(I)LQuaylock$Appointment;" } : Jvm.MethodName) prog_1_method_46_code (2 : Nat) (Option.some (Jvm.ClassFile.FieldType.object "Quaylock$Appointment"))) ∈ lw_all := lw_g (lw_at lw_m5 207 rfl) rfl
theorem q1225 : (Jvm.Cond.interfaceEntry "Quaylock" (305 : Nat)) ∈ lw_tbl := lw_at lw_m5 208 rfl
theorem q1226 : (Jvm.Cond.methodLink "Quaylock" (305 : Nat) ({ cls := "java/util/List", name := "get", desc := "(I)Ljava/lang/Object;" } : Jvm.MethodName)) ∈ lw_all := lw_g (lw_at lw_m5 209 rfl) rfl
theorem q1244 : (Jvm.Cond.methodLink "Quaylock" (312 : Nat) ({ cls := "java/util/TreeMap", name := "size", desc := "()I" } : Jvm.MethodName)) ∈ lw_all := lw_g (lw_at lw_m5 227 rfl) rfl
theorem q1249 : (Jvm.Cond.instanceMethod ({ cls := "Quaylock", name := "stateOf", desc := "(I)C" } : Jvm.MethodName)) ∈ lw_all := lw_g (lw_at lw_m5 232 rfl) rfl
theorem q1250 : (Jvm.Cond.selects "Quaylock" ({ cls := "Quaylock", name := "stateOf", desc := "(I)C" } : Jvm.MethodName) ({ cls := "Quaylock", name := "stateOf", desc := "(I)C" } : Jvm.MethodName)) ∈ lw_all := lw_g (lw_at lw_m5 233 rfl) rfl
theorem q1251 : (Jvm.Cond.code ({ cls := "Quaylock", name := "stateOf", desc := "(I)C" } : Jvm.MethodName) prog_1_method_48_code (2 : Nat) (Option.some Jvm.ClassFile.FieldType.char)) ∈ lw_all := lw_g (lw_at lw_m5 234 rfl) rfl
theorem q1256 : (Jvm.Cond.instanceMethod ({ cls := "Quaylock", name := "appointmentOf", desc := "(I)I" } : Jvm.MethodName)) ∈ lw_all := lw_g (lw_at lw_m5 239 rfl) rfl
theorem q1257 : (Jvm.Cond.selects "Quaylock" ({ cls := "Quaylock", name := "appointmentOf", desc := "(I)I" } : Jvm.MethodName) ({ cls := "Quaylock", name := "appointmentOf", desc := "(I)I" } : Jvm.MethodName)) ∈ lw_all := lw_g (lw_at lw_m6 0 rfl) rfl
theorem q1258 : (Jvm.Cond.code ({ cls := "Quaylock", name := "appointmentOf", desc := "(I)I" } : Jvm.MethodName) prog_1_method_49_code (3 : Nat) (Option.some Jvm.ClassFile.FieldType.int)) ∈ lw_all := lw_g (lw_at lw_m6 1 rfl) rfl
theorem q1263 : (Jvm.Cond.instanceMethod ({ cls := "Quaylock", name := "inLane", desc := "(II)I" } : Jvm.MethodName)) ∈ lw_all := lw_g (lw_at lw_m6 6 rfl) rfl
theorem q1264 : (Jvm.Cond.selects "Quaylock" ({ cls := "Quaylock", name := "inLane", desc := "(II)I" } : Jvm.MethodName) ({ cls := "Quaylock", name := "inLane", desc := "(II)I" } : Jvm.MethodName)) ∈ lw_all := lw_g (lw_at lw_m6 7 rfl) rfl
theorem q1265 : (Jvm.Cond.code ({ cls := "Quaylock", name := "inLane", desc := "(II)I" } : Jvm.MethodName) prog_1_method_50_code (4 : Nat) (Option.some Jvm.ClassFile.FieldType.int)) ∈ lw_all := lw_g (lw_at lw_m6 8 rfl) rfl
theorem q1266 : (Jvm.Cond.methodLink "Quaylock" (313 : Nat) ({ cls := "java/util/TreeMap", name := "get", desc := "(Ljava/lang/Object;)Ljava/lang/Object;" } : Jvm.MethodName)) ∈ lw_all := lw_g (lw_at lw_m6 9 rfl) rfl
theorem q1271 : (Jvm.Cond.instanceMethod ({ cls := "Quaylock", name := "firstHour", desc := "(I)I" } : Jvm.MethodName)) ∈ lw_all := lw_g (lw_at lw_m6 14 rfl) rfl
theorem q1272 : (Jvm.Cond.selects "Quaylock" ({ cls := "Quaylock", name := "firstHour", desc := "(I)I" } : Jvm.MethodName) ({ cls := "Quaylock", name := "firstHour", desc := "(I)I" } : Jvm.MethodName)) ∈ lw_all := lw_g (lw_at lw_m6 15 rfl) rfl
theorem q1273 : (Jvm.Cond.code ({ cls := "Quaylock", name := "firstHour", desc := "(I)I" } : Jvm.MethodName) prog_1_method_52_code (4 : Nat) (Option.some Jvm.ClassFile.FieldType.int)) ∈ lw_all := lw_g (lw_at lw_m6 16 rfl) rfl
theorem q1274 : (Jvm.Cond.methodLink "Quaylock" (314 : Nat) ({ cls := "java/lang/Math", name := "max", desc := "(II)I" } : Jvm.MethodName)) ∈ lw_all := lw_g (lw_at lw_m6 17 rfl) rfl
theorem q1275 : (Jvm.Cond.methodLink "Quaylock" (320 : Nat) ({ cls := "Quaylock", name := "isFree", desc := "(I)Z" } : Jvm.MethodName)) ∈ lw_all := lw_g (lw_at lw_m6 18 rfl) rfl
theorem q1276 : (Jvm.Cond.privateMethod ({ cls := "Quaylock", name := "isFree", desc := "(I)Z" } : Jvm.MethodName)) ∈ lw_tbl := lw_at lw_m6 19 rfl
theorem q1277 : (Jvm.Cond.instanceMethod ({ cls := "Quaylock", name := "isFree", desc := "(I)Z" } : Jvm.MethodName)) ∈ lw_all := lw_g (lw_at lw_m6 20 rfl) rfl
theorem q1278 : (Jvm.Cond.code ({ cls := "Quaylock", name := "isFree", desc := "(I)Z" } : Jvm.MethodName) prog_1_method_51_code (4 : Nat) (Option.some Jvm.ClassFile.FieldType.boolean)) ∈ lw_all := lw_g (lw_at lw_m6 21 rfl) rfl
theorem q1283 : (Jvm.Cond.instanceMethod ({ cls := "Quaylock", name := "pass", desc := "(I)I" } : Jvm.MethodName)) ∈ lw_all := lw_g (lw_at lw_m6 26 rfl) rfl
theorem q1284 : (Jvm.Cond.selects "Quaylock" ({ cls := "Quaylock", name := "pass", desc := "(I)I" } : Jvm.MethodName) ({ cls := "Quaylock", name := "pass", desc := "(I)I" } : Jvm.MethodName)) ∈ lw_all := lw_g (lw_at lw_m6 27 rfl) rfl
theorem q1285 : (Jvm.Cond.code ({ cls := "Quaylock", name := "pass", desc := "(I)I" } : Jvm.MethodName) prog_1_method_55_code (4 : Nat) (Option.some Jvm.ClassFile.FieldType.int)) ∈ lw_all := lw_g (lw_at lw_m6 28 rfl) rfl
theorem q1286 : (Jvm.Cond.methodLink "Quaylock" (327 : Nat) ({ cls := "Quaylock", name := "endHolds", desc := "()V" } : Jvm.MethodName)) ∈ lw_all := lw_g (lw_at lw_m6 29 rfl) rfl
theorem q1287 : (Jvm.Cond.privateMethod ({ cls := "Quaylock", name := "endHolds", desc := "()V" } : Jvm.MethodName)) ∈ lw_tbl := lw_at lw_m6 30 rfl
theorem q1288 : (Jvm.Cond.instanceMethod ({ cls := "Quaylock", name := "endHolds", desc := "()V" } : Jvm.MethodName)) ∈ lw_all := lw_g (lw_at lw_m6 31 rfl) rfl
theorem q1289 : (Jvm.Cond.code ({ cls := "Quaylock", name := "endHolds", desc := "()V" } : Jvm.MethodName) prog_1_method_53_code (5 : Nat) (Option.none : Option Jvm.ClassFile.FieldType)) ∈ lw_all := lw_g (lw_at lw_m6 32 rfl) rfl
theorem q1290 : (Jvm.Cond.methodLink "Quaylock" (330 : Nat) ({ cls := "java/util/TreeMap", name := "isEmpty", desc := "()Z" } : Jvm.MethodName)) ∈ lw_all := lw_g (lw_at lw_m6 33 rfl) rfl
theorem q1301 : (Jvm.Cond.methodLink "Quaylock" (331 : Nat) ({ cls := "java/util/TreeMap", name := "firstKey", desc := "()Ljava/lang/Object;" } : Jvm.MethodName)) ∈ lw_all := lw_g (lw_at lw_m6 44 rfl) rfl
theorem q1314 : (Jvm.Cond.methodLink "Quaylock" (334 : Nat) ({ cls := "java/util/TreeMap", name := "firstEntry", desc := "()Ljava/util/Map$Entry;" } : Jvm.MethodName)) ∈ lw_all := lw_g (lw_at lw_m6 57 rfl) rfl
theorem q1364 : (Jvm.Cond.interfaceEntry "Quaylock" (338 : Nat)) ∈ lw_tbl := lw_at lw_m6 107 rfl
theorem q1365 : (Jvm.Cond.methodLink "Quaylock" (338 : Nat) ({ cls := "java/util/Map$Entry", name := "getValue", desc := "()Ljava/lang/Object;" } : Jvm.MethodName)) ∈ lw_all := lw_g (lw_at lw_m6 108 rfl) rfl
theorem q1366 : (Jvm.Cond.methodLink "Quaylock" (343 : Nat) ({ cls := "Quaylock", name := "serve", desc := "(LQuaylock$Appointment;)Z" } : Jvm.MethodName)) ∈ lw_all := lw_g (lw_at lw_m6 109 rfl) rfl
theorem q1367 : (Jvm.Cond.privateMethod ({ cls := "Quaylock", name := "serve", desc := "(LQuaylock$Appointment;)Z" } : Jvm.MethodName)) ∈ lw_tbl := lw_at lw_m6 110 rfl
theorem q1368 : (Jvm.Cond.instanceMethod ({ cls := "Quaylock", name := "serve", desc := "(LQuaylock$Appointment;)Z" } : Jvm.MethodName)) ∈ lw_all := lw_g (lw_at lw_m6 111 rfl) rfl
theorem q1369 : (Jvm.Cond.code ({ cls := "Quaylock", name := "serve", desc := "(LQuaylock$Appointment;)Z" } : Jvm.MethodName) prog_1_method_54_code (4 : Nat) (Option.some Jvm.ClassFile.FieldType.boolean)) ∈ lw_all := lw_g (lw_at lw_m6 112 rfl) rfl
theorem q1374 : (Jvm.Cond.instanceMethod ({ cls := "Quaylock", name := "doneShare", desc := "()F" } : Jvm.MethodName)) ∈ lw_all := lw_g (lw_at lw_m6 117 rfl) rfl
theorem q1375 : (Jvm.Cond.selects "Quaylock" ({ cls := "Quaylock", name := "doneShare", desc := "()F" } : Jvm.MethodName) ({ cls := "Quaylock", name := "doneShare", desc := "()F" } : Jvm.MethodName)) ∈ lw_all := lw_g (lw_at lw_m6 118 rfl) rfl
theorem q1376 : (Jvm.Cond.code ({ cls := "Quaylock", name := "doneShare", desc := "()F" } : Jvm.MethodName) prog_1_method_59_code (3 : Nat) (Option.some Jvm.ClassFile.FieldType.float)) ∈ lw_all := lw_g (lw_at lw_m6 119 rfl) rfl
theorem q1377 : (Jvm.Cond.methodLink "Quaylock" (347 : Nat) ({ cls := "Quaylock", name := "count", desc := "(C)I" } : Jvm.MethodName)) ∈ lw_all := lw_g (lw_at lw_m6 120 rfl) rfl
theorem q1378 : (Jvm.Cond.privateMethod ({ cls := "Quaylock", name := "count", desc := "(C)I" } : Jvm.MethodName)) ∈ lw_tbl := lw_at lw_m6 121 rfl
theorem q1379 : (Jvm.Cond.instanceMethod ({ cls := "Quaylock", name := "count", desc := "(C)I" } : Jvm.MethodName)) ∈ lw_all := lw_g (lw_at lw_m6 122 rfl) rfl
theorem q1380 : (Jvm.Cond.code ({ cls := "Quaylock", name := "count", desc := "(C)I" } : Jvm.MethodName) prog_1_method_58_code (5 : Nat) (Option.some Jvm.ClassFile.FieldType.int)) ∈ lw_all := lw_g (lw_at lw_m6 123 rfl) rfl
theorem q1699 : (Jvm.Cond.castable "Quaylock" "java/lang/Object") ∈ lw_tbl := lw_at lw_m7 202 rfl
theorem in_X1 : ∀ w ∈ wsX10, w ∈ lw_all := lw_in wsX10 [196, 198, 200, 202, 204, 206, 208, 210, 212, 214, 216] (by decide +kernel) (by decide +kernel)
/-! Quaylock$Yard -/
set_option maxRecDepth 100000
def RX2 : String := "Quaylock$Yard"
def TX2 : u_T := fun k => match k with
  | 0 => ("Quaylock$Yard", "boxes", "[LQuaylock$Box;", true)
  | _ => ("Quaylock$Yard", "heights", "[I", true)
def tyX2 : Nat → FieldType := fun k => match k with
  | 0 => .array (.object "Quaylock$Box")
  | _ => .array .int
abbrev wsX20 : List Cond := u_ws RX2 TX2 2
theorem nmX2 : ∀ a, a < 2 → ∀ b, b < 2 → a ≠ b → (TX2 a).2.1 ≠ (TX2 b).2.1 := by decide +kernel
theorem tyX2_ok : ∀ k, k < 2 → parseFieldDescriptor (TX2 k).2.2.1 = some (tyX2 k) := by decide +kernel
abbrev cX2_init : ByteArray := prog_7_method_1_code
def yX2_init : MethodName := ⟨RX2, "<init>", "()V"⟩
def dkwX2_init_0 : List UInt8 := [42, 183, 0, 3, 42, 16, 16, 189, 0, 9, 181, 0, 11, 42, 7, 188, 10, 181, 0, 17, 177]
abbrev dktX2_init_0 : List UInt8 := dkwX2_init_0 ++ []
theorem dksX2_init_0 : cX2_init.data.toList.drop 0 = dktX2_init_0 := by decide +kernel
theorem dX2_init_0 : decode cX2_init 0 = .ok (.aload_n 0, 1) := dk_42 (dk_at dksX2_init_0 0 rfl rfl)
theorem dX2_init_1 : decode cX2_init 1 = .ok (.invokespecial 3, 3) := dk_183 0 3 (dk_at dksX2_init_0 1 rfl rfl)
theorem dX2_init_4 : decode cX2_init 4 = .ok (.aload_n 0, 1) := dk_42 (dk_at dksX2_init_0 4 rfl rfl)
theorem dX2_init_5 : decode cX2_init 5 = .ok (.bipush 16, 2) := dk_16 16 (dk_at dksX2_init_0 5 rfl rfl)
theorem dX2_init_7 : decode cX2_init 7 = .ok (.anewarray 9, 3) := dk_189 0 9 (dk_at dksX2_init_0 7 rfl rfl)
theorem dX2_init_10 : decode cX2_init 10 = .ok (.putfield 11, 3) := dk_181 0 11 (dk_at dksX2_init_0 10 rfl rfl)
theorem dX2_init_13 : decode cX2_init 13 = .ok (.aload_n 0, 1) := dk_42 (dk_at dksX2_init_0 13 rfl rfl)
theorem dX2_init_14 : decode cX2_init 14 = .ok (.iconst 4, 1) := dk_7 (dk_at dksX2_init_0 14 rfl rfl)
theorem dX2_init_15 : decode cX2_init 15 = .ok (.newarray .int, 2) := dk_188_10 (dk_at dksX2_init_0 15 rfl rfl)
theorem dX2_init_17 : decode cX2_init 17 = .ok (.putfield 17, 3) := dk_181 0 17 (dk_at dksX2_init_0 17 rfl rfl)
theorem dX2_init_20 : decode cX2_init 20 = .ok (.return_, 1) := dk_177 (dk_at dksX2_init_0 20 rfl rfl)
abbrev cX2_takes : ByteArray := prog_7_method_9_code
def yX2_takes : MethodName := ⟨RX2, "takes", "(IILQuaylock$Box;)Z"⟩
def dkwX2_takes_1 : List UInt8 := [180, 0, 47, 45, 180, 0, 47, 161, 0, 7, 4, 167, 0, 4, 3, 172]
abbrev dktX2_takes_1 : List UInt8 := dkwX2_takes_1 ++ []
def dkwX2_takes_0 : List UInt8 := [42, 27, 182, 0, 43, 58, 4, 42, 180, 0, 17, 27, 46, 28, 162, 0, 24, 25, 4, 198, 0, 15, 25, 4]
abbrev dktX2_takes_0 : List UInt8 := dkwX2_takes_0 ++ dktX2_takes_1
theorem dksX2_takes_0 : cX2_takes.data.toList.drop 0 = dktX2_takes_0 := by decide +kernel
theorem dksX2_takes_1 : cX2_takes.data.toList.drop 24 = dktX2_takes_1 := dk_seg dksX2_takes_0 24 rfl rfl
theorem dX2_takes_0 : decode cX2_takes 0 = .ok (.aload_n 0, 1) := dk_42 (dk_at dksX2_takes_0 0 rfl rfl)
theorem dX2_takes_1 : decode cX2_takes 1 = .ok (.iload_n 1, 1) := dk_27 (dk_at dksX2_takes_0 1 rfl rfl)
theorem dX2_takes_2 : decode cX2_takes 2 = .ok (.invokevirtual 43, 3) := dk_182 0 43 (dk_at dksX2_takes_0 2 rfl rfl)
theorem dX2_takes_5 : decode cX2_takes 5 = .ok (.astore 4, 2) := dk_58 4 (dk_at dksX2_takes_0 5 rfl rfl)
theorem dX2_takes_7 : decode cX2_takes 7 = .ok (.aload_n 0, 1) := dk_42 (dk_at dksX2_takes_0 7 rfl rfl)
theorem dX2_takes_8 : decode cX2_takes 8 = .ok (.getfield 17, 3) := dk_180 0 17 (dk_at dksX2_takes_0 8 rfl rfl)
theorem dX2_takes_11 : decode cX2_takes 11 = .ok (.iload_n 1, 1) := dk_27 (dk_at dksX2_takes_0 11 rfl rfl)
theorem dX2_takes_12 : decode cX2_takes 12 = .ok (.iaload, 1) := dk_46 (dk_at dksX2_takes_0 12 rfl rfl)
theorem dX2_takes_13 : decode cX2_takes 13 = .ok (.iload_n 2, 1) := dk_28 (dk_at dksX2_takes_0 13 rfl rfl)
theorem dX2_takes_14 : decode cX2_takes 14 = .ok (.if_icmp .ge 24, 3) := dk_162 0 24 (dk_at dksX2_takes_0 14 rfl rfl)
theorem dX2_takes_17 : decode cX2_takes 17 = .ok (.aload 4, 2) := dk_25 4 (dk_at dksX2_takes_0 17 rfl rfl)
theorem dX2_takes_19 : decode cX2_takes 19 = .ok (.ifnull 15, 3) := dk_198 0 15 (dk_at dksX2_takes_0 19 rfl rfl)
theorem dX2_takes_22 : decode cX2_takes 22 = .ok (.aload 4, 2) := dk_25 4 (dk_at dksX2_takes_0 22 rfl rfl)
theorem dX2_takes_24 : decode cX2_takes 24 = .ok (.getfield 47, 3) := dk_180 0 47 (dk_at dksX2_takes_1 0 rfl rfl)
theorem dX2_takes_27 : decode cX2_takes 27 = .ok (.aload_n 3, 1) := dk_45 (dk_at dksX2_takes_1 3 rfl rfl)
theorem dX2_takes_28 : decode cX2_takes 28 = .ok (.getfield 47, 3) := dk_180 0 47 (dk_at dksX2_takes_1 4 rfl rfl)
theorem dX2_takes_31 : decode cX2_takes 31 = .ok (.if_icmp .lt 7, 3) := dk_161 0 7 (dk_at dksX2_takes_1 7 rfl rfl)
theorem dX2_takes_34 : decode cX2_takes 34 = .ok (.iconst 1, 1) := dk_4 (dk_at dksX2_takes_1 10 rfl rfl)
theorem dX2_takes_35 : decode cX2_takes 35 = .ok (.goto 4, 3) := dk_167 0 4 (dk_at dksX2_takes_1 11 rfl rfl)
theorem dX2_takes_38 : decode cX2_takes 38 = .ok (.iconst 0, 1) := dk_3 (dk_at dksX2_takes_1 14 rfl rfl)
theorem dX2_takes_39 : decode cX2_takes 39 = .ok (.ireturn, 1) := dk_172 (dk_at dksX2_takes_1 15 rfl rfl)
abbrev cX2_top : ByteArray := prog_7_method_6_code
def yX2_top : MethodName := ⟨RX2, "top", "(I)LQuaylock$Box;"⟩
def dkwX2_top_1 : List UInt8 := [182, 0, 35, 176]
abbrev dktX2_top_1 : List UInt8 := dkwX2_top_1 ++ []
def dkwX2_top_0 : List UInt8 := [42, 180, 0, 17, 27, 46, 154, 0, 7, 1, 167, 0, 16, 42, 27, 42, 180, 0, 17, 27, 46, 4, 100]
abbrev dktX2_top_0 : List UInt8 := dkwX2_top_0 ++ dktX2_top_1
theorem dksX2_top_0 : cX2_top.data.toList.drop 0 = dktX2_top_0 := by decide +kernel
theorem dksX2_top_1 : cX2_top.data.toList.drop 23 = dktX2_top_1 := dk_seg dksX2_top_0 23 rfl rfl
theorem dX2_top_0 : decode cX2_top 0 = .ok (.aload_n 0, 1) := dk_42 (dk_at dksX2_top_0 0 rfl rfl)
theorem dX2_top_1 : decode cX2_top 1 = .ok (.getfield 17, 3) := dk_180 0 17 (dk_at dksX2_top_0 1 rfl rfl)
theorem dX2_top_4 : decode cX2_top 4 = .ok (.iload_n 1, 1) := dk_27 (dk_at dksX2_top_0 4 rfl rfl)
theorem dX2_top_5 : decode cX2_top 5 = .ok (.iaload, 1) := dk_46 (dk_at dksX2_top_0 5 rfl rfl)
theorem dX2_top_6 : decode cX2_top 6 = .ok (.ifCond .ne 7, 3) := dk_154 0 7 (dk_at dksX2_top_0 6 rfl rfl)
theorem dX2_top_9 : decode cX2_top 9 = .ok (.aconst_null, 1) := dk_1 (dk_at dksX2_top_0 9 rfl rfl)
theorem dX2_top_10 : decode cX2_top 10 = .ok (.goto 16, 3) := dk_167 0 16 (dk_at dksX2_top_0 10 rfl rfl)
theorem dX2_top_13 : decode cX2_top 13 = .ok (.aload_n 0, 1) := dk_42 (dk_at dksX2_top_0 13 rfl rfl)
theorem dX2_top_14 : decode cX2_top 14 = .ok (.iload_n 1, 1) := dk_27 (dk_at dksX2_top_0 14 rfl rfl)
theorem dX2_top_15 : decode cX2_top 15 = .ok (.aload_n 0, 1) := dk_42 (dk_at dksX2_top_0 15 rfl rfl)
theorem dX2_top_16 : decode cX2_top 16 = .ok (.getfield 17, 3) := dk_180 0 17 (dk_at dksX2_top_0 16 rfl rfl)
theorem dX2_top_19 : decode cX2_top 19 = .ok (.iload_n 1, 1) := dk_27 (dk_at dksX2_top_0 19 rfl rfl)
theorem dX2_top_20 : decode cX2_top 20 = .ok (.iaload, 1) := dk_46 (dk_at dksX2_top_0 20 rfl rfl)
theorem dX2_top_21 : decode cX2_top 21 = .ok (.iconst 1, 1) := dk_4 (dk_at dksX2_top_0 21 rfl rfl)
theorem dX2_top_22 : decode cX2_top 22 = .ok (.isub, 1) := dk_100 (dk_at dksX2_top_0 22 rfl rfl)
theorem dX2_top_23 : decode cX2_top 23 = .ok (.invokevirtual 35, 3) := dk_182 0 35 (dk_at dksX2_top_1 0 rfl rfl)
theorem dX2_top_26 : decode cX2_top 26 = .ok (.areturn, 1) := dk_176 (dk_at dksX2_top_1 3 rfl rfl)
abbrev cX2_at : ByteArray := prog_7_method_4_code
def yX2_at : MethodName := ⟨RX2, "at", "(II)LQuaylock$Box;"⟩
def dkwX2_at_0 : List UInt8 := [42, 180, 0, 11, 7, 27, 104, 28, 96, 50, 176]
abbrev dktX2_at_0 : List UInt8 := dkwX2_at_0 ++ []
theorem dksX2_at_0 : cX2_at.data.toList.drop 0 = dktX2_at_0 := by decide +kernel
theorem dX2_at_0 : decode cX2_at 0 = .ok (.aload_n 0, 1) := dk_42 (dk_at dksX2_at_0 0 rfl rfl)
theorem dX2_at_1 : decode cX2_at 1 = .ok (.getfield 11, 3) := dk_180 0 11 (dk_at dksX2_at_0 1 rfl rfl)
theorem dX2_at_4 : decode cX2_at 4 = .ok (.iconst 4, 1) := dk_7 (dk_at dksX2_at_0 4 rfl rfl)
theorem dX2_at_5 : decode cX2_at 5 = .ok (.iload_n 1, 1) := dk_27 (dk_at dksX2_at_0 5 rfl rfl)
theorem dX2_at_6 : decode cX2_at 6 = .ok (.imul, 1) := dk_104 (dk_at dksX2_at_0 6 rfl rfl)
theorem dX2_at_7 : decode cX2_at 7 = .ok (.iload_n 2, 1) := dk_28 (dk_at dksX2_at_0 7 rfl rfl)
theorem dX2_at_8 : decode cX2_at 8 = .ok (.iadd, 1) := dk_96 (dk_at dksX2_at_0 8 rfl rfl)
theorem dX2_at_9 : decode cX2_at 9 = .ok (.aaload, 1) := dk_50 (dk_at dksX2_at_0 9 rfl rfl)
theorem dX2_at_10 : decode cX2_at 10 = .ok (.areturn, 1) := dk_176 (dk_at dksX2_at_0 10 rfl rfl)
abbrev cX2_push : ByteArray := prog_7_method_7_code
def yX2_push : MethodName := ⟨RX2, "push", "(ILQuaylock$Box;)V"⟩
def dkwX2_push_1 : List UInt8 := [96, 79, 177]
abbrev dktX2_push_1 : List UInt8 := dkwX2_push_1 ++ []
def dkwX2_push_0 : List UInt8 := [42, 180, 0, 11, 7, 27, 104, 42, 180, 0, 17, 27, 46, 96, 44, 83, 42, 180, 0, 17, 27, 92, 46, 4]
abbrev dktX2_push_0 : List UInt8 := dkwX2_push_0 ++ dktX2_push_1
theorem dksX2_push_0 : cX2_push.data.toList.drop 0 = dktX2_push_0 := by decide +kernel
theorem dksX2_push_1 : cX2_push.data.toList.drop 24 = dktX2_push_1 := dk_seg dksX2_push_0 24 rfl rfl
theorem dX2_push_0 : decode cX2_push 0 = .ok (.aload_n 0, 1) := dk_42 (dk_at dksX2_push_0 0 rfl rfl)
theorem dX2_push_1 : decode cX2_push 1 = .ok (.getfield 11, 3) := dk_180 0 11 (dk_at dksX2_push_0 1 rfl rfl)
theorem dX2_push_4 : decode cX2_push 4 = .ok (.iconst 4, 1) := dk_7 (dk_at dksX2_push_0 4 rfl rfl)
theorem dX2_push_5 : decode cX2_push 5 = .ok (.iload_n 1, 1) := dk_27 (dk_at dksX2_push_0 5 rfl rfl)
theorem dX2_push_6 : decode cX2_push 6 = .ok (.imul, 1) := dk_104 (dk_at dksX2_push_0 6 rfl rfl)
theorem dX2_push_7 : decode cX2_push 7 = .ok (.aload_n 0, 1) := dk_42 (dk_at dksX2_push_0 7 rfl rfl)
theorem dX2_push_8 : decode cX2_push 8 = .ok (.getfield 17, 3) := dk_180 0 17 (dk_at dksX2_push_0 8 rfl rfl)
theorem dX2_push_11 : decode cX2_push 11 = .ok (.iload_n 1, 1) := dk_27 (dk_at dksX2_push_0 11 rfl rfl)
theorem dX2_push_12 : decode cX2_push 12 = .ok (.iaload, 1) := dk_46 (dk_at dksX2_push_0 12 rfl rfl)
theorem dX2_push_13 : decode cX2_push 13 = .ok (.iadd, 1) := dk_96 (dk_at dksX2_push_0 13 rfl rfl)
theorem dX2_push_14 : decode cX2_push 14 = .ok (.aload_n 2, 1) := dk_44 (dk_at dksX2_push_0 14 rfl rfl)
theorem dX2_push_15 : decode cX2_push 15 = .ok (.aastore, 1) := dk_83 (dk_at dksX2_push_0 15 rfl rfl)
theorem dX2_push_16 : decode cX2_push 16 = .ok (.aload_n 0, 1) := dk_42 (dk_at dksX2_push_0 16 rfl rfl)
theorem dX2_push_17 : decode cX2_push 17 = .ok (.getfield 17, 3) := dk_180 0 17 (dk_at dksX2_push_0 17 rfl rfl)
theorem dX2_push_20 : decode cX2_push 20 = .ok (.iload_n 1, 1) := dk_27 (dk_at dksX2_push_0 20 rfl rfl)
theorem dX2_push_21 : decode cX2_push 21 = .ok (.dup2, 1) := dk_92 (dk_at dksX2_push_0 21 rfl rfl)
theorem dX2_push_22 : decode cX2_push 22 = .ok (.iaload, 1) := dk_46 (dk_at dksX2_push_0 22 rfl rfl)
theorem dX2_push_23 : decode cX2_push 23 = .ok (.iconst 1, 1) := dk_4 (dk_at dksX2_push_0 23 rfl rfl)
theorem dX2_push_24 : decode cX2_push 24 = .ok (.iadd, 1) := dk_96 (dk_at dksX2_push_1 0 rfl rfl)
theorem dX2_push_25 : decode cX2_push 25 = .ok (.iastore, 1) := dk_79 (dk_at dksX2_push_1 1 rfl rfl)
theorem dX2_push_26 : decode cX2_push 26 = .ok (.return_, 1) := dk_177 (dk_at dksX2_push_1 2 rfl rfl)
abbrev cX2_stackOf : ByteArray := prog_7_method_10_code
def yX2_stackOf : MethodName := ⟨RX2, "stackOf", "(LQuaylock$Box;)I"⟩
def dkwX2_stackOf_2 : List UInt8 := [132, 3, 1, 167, 255, 211, 28, 172]
abbrev dktX2_stackOf_2 : List UInt8 := dkwX2_stackOf_2 ++ []
def dkwX2_stackOf_1 : List UInt8 := [29, 21, 4, 182, 0, 35, 43, 166, 0, 7, 29, 167, 0, 4, 28, 61, 132, 4, 1, 167, 255, 225]
abbrev dktX2_stackOf_1 : List UInt8 := dkwX2_stackOf_1 ++ dktX2_stackOf_2
def dkwX2_stackOf_0 : List UInt8 := [2, 61, 3, 62, 29, 7, 162, 0, 46, 3, 54, 4, 21, 4, 42, 180, 0, 17, 29, 46, 162, 0, 26, 42]
abbrev dktX2_stackOf_0 : List UInt8 := dkwX2_stackOf_0 ++ dktX2_stackOf_1
theorem dksX2_stackOf_0 : cX2_stackOf.data.toList.drop 0 = dktX2_stackOf_0 := by decide +kernel
theorem dksX2_stackOf_1 : cX2_stackOf.data.toList.drop 24 = dktX2_stackOf_1 := dk_seg dksX2_stackOf_0 24 rfl rfl
theorem dksX2_stackOf_2 : cX2_stackOf.data.toList.drop 46 = dktX2_stackOf_2 := dk_seg dksX2_stackOf_1 22 rfl rfl
theorem dX2_stackOf_0 : decode cX2_stackOf 0 = .ok (.iconst (-1), 1) := dk_2 (dk_at dksX2_stackOf_0 0 rfl rfl)
theorem dX2_stackOf_1 : decode cX2_stackOf 1 = .ok (.istore_n 2, 1) := dk_61 (dk_at dksX2_stackOf_0 1 rfl rfl)
theorem dX2_stackOf_2 : decode cX2_stackOf 2 = .ok (.iconst 0, 1) := dk_3 (dk_at dksX2_stackOf_0 2 rfl rfl)
theorem dX2_stackOf_3 : decode cX2_stackOf 3 = .ok (.istore_n 3, 1) := dk_62 (dk_at dksX2_stackOf_0 3 rfl rfl)
theorem dX2_stackOf_4 : decode cX2_stackOf 4 = .ok (.iload_n 3, 1) := dk_29 (dk_at dksX2_stackOf_0 4 rfl rfl)
theorem dX2_stackOf_5 : decode cX2_stackOf 5 = .ok (.iconst 4, 1) := dk_7 (dk_at dksX2_stackOf_0 5 rfl rfl)
theorem dX2_stackOf_6 : decode cX2_stackOf 6 = .ok (.if_icmp .ge 46, 3) := dk_162 0 46 (dk_at dksX2_stackOf_0 6 rfl rfl)
theorem dX2_stackOf_9 : decode cX2_stackOf 9 = .ok (.iconst 0, 1) := dk_3 (dk_at dksX2_stackOf_0 9 rfl rfl)
theorem dX2_stackOf_10 : decode cX2_stackOf 10 = .ok (.istore 4, 2) := dk_54 4 (dk_at dksX2_stackOf_0 10 rfl rfl)
theorem dX2_stackOf_12 : decode cX2_stackOf 12 = .ok (.iload 4, 2) := dk_21 4 (dk_at dksX2_stackOf_0 12 rfl rfl)
theorem dX2_stackOf_14 : decode cX2_stackOf 14 = .ok (.aload_n 0, 1) := dk_42 (dk_at dksX2_stackOf_0 14 rfl rfl)
theorem dX2_stackOf_15 : decode cX2_stackOf 15 = .ok (.getfield 17, 3) := dk_180 0 17 (dk_at dksX2_stackOf_0 15 rfl rfl)
theorem dX2_stackOf_18 : decode cX2_stackOf 18 = .ok (.iload_n 3, 1) := dk_29 (dk_at dksX2_stackOf_0 18 rfl rfl)
theorem dX2_stackOf_19 : decode cX2_stackOf 19 = .ok (.iaload, 1) := dk_46 (dk_at dksX2_stackOf_0 19 rfl rfl)
theorem dX2_stackOf_20 : decode cX2_stackOf 20 = .ok (.if_icmp .ge 26, 3) := dk_162 0 26 (dk_at dksX2_stackOf_0 20 rfl rfl)
theorem dX2_stackOf_23 : decode cX2_stackOf 23 = .ok (.aload_n 0, 1) := dk_42 (dk_at dksX2_stackOf_0 23 rfl rfl)
theorem dX2_stackOf_24 : decode cX2_stackOf 24 = .ok (.iload_n 3, 1) := dk_29 (dk_at dksX2_stackOf_1 0 rfl rfl)
theorem dX2_stackOf_25 : decode cX2_stackOf 25 = .ok (.iload 4, 2) := dk_21 4 (dk_at dksX2_stackOf_1 1 rfl rfl)
theorem dX2_stackOf_27 : decode cX2_stackOf 27 = .ok (.invokevirtual 35, 3) := dk_182 0 35 (dk_at dksX2_stackOf_1 3 rfl rfl)
theorem dX2_stackOf_30 : decode cX2_stackOf 30 = .ok (.aload_n 1, 1) := dk_43 (dk_at dksX2_stackOf_1 6 rfl rfl)
theorem dX2_stackOf_31 : decode cX2_stackOf 31 = .ok (.if_acmp .ne 7, 3) := dk_166 0 7 (dk_at dksX2_stackOf_1 7 rfl rfl)
theorem dX2_stackOf_34 : decode cX2_stackOf 34 = .ok (.iload_n 3, 1) := dk_29 (dk_at dksX2_stackOf_1 10 rfl rfl)
theorem dX2_stackOf_35 : decode cX2_stackOf 35 = .ok (.goto 4, 3) := dk_167 0 4 (dk_at dksX2_stackOf_1 11 rfl rfl)
theorem dX2_stackOf_38 : decode cX2_stackOf 38 = .ok (.iload_n 2, 1) := dk_28 (dk_at dksX2_stackOf_1 14 rfl rfl)
theorem dX2_stackOf_39 : decode cX2_stackOf 39 = .ok (.istore_n 2, 1) := dk_61 (dk_at dksX2_stackOf_1 15 rfl rfl)
theorem dX2_stackOf_40 : decode cX2_stackOf 40 = .ok (.iinc 4 1, 3) := dk_132 4 1 (dk_at dksX2_stackOf_1 16 rfl rfl)
theorem dX2_stackOf_43 : decode cX2_stackOf 43 = .ok (.goto (-31), 3) := dk_167 255 225 (dk_at dksX2_stackOf_1 19 rfl rfl)
theorem dX2_stackOf_46 : decode cX2_stackOf 46 = .ok (.iinc 3 1, 3) := dk_132 3 1 (dk_at dksX2_stackOf_2 0 rfl rfl)
theorem dX2_stackOf_49 : decode cX2_stackOf 49 = .ok (.goto (-45), 3) := dk_167 255 211 (dk_at dksX2_stackOf_2 3 rfl rfl)
theorem dX2_stackOf_52 : decode cX2_stackOf 52 = .ok (.iload_n 2, 1) := dk_28 (dk_at dksX2_stackOf_2 6 rfl rfl)
theorem dX2_stackOf_53 : decode cX2_stackOf 53 = .ok (.ireturn, 1) := dk_172 (dk_at dksX2_stackOf_2 7 rfl rfl)
abbrev cX2_levelOf : ByteArray := prog_7_method_11_code
def yX2_levelOf : MethodName := ⟨RX2, "levelOf", "(LQuaylock$Box;)I"⟩
def dkwX2_levelOf_1 : List UInt8 := [29, 172]
abbrev dktX2_levelOf_1 : List UInt8 := dkwX2_levelOf_1 ++ []
def dkwX2_levelOf_0 : List UInt8 := [42, 43, 182, 0, 50, 61, 3, 62, 42, 28, 29, 182, 0, 35, 43, 165, 0, 9, 132, 3, 1, 167, 255, 243]
abbrev dktX2_levelOf_0 : List UInt8 := dkwX2_levelOf_0 ++ dktX2_levelOf_1
theorem dksX2_levelOf_0 : cX2_levelOf.data.toList.drop 0 = dktX2_levelOf_0 := by decide +kernel
theorem dksX2_levelOf_1 : cX2_levelOf.data.toList.drop 24 = dktX2_levelOf_1 := dk_seg dksX2_levelOf_0 24 rfl rfl
theorem dX2_levelOf_0 : decode cX2_levelOf 0 = .ok (.aload_n 0, 1) := dk_42 (dk_at dksX2_levelOf_0 0 rfl rfl)
theorem dX2_levelOf_1 : decode cX2_levelOf 1 = .ok (.aload_n 1, 1) := dk_43 (dk_at dksX2_levelOf_0 1 rfl rfl)
theorem dX2_levelOf_2 : decode cX2_levelOf 2 = .ok (.invokevirtual 50, 3) := dk_182 0 50 (dk_at dksX2_levelOf_0 2 rfl rfl)
theorem dX2_levelOf_5 : decode cX2_levelOf 5 = .ok (.istore_n 2, 1) := dk_61 (dk_at dksX2_levelOf_0 5 rfl rfl)
theorem dX2_levelOf_6 : decode cX2_levelOf 6 = .ok (.iconst 0, 1) := dk_3 (dk_at dksX2_levelOf_0 6 rfl rfl)
theorem dX2_levelOf_7 : decode cX2_levelOf 7 = .ok (.istore_n 3, 1) := dk_62 (dk_at dksX2_levelOf_0 7 rfl rfl)
theorem dX2_levelOf_8 : decode cX2_levelOf 8 = .ok (.aload_n 0, 1) := dk_42 (dk_at dksX2_levelOf_0 8 rfl rfl)
theorem dX2_levelOf_9 : decode cX2_levelOf 9 = .ok (.iload_n 2, 1) := dk_28 (dk_at dksX2_levelOf_0 9 rfl rfl)
theorem dX2_levelOf_10 : decode cX2_levelOf 10 = .ok (.iload_n 3, 1) := dk_29 (dk_at dksX2_levelOf_0 10 rfl rfl)
theorem dX2_levelOf_11 : decode cX2_levelOf 11 = .ok (.invokevirtual 35, 3) := dk_182 0 35 (dk_at dksX2_levelOf_0 11 rfl rfl)
theorem dX2_levelOf_14 : decode cX2_levelOf 14 = .ok (.aload_n 1, 1) := dk_43 (dk_at dksX2_levelOf_0 14 rfl rfl)
theorem dX2_levelOf_15 : decode cX2_levelOf 15 = .ok (.if_acmp .eq 9, 3) := dk_165 0 9 (dk_at dksX2_levelOf_0 15 rfl rfl)
theorem dX2_levelOf_18 : decode cX2_levelOf 18 = .ok (.iinc 3 1, 3) := dk_132 3 1 (dk_at dksX2_levelOf_0 18 rfl rfl)
theorem dX2_levelOf_21 : decode cX2_levelOf 21 = .ok (.goto (-13), 3) := dk_167 255 243 (dk_at dksX2_levelOf_0 21 rfl rfl)
theorem dX2_levelOf_24 : decode cX2_levelOf 24 = .ok (.iload_n 3, 1) := dk_29 (dk_at dksX2_levelOf_1 0 rfl rfl)
theorem dX2_levelOf_25 : decode cX2_levelOf 25 = .ok (.ireturn, 1) := dk_172 (dk_at dksX2_levelOf_1 1 rfl rfl)
abbrev cX2_above : ByteArray := prog_7_method_12_code
def yX2_above : MethodName := ⟨RX2, "above", "(LQuaylock$Box;)I"⟩
def dkwX2_above_0 : List UInt8 := [42, 180, 0, 17, 42, 43, 182, 0, 50, 46, 4, 100, 42, 43, 182, 0, 54, 100, 172]
abbrev dktX2_above_0 : List UInt8 := dkwX2_above_0 ++ []
theorem dksX2_above_0 : cX2_above.data.toList.drop 0 = dktX2_above_0 := by decide +kernel
theorem dX2_above_0 : decode cX2_above 0 = .ok (.aload_n 0, 1) := dk_42 (dk_at dksX2_above_0 0 rfl rfl)
theorem dX2_above_1 : decode cX2_above 1 = .ok (.getfield 17, 3) := dk_180 0 17 (dk_at dksX2_above_0 1 rfl rfl)
theorem dX2_above_4 : decode cX2_above 4 = .ok (.aload_n 0, 1) := dk_42 (dk_at dksX2_above_0 4 rfl rfl)
theorem dX2_above_5 : decode cX2_above 5 = .ok (.aload_n 1, 1) := dk_43 (dk_at dksX2_above_0 5 rfl rfl)
theorem dX2_above_6 : decode cX2_above 6 = .ok (.invokevirtual 50, 3) := dk_182 0 50 (dk_at dksX2_above_0 6 rfl rfl)
theorem dX2_above_9 : decode cX2_above 9 = .ok (.iaload, 1) := dk_46 (dk_at dksX2_above_0 9 rfl rfl)
theorem dX2_above_10 : decode cX2_above 10 = .ok (.iconst 1, 1) := dk_4 (dk_at dksX2_above_0 10 rfl rfl)
theorem dX2_above_11 : decode cX2_above 11 = .ok (.isub, 1) := dk_100 (dk_at dksX2_above_0 11 rfl rfl)
theorem dX2_above_12 : decode cX2_above 12 = .ok (.aload_n 0, 1) := dk_42 (dk_at dksX2_above_0 12 rfl rfl)
theorem dX2_above_13 : decode cX2_above 13 = .ok (.aload_n 1, 1) := dk_43 (dk_at dksX2_above_0 13 rfl rfl)
theorem dX2_above_14 : decode cX2_above 14 = .ok (.invokevirtual 54, 3) := dk_182 0 54 (dk_at dksX2_above_0 14 rfl rfl)
theorem dX2_above_17 : decode cX2_above 17 = .ok (.isub, 1) := dk_100 (dk_at dksX2_above_0 17 rfl rfl)
theorem dX2_above_18 : decode cX2_above 18 = .ok (.ireturn, 1) := dk_172 (dk_at dksX2_above_0 18 rfl rfl)
abbrev cX2_compareTo : ByteArray := prog_7_method_14_code
def yX2_compareTo : MethodName := ⟨RX2, "compareTo", "(Ljava/lang/Object;)I"⟩
def dkwX2_compareTo_0 : List UInt8 := [42, 43, 192, 0, 12, 182, 0, 57, 172]
abbrev dktX2_compareTo_0 : List UInt8 := dkwX2_compareTo_0 ++ []
theorem dksX2_compareTo_0 : cX2_compareTo.data.toList.drop 0 = dktX2_compareTo_0 := by decide +kernel
theorem dX2_compareTo_0 : decode cX2_compareTo 0 = .ok (.aload_n 0, 1) := dk_42 (dk_at dksX2_compareTo_0 0 rfl rfl)
theorem dX2_compareTo_1 : decode cX2_compareTo 1 = .ok (.aload_n 1, 1) := dk_43 (dk_at dksX2_compareTo_0 1 rfl rfl)
theorem dX2_compareTo_2 : decode cX2_compareTo 2 = .ok (.checkcast 12, 3) := dk_192 0 12 (dk_at dksX2_compareTo_0 2 rfl rfl)
theorem dX2_compareTo_5 : decode cX2_compareTo 5 = .ok (.invokevirtual 57, 3) := dk_182 0 57 (dk_at dksX2_compareTo_0 5 rfl rfl)
theorem dX2_compareTo_8 : decode cX2_compareTo 8 = .ok (.ireturn, 1) := dk_172 (dk_at dksX2_compareTo_0 8 rfl rfl)
abbrev cX2_compareTo_2 : ByteArray := prog_7_method_5_code
def yX2_compareTo_2 : MethodName := ⟨RX2, "compareTo", "(LQuaylock$Yard;)I"⟩
def dkwX2_compareTo_2_3 : List UInt8 := [153, 0, 9, 17, 3, 232, 29, 104, 172, 132, 2, 1, 167, 255, 178, 3, 172]
abbrev dktX2_compareTo_2_3 : List UInt8 := dkwX2_compareTo_2_3 ++ []
def dkwX2_compareTo_2_2 : List UInt8 := [180, 0, 39, 43, 28, 21, 4, 182, 0, 35, 180, 0, 39, 100, 62, 132, 4, 1, 167, 255, 216, 29]
abbrev dktX2_compareTo_2_2 : List UInt8 := dkwX2_compareTo_2_2 ++ dktX2_compareTo_2_3
def dkwX2_compareTo_2_1 : List UInt8 := [21, 4, 42, 180, 0, 17, 28, 46, 162, 0, 35, 29, 154, 0, 31, 42, 28, 21, 4, 182, 0, 35]
abbrev dktX2_compareTo_2_1 : List UInt8 := dkwX2_compareTo_2_1 ++ dktX2_compareTo_2_2
def dkwX2_compareTo_2_0 : List UInt8 := [3, 61, 28, 7, 162, 0, 79, 42, 180, 0, 17, 28, 46, 43, 180, 0, 17, 28, 46, 100, 62, 3, 54, 4]
abbrev dktX2_compareTo_2_0 : List UInt8 := dkwX2_compareTo_2_0 ++ dktX2_compareTo_2_1
theorem dksX2_compareTo_2_0 : cX2_compareTo_2.data.toList.drop 0 = dktX2_compareTo_2_0 := by decide +kernel
theorem dksX2_compareTo_2_1 : cX2_compareTo_2.data.toList.drop 24 = dktX2_compareTo_2_1 := dk_seg dksX2_compareTo_2_0 24 rfl rfl
theorem dksX2_compareTo_2_2 : cX2_compareTo_2.data.toList.drop 46 = dktX2_compareTo_2_2 := dk_seg dksX2_compareTo_2_1 22 rfl rfl
theorem dksX2_compareTo_2_3 : cX2_compareTo_2.data.toList.drop 68 = dktX2_compareTo_2_3 := dk_seg dksX2_compareTo_2_2 22 rfl rfl
theorem dX2_compareTo_2_0 : decode cX2_compareTo_2 0 = .ok (.iconst 0, 1) := dk_3 (dk_at dksX2_compareTo_2_0 0 rfl rfl)
theorem dX2_compareTo_2_1 : decode cX2_compareTo_2 1 = .ok (.istore_n 2, 1) := dk_61 (dk_at dksX2_compareTo_2_0 1 rfl rfl)
theorem dX2_compareTo_2_2 : decode cX2_compareTo_2 2 = .ok (.iload_n 2, 1) := dk_28 (dk_at dksX2_compareTo_2_0 2 rfl rfl)
theorem dX2_compareTo_2_3 : decode cX2_compareTo_2 3 = .ok (.iconst 4, 1) := dk_7 (dk_at dksX2_compareTo_2_0 3 rfl rfl)
theorem dX2_compareTo_2_4 : decode cX2_compareTo_2 4 = .ok (.if_icmp .ge 79, 3) := dk_162 0 79 (dk_at dksX2_compareTo_2_0 4 rfl rfl)
theorem dX2_compareTo_2_7 : decode cX2_compareTo_2 7 = .ok (.aload_n 0, 1) := dk_42 (dk_at dksX2_compareTo_2_0 7 rfl rfl)
theorem dX2_compareTo_2_8 : decode cX2_compareTo_2 8 = .ok (.getfield 17, 3) := dk_180 0 17 (dk_at dksX2_compareTo_2_0 8 rfl rfl)
theorem dX2_compareTo_2_11 : decode cX2_compareTo_2 11 = .ok (.iload_n 2, 1) := dk_28 (dk_at dksX2_compareTo_2_0 11 rfl rfl)
theorem dX2_compareTo_2_12 : decode cX2_compareTo_2 12 = .ok (.iaload, 1) := dk_46 (dk_at dksX2_compareTo_2_0 12 rfl rfl)
theorem dX2_compareTo_2_13 : decode cX2_compareTo_2 13 = .ok (.aload_n 1, 1) := dk_43 (dk_at dksX2_compareTo_2_0 13 rfl rfl)
theorem dX2_compareTo_2_14 : decode cX2_compareTo_2 14 = .ok (.getfield 17, 3) := dk_180 0 17 (dk_at dksX2_compareTo_2_0 14 rfl rfl)
theorem dX2_compareTo_2_17 : decode cX2_compareTo_2 17 = .ok (.iload_n 2, 1) := dk_28 (dk_at dksX2_compareTo_2_0 17 rfl rfl)
theorem dX2_compareTo_2_18 : decode cX2_compareTo_2 18 = .ok (.iaload, 1) := dk_46 (dk_at dksX2_compareTo_2_0 18 rfl rfl)
theorem dX2_compareTo_2_19 : decode cX2_compareTo_2 19 = .ok (.isub, 1) := dk_100 (dk_at dksX2_compareTo_2_0 19 rfl rfl)
theorem dX2_compareTo_2_20 : decode cX2_compareTo_2 20 = .ok (.istore_n 3, 1) := dk_62 (dk_at dksX2_compareTo_2_0 20 rfl rfl)
theorem dX2_compareTo_2_21 : decode cX2_compareTo_2 21 = .ok (.iconst 0, 1) := dk_3 (dk_at dksX2_compareTo_2_0 21 rfl rfl)
theorem dX2_compareTo_2_22 : decode cX2_compareTo_2 22 = .ok (.istore 4, 2) := dk_54 4 (dk_at dksX2_compareTo_2_0 22 rfl rfl)
theorem dX2_compareTo_2_24 : decode cX2_compareTo_2 24 = .ok (.iload 4, 2) := dk_21 4 (dk_at dksX2_compareTo_2_1 0 rfl rfl)
theorem dX2_compareTo_2_26 : decode cX2_compareTo_2 26 = .ok (.aload_n 0, 1) := dk_42 (dk_at dksX2_compareTo_2_1 2 rfl rfl)
theorem dX2_compareTo_2_27 : decode cX2_compareTo_2 27 = .ok (.getfield 17, 3) := dk_180 0 17 (dk_at dksX2_compareTo_2_1 3 rfl rfl)
theorem dX2_compareTo_2_30 : decode cX2_compareTo_2 30 = .ok (.iload_n 2, 1) := dk_28 (dk_at dksX2_compareTo_2_1 6 rfl rfl)
theorem dX2_compareTo_2_31 : decode cX2_compareTo_2 31 = .ok (.iaload, 1) := dk_46 (dk_at dksX2_compareTo_2_1 7 rfl rfl)
theorem dX2_compareTo_2_32 : decode cX2_compareTo_2 32 = .ok (.if_icmp .ge 35, 3) := dk_162 0 35 (dk_at dksX2_compareTo_2_1 8 rfl rfl)
theorem dX2_compareTo_2_35 : decode cX2_compareTo_2 35 = .ok (.iload_n 3, 1) := dk_29 (dk_at dksX2_compareTo_2_1 11 rfl rfl)
theorem dX2_compareTo_2_36 : decode cX2_compareTo_2 36 = .ok (.ifCond .ne 31, 3) := dk_154 0 31 (dk_at dksX2_compareTo_2_1 12 rfl rfl)
theorem dX2_compareTo_2_39 : decode cX2_compareTo_2 39 = .ok (.aload_n 0, 1) := dk_42 (dk_at dksX2_compareTo_2_1 15 rfl rfl)
theorem dX2_compareTo_2_40 : decode cX2_compareTo_2 40 = .ok (.iload_n 2, 1) := dk_28 (dk_at dksX2_compareTo_2_1 16 rfl rfl)
theorem dX2_compareTo_2_41 : decode cX2_compareTo_2 41 = .ok (.iload 4, 2) := dk_21 4 (dk_at dksX2_compareTo_2_1 17 rfl rfl)
theorem dX2_compareTo_2_43 : decode cX2_compareTo_2 43 = .ok (.invokevirtual 35, 3) := dk_182 0 35 (dk_at dksX2_compareTo_2_1 19 rfl rfl)
theorem dX2_compareTo_2_46 : decode cX2_compareTo_2 46 = .ok (.getfield 39, 3) := dk_180 0 39 (dk_at dksX2_compareTo_2_2 0 rfl rfl)
theorem dX2_compareTo_2_49 : decode cX2_compareTo_2 49 = .ok (.aload_n 1, 1) := dk_43 (dk_at dksX2_compareTo_2_2 3 rfl rfl)
theorem dX2_compareTo_2_50 : decode cX2_compareTo_2 50 = .ok (.iload_n 2, 1) := dk_28 (dk_at dksX2_compareTo_2_2 4 rfl rfl)
theorem dX2_compareTo_2_51 : decode cX2_compareTo_2 51 = .ok (.iload 4, 2) := dk_21 4 (dk_at dksX2_compareTo_2_2 5 rfl rfl)
theorem dX2_compareTo_2_53 : decode cX2_compareTo_2 53 = .ok (.invokevirtual 35, 3) := dk_182 0 35 (dk_at dksX2_compareTo_2_2 7 rfl rfl)
theorem dX2_compareTo_2_56 : decode cX2_compareTo_2 56 = .ok (.getfield 39, 3) := dk_180 0 39 (dk_at dksX2_compareTo_2_2 10 rfl rfl)
theorem dX2_compareTo_2_59 : decode cX2_compareTo_2 59 = .ok (.isub, 1) := dk_100 (dk_at dksX2_compareTo_2_2 13 rfl rfl)
theorem dX2_compareTo_2_60 : decode cX2_compareTo_2 60 = .ok (.istore_n 3, 1) := dk_62 (dk_at dksX2_compareTo_2_2 14 rfl rfl)
theorem dX2_compareTo_2_61 : decode cX2_compareTo_2 61 = .ok (.iinc 4 1, 3) := dk_132 4 1 (dk_at dksX2_compareTo_2_2 15 rfl rfl)
theorem dX2_compareTo_2_64 : decode cX2_compareTo_2 64 = .ok (.goto (-40), 3) := dk_167 255 216 (dk_at dksX2_compareTo_2_2 18 rfl rfl)
theorem dX2_compareTo_2_67 : decode cX2_compareTo_2 67 = .ok (.iload_n 3, 1) := dk_29 (dk_at dksX2_compareTo_2_2 21 rfl rfl)
theorem dX2_compareTo_2_68 : decode cX2_compareTo_2 68 = .ok (.ifCond .eq 9, 3) := dk_153 0 9 (dk_at dksX2_compareTo_2_3 0 rfl rfl)
theorem dX2_compareTo_2_71 : decode cX2_compareTo_2 71 = .ok (.sipush 1000, 3) := dk_17 3 232 (dk_at dksX2_compareTo_2_3 3 rfl rfl)
theorem dX2_compareTo_2_74 : decode cX2_compareTo_2 74 = .ok (.iload_n 3, 1) := dk_29 (dk_at dksX2_compareTo_2_3 6 rfl rfl)
theorem dX2_compareTo_2_75 : decode cX2_compareTo_2 75 = .ok (.imul, 1) := dk_104 (dk_at dksX2_compareTo_2_3 7 rfl rfl)
theorem dX2_compareTo_2_76 : decode cX2_compareTo_2 76 = .ok (.ireturn, 1) := dk_172 (dk_at dksX2_compareTo_2_3 8 rfl rfl)
theorem dX2_compareTo_2_77 : decode cX2_compareTo_2 77 = .ok (.iinc 2 1, 3) := dk_132 2 1 (dk_at dksX2_compareTo_2_3 9 rfl rfl)
theorem dX2_compareTo_2_80 : decode cX2_compareTo_2 80 = .ok (.goto (-78), 3) := dk_167 255 178 (dk_at dksX2_compareTo_2_3 12 rfl rfl)
theorem dX2_compareTo_2_83 : decode cX2_compareTo_2 83 = .ok (.iconst 0, 1) := dk_3 (dk_at dksX2_compareTo_2_3 15 rfl rfl)
theorem dX2_compareTo_2_84 : decode cX2_compareTo_2 84 = .ok (.ireturn, 1) := dk_172 (dk_at dksX2_compareTo_2_3 16 rfl rfl)
abbrev cX2_topOf : ByteArray := prog_7_method_13_code
def yX2_topOf : MethodName := ⟨RX2, "topOf", "(LQuaylock$Box;)I"⟩
def dkwX2_topOf_0 : List UInt8 := [42, 43, 182, 0, 50, 61, 42, 28, 182, 0, 43, 43, 166, 0, 7, 28, 167, 0, 4, 2, 172]
abbrev dktX2_topOf_0 : List UInt8 := dkwX2_topOf_0 ++ []
theorem dksX2_topOf_0 : cX2_topOf.data.toList.drop 0 = dktX2_topOf_0 := by decide +kernel
theorem dX2_topOf_0 : decode cX2_topOf 0 = .ok (.aload_n 0, 1) := dk_42 (dk_at dksX2_topOf_0 0 rfl rfl)
theorem dX2_topOf_1 : decode cX2_topOf 1 = .ok (.aload_n 1, 1) := dk_43 (dk_at dksX2_topOf_0 1 rfl rfl)
theorem dX2_topOf_2 : decode cX2_topOf 2 = .ok (.invokevirtual 50, 3) := dk_182 0 50 (dk_at dksX2_topOf_0 2 rfl rfl)
theorem dX2_topOf_5 : decode cX2_topOf 5 = .ok (.istore_n 2, 1) := dk_61 (dk_at dksX2_topOf_0 5 rfl rfl)
theorem dX2_topOf_6 : decode cX2_topOf 6 = .ok (.aload_n 0, 1) := dk_42 (dk_at dksX2_topOf_0 6 rfl rfl)
theorem dX2_topOf_7 : decode cX2_topOf 7 = .ok (.iload_n 2, 1) := dk_28 (dk_at dksX2_topOf_0 7 rfl rfl)
theorem dX2_topOf_8 : decode cX2_topOf 8 = .ok (.invokevirtual 43, 3) := dk_182 0 43 (dk_at dksX2_topOf_0 8 rfl rfl)
theorem dX2_topOf_11 : decode cX2_topOf 11 = .ok (.aload_n 1, 1) := dk_43 (dk_at dksX2_topOf_0 11 rfl rfl)
theorem dX2_topOf_12 : decode cX2_topOf 12 = .ok (.if_acmp .ne 7, 3) := dk_166 0 7 (dk_at dksX2_topOf_0 12 rfl rfl)
theorem dX2_topOf_15 : decode cX2_topOf 15 = .ok (.iload_n 2, 1) := dk_28 (dk_at dksX2_topOf_0 15 rfl rfl)
theorem dX2_topOf_16 : decode cX2_topOf 16 = .ok (.goto 4, 3) := dk_167 0 4 (dk_at dksX2_topOf_0 16 rfl rfl)
theorem dX2_topOf_19 : decode cX2_topOf 19 = .ok (.iconst (-1), 1) := dk_2 (dk_at dksX2_topOf_0 19 rfl rfl)
theorem dX2_topOf_20 : decode cX2_topOf 20 = .ok (.ireturn, 1) := dk_172 (dk_at dksX2_topOf_0 20 rfl rfl)
abbrev cX2_pop : ByteArray := prog_7_method_8_code
def yX2_pop : MethodName := ⟨RX2, "pop", "(I)LQuaylock$Box;"⟩
def dkwX2_pop_1 : List UInt8 := [180, 0, 11, 7, 27, 104, 42, 180, 0, 17, 27, 46, 96, 1, 83, 44, 176]
abbrev dktX2_pop_1 : List UInt8 := dkwX2_pop_1 ++ []
def dkwX2_pop_0 : List UInt8 := [42, 180, 0, 17, 27, 92, 46, 4, 100, 79, 42, 27, 42, 180, 0, 17, 27, 46, 182, 0, 35, 77, 42]
abbrev dktX2_pop_0 : List UInt8 := dkwX2_pop_0 ++ dktX2_pop_1
theorem dksX2_pop_0 : cX2_pop.data.toList.drop 0 = dktX2_pop_0 := by decide +kernel
theorem dksX2_pop_1 : cX2_pop.data.toList.drop 23 = dktX2_pop_1 := dk_seg dksX2_pop_0 23 rfl rfl
theorem dX2_pop_0 : decode cX2_pop 0 = .ok (.aload_n 0, 1) := dk_42 (dk_at dksX2_pop_0 0 rfl rfl)
theorem dX2_pop_1 : decode cX2_pop 1 = .ok (.getfield 17, 3) := dk_180 0 17 (dk_at dksX2_pop_0 1 rfl rfl)
theorem dX2_pop_4 : decode cX2_pop 4 = .ok (.iload_n 1, 1) := dk_27 (dk_at dksX2_pop_0 4 rfl rfl)
theorem dX2_pop_5 : decode cX2_pop 5 = .ok (.dup2, 1) := dk_92 (dk_at dksX2_pop_0 5 rfl rfl)
theorem dX2_pop_6 : decode cX2_pop 6 = .ok (.iaload, 1) := dk_46 (dk_at dksX2_pop_0 6 rfl rfl)
theorem dX2_pop_7 : decode cX2_pop 7 = .ok (.iconst 1, 1) := dk_4 (dk_at dksX2_pop_0 7 rfl rfl)
theorem dX2_pop_8 : decode cX2_pop 8 = .ok (.isub, 1) := dk_100 (dk_at dksX2_pop_0 8 rfl rfl)
theorem dX2_pop_9 : decode cX2_pop 9 = .ok (.iastore, 1) := dk_79 (dk_at dksX2_pop_0 9 rfl rfl)
theorem dX2_pop_10 : decode cX2_pop 10 = .ok (.aload_n 0, 1) := dk_42 (dk_at dksX2_pop_0 10 rfl rfl)
theorem dX2_pop_11 : decode cX2_pop 11 = .ok (.iload_n 1, 1) := dk_27 (dk_at dksX2_pop_0 11 rfl rfl)
theorem dX2_pop_12 : decode cX2_pop 12 = .ok (.aload_n 0, 1) := dk_42 (dk_at dksX2_pop_0 12 rfl rfl)
theorem dX2_pop_13 : decode cX2_pop 13 = .ok (.getfield 17, 3) := dk_180 0 17 (dk_at dksX2_pop_0 13 rfl rfl)
theorem dX2_pop_16 : decode cX2_pop 16 = .ok (.iload_n 1, 1) := dk_27 (dk_at dksX2_pop_0 16 rfl rfl)
theorem dX2_pop_17 : decode cX2_pop 17 = .ok (.iaload, 1) := dk_46 (dk_at dksX2_pop_0 17 rfl rfl)
theorem dX2_pop_18 : decode cX2_pop 18 = .ok (.invokevirtual 35, 3) := dk_182 0 35 (dk_at dksX2_pop_0 18 rfl rfl)
theorem dX2_pop_21 : decode cX2_pop 21 = .ok (.astore_n 2, 1) := dk_77 (dk_at dksX2_pop_0 21 rfl rfl)
theorem dX2_pop_22 : decode cX2_pop 22 = .ok (.aload_n 0, 1) := dk_42 (dk_at dksX2_pop_0 22 rfl rfl)
theorem dX2_pop_23 : decode cX2_pop 23 = .ok (.getfield 11, 3) := dk_180 0 11 (dk_at dksX2_pop_1 0 rfl rfl)
theorem dX2_pop_26 : decode cX2_pop 26 = .ok (.iconst 4, 1) := dk_7 (dk_at dksX2_pop_1 3 rfl rfl)
theorem dX2_pop_27 : decode cX2_pop 27 = .ok (.iload_n 1, 1) := dk_27 (dk_at dksX2_pop_1 4 rfl rfl)
theorem dX2_pop_28 : decode cX2_pop 28 = .ok (.imul, 1) := dk_104 (dk_at dksX2_pop_1 5 rfl rfl)
theorem dX2_pop_29 : decode cX2_pop 29 = .ok (.aload_n 0, 1) := dk_42 (dk_at dksX2_pop_1 6 rfl rfl)
theorem dX2_pop_30 : decode cX2_pop 30 = .ok (.getfield 17, 3) := dk_180 0 17 (dk_at dksX2_pop_1 7 rfl rfl)
theorem dX2_pop_33 : decode cX2_pop 33 = .ok (.iload_n 1, 1) := dk_27 (dk_at dksX2_pop_1 10 rfl rfl)
theorem dX2_pop_34 : decode cX2_pop 34 = .ok (.iaload, 1) := dk_46 (dk_at dksX2_pop_1 11 rfl rfl)
theorem dX2_pop_35 : decode cX2_pop 35 = .ok (.iadd, 1) := dk_96 (dk_at dksX2_pop_1 12 rfl rfl)
theorem dX2_pop_36 : decode cX2_pop 36 = .ok (.aconst_null, 1) := dk_1 (dk_at dksX2_pop_1 13 rfl rfl)
theorem dX2_pop_37 : decode cX2_pop 37 = .ok (.aastore, 1) := dk_83 (dk_at dksX2_pop_1 14 rfl rfl)
theorem dX2_pop_38 : decode cX2_pop 38 = .ok (.aload_n 2, 1) := dk_44 (dk_at dksX2_pop_1 15 rfl rfl)
theorem dX2_pop_39 : decode cX2_pop 39 = .ok (.areturn, 1) := dk_176 (dk_at dksX2_pop_1 16 rfl rfl)
abbrev cX2_copy : ByteArray := prog_7_method_3_code
def yX2_copy : MethodName := ⟨RX2, "copy", "()LQuaylock$Yard;"⟩
def dkwX2_copy_0 : List UInt8 := [187, 0, 12, 89, 42, 183, 0, 32, 176]
abbrev dktX2_copy_0 : List UInt8 := dkwX2_copy_0 ++ []
theorem dksX2_copy_0 : cX2_copy.data.toList.drop 0 = dktX2_copy_0 := by decide +kernel
theorem dX2_copy_0 : decode cX2_copy 0 = .ok (.new 12, 3) := dk_187 0 12 (dk_at dksX2_copy_0 0 rfl rfl)
theorem dX2_copy_3 : decode cX2_copy 3 = .ok (.dup, 1) := dk_89 (dk_at dksX2_copy_0 3 rfl rfl)
theorem dX2_copy_4 : decode cX2_copy 4 = .ok (.aload_n 0, 1) := dk_42 (dk_at dksX2_copy_0 4 rfl rfl)
theorem dX2_copy_5 : decode cX2_copy 5 = .ok (.invokespecial 32, 3) := dk_183 0 32 (dk_at dksX2_copy_0 5 rfl rfl)
theorem dX2_copy_8 : decode cX2_copy 8 = .ok (.areturn, 1) := dk_176 (dk_at dksX2_copy_0 8 rfl rfl)
abbrev cX2_init_2 : ByteArray := prog_7_method_2_code
def yX2_init_2 : MethodName := ⟨RX2, "<init>", "(LQuaylock$Yard;)V"⟩
def dkwX2_init_2_2 : List UInt8 := [181, 0, 17, 177]
abbrev dktX2_init_2_2 : List UInt8 := dkwX2_init_2_2 ++ []
def dkwX2_init_2_1 : List UInt8 := [180, 0, 11, 3, 42, 180, 0, 11, 190, 184, 0, 21, 42, 43, 180, 0, 17, 182, 0, 27, 192, 0, 28]
abbrev dktX2_init_2_1 : List UInt8 := dkwX2_init_2_1 ++ dktX2_init_2_2
def dkwX2_init_2_0 : List UInt8 := [42, 183, 0, 3, 42, 43, 180, 0, 11, 190, 189, 0, 9, 181, 0, 11, 43, 180, 0, 11, 3, 42]
abbrev dktX2_init_2_0 : List UInt8 := dkwX2_init_2_0 ++ dktX2_init_2_1
theorem dksX2_init_2_0 : cX2_init_2.data.toList.drop 0 = dktX2_init_2_0 := by decide +kernel
theorem dksX2_init_2_1 : cX2_init_2.data.toList.drop 22 = dktX2_init_2_1 := dk_seg dksX2_init_2_0 22 rfl rfl
theorem dksX2_init_2_2 : cX2_init_2.data.toList.drop 45 = dktX2_init_2_2 := dk_seg dksX2_init_2_1 23 rfl rfl
theorem dX2_init_2_0 : decode cX2_init_2 0 = .ok (.aload_n 0, 1) := dk_42 (dk_at dksX2_init_2_0 0 rfl rfl)
theorem dX2_init_2_1 : decode cX2_init_2 1 = .ok (.invokespecial 3, 3) := dk_183 0 3 (dk_at dksX2_init_2_0 1 rfl rfl)
theorem dX2_init_2_4 : decode cX2_init_2 4 = .ok (.aload_n 0, 1) := dk_42 (dk_at dksX2_init_2_0 4 rfl rfl)
theorem dX2_init_2_5 : decode cX2_init_2 5 = .ok (.aload_n 1, 1) := dk_43 (dk_at dksX2_init_2_0 5 rfl rfl)
theorem dX2_init_2_6 : decode cX2_init_2 6 = .ok (.getfield 11, 3) := dk_180 0 11 (dk_at dksX2_init_2_0 6 rfl rfl)
theorem dX2_init_2_9 : decode cX2_init_2 9 = .ok (.arraylength, 1) := dk_190 (dk_at dksX2_init_2_0 9 rfl rfl)
theorem dX2_init_2_10 : decode cX2_init_2 10 = .ok (.anewarray 9, 3) := dk_189 0 9 (dk_at dksX2_init_2_0 10 rfl rfl)
theorem dX2_init_2_13 : decode cX2_init_2 13 = .ok (.putfield 11, 3) := dk_181 0 11 (dk_at dksX2_init_2_0 13 rfl rfl)
theorem dX2_init_2_16 : decode cX2_init_2 16 = .ok (.aload_n 1, 1) := dk_43 (dk_at dksX2_init_2_0 16 rfl rfl)
theorem dX2_init_2_17 : decode cX2_init_2 17 = .ok (.getfield 11, 3) := dk_180 0 11 (dk_at dksX2_init_2_0 17 rfl rfl)
theorem dX2_init_2_20 : decode cX2_init_2 20 = .ok (.iconst 0, 1) := dk_3 (dk_at dksX2_init_2_0 20 rfl rfl)
theorem dX2_init_2_21 : decode cX2_init_2 21 = .ok (.aload_n 0, 1) := dk_42 (dk_at dksX2_init_2_0 21 rfl rfl)
theorem dX2_init_2_22 : decode cX2_init_2 22 = .ok (.getfield 11, 3) := dk_180 0 11 (dk_at dksX2_init_2_1 0 rfl rfl)
theorem dX2_init_2_25 : decode cX2_init_2 25 = .ok (.iconst 0, 1) := dk_3 (dk_at dksX2_init_2_1 3 rfl rfl)
theorem dX2_init_2_26 : decode cX2_init_2 26 = .ok (.aload_n 0, 1) := dk_42 (dk_at dksX2_init_2_1 4 rfl rfl)
theorem dX2_init_2_27 : decode cX2_init_2 27 = .ok (.getfield 11, 3) := dk_180 0 11 (dk_at dksX2_init_2_1 5 rfl rfl)
theorem dX2_init_2_30 : decode cX2_init_2 30 = .ok (.arraylength, 1) := dk_190 (dk_at dksX2_init_2_1 8 rfl rfl)
theorem dX2_init_2_31 : decode cX2_init_2 31 = .ok (.invokestatic 21, 3) := dk_184 0 21 (dk_at dksX2_init_2_1 9 rfl rfl)
theorem dX2_init_2_34 : decode cX2_init_2 34 = .ok (.aload_n 0, 1) := dk_42 (dk_at dksX2_init_2_1 12 rfl rfl)
theorem dX2_init_2_35 : decode cX2_init_2 35 = .ok (.aload_n 1, 1) := dk_43 (dk_at dksX2_init_2_1 13 rfl rfl)
theorem dX2_init_2_36 : decode cX2_init_2 36 = .ok (.getfield 17, 3) := dk_180 0 17 (dk_at dksX2_init_2_1 14 rfl rfl)
theorem dX2_init_2_39 : decode cX2_init_2 39 = .ok (.invokevirtual 27, 3) := dk_182 0 27 (dk_at dksX2_init_2_1 17 rfl rfl)
theorem dX2_init_2_42 : decode cX2_init_2 42 = .ok (.checkcast 28, 3) := dk_192 0 28 (dk_at dksX2_init_2_1 20 rfl rfl)
theorem dX2_init_2_45 : decode cX2_init_2 45 = .ok (.putfield 17, 3) := dk_181 0 17 (dk_at dksX2_init_2_2 0 rfl rfl)
theorem dX2_init_2_48 : decode cX2_init_2 48 = .ok (.return_, 1) := dk_177 (dk_at dksX2_init_2_2 3 rfl rfl)
theorem q59 : (Jvm.Cond.initialized "Quaylock$Yard") ∈ lw_all := lw_g (lw_at lw_m1 2 rfl) rfl
theorem q106 : (Jvm.Cond.instantiable "Quaylock$Yard" (2 : Nat)) ∈ lw_all := lw_g (lw_at lw_m1 49 rfl) rfl
theorem q108 : (Jvm.Cond.instanceMethod ({ cls := "Quaylock$Yard", name := "<init>", desc := "()V" } : Jvm.MethodName)) ∈ lw_all := lw_g (lw_at lw_m1 51 rfl) rfl
theorem q109 : (Jvm.Cond.code ({ cls := "Quaylock$Yard", name := "<init>", desc := "()V" } : Jvm.MethodName) prog_7_method_1_code (1 : Nat) (Option.none : Option Jvm.ClassFile.FieldType)) ∈ lw_all := lw_g (lw_at lw_m1 52 rfl) rfl
theorem q110 : (Jvm.Cond.methodLink "Quaylock$Yard" (3 : Nat) ({ cls := "java/lang/Object", name := "<init>", desc := "()V" } : Jvm.MethodName)) ∈ lw_all := lw_g (lw_at lw_m1 53 rfl) rfl
theorem q111 : (Jvm.Cond.classLink "Quaylock$Yard" (9 : Nat) "Quaylock$Box") ∈ lw_all := lw_g (lw_at lw_m1 54 rfl) rfl
theorem q113 : (Jvm.Cond.fieldLink "Quaylock$Yard" (11 : Nat) "Quaylock$Yard" "boxes" "[LQuaylock$Box;") ∈ lw_all := lw_g (lw_at lw_m1 56 rfl) rfl
theorem q114 : (Jvm.Cond.fieldLink "Quaylock$Yard" (17 : Nat) "Quaylock$Yard" "heights" "[I") ∈ lw_all := lw_g (lw_at lw_m1 57 rfl) rfl
theorem q116 : (Jvm.Cond.laysFinal "Quaylock$Yard" "Quaylock$Yard" "boxes" "[LQuaylock$Box;") ∈ lw_all := lw_g (lw_at lw_m1 59 rfl) rfl
theorem q117 : (Jvm.Cond.soleField "Quaylock$Yard" "boxes") ∈ lw_all := lw_g (lw_at lw_m1 60 rfl) rfl
theorem q118 : (Jvm.Cond.laysFinal "Quaylock$Yard" "Quaylock$Yard" "heights" "[I") ∈ lw_all := lw_g (lw_at lw_m1 61 rfl) rfl
theorem q119 : (Jvm.Cond.soleField "Quaylock$Yard" "heights") ∈ lw_all := lw_g (lw_at lw_m1 62 rfl) rfl
theorem q120 : (Jvm.Cond.superclass "Quaylock$Yard" "java/lang/Object") ∈ lw_all := lw_g (lw_at lw_m1 63 rfl) rfl
theorem q412 : (Jvm.Cond.fieldLinkNest "Quaylock$Yard" (39 : Nat) "Quaylock$Box" "number" "I" "Quaylock") ∈ lw_tbl := lw_at lw_m2 115 rfl
theorem q415 : (Jvm.Cond.fieldLinkNest "Quaylock$Yard" (47 : Nat) "Quaylock$Box" "weight" "I" "Quaylock") ∈ lw_tbl := lw_at lw_m2 118 rfl
theorem q431 : (Jvm.Cond.instanceMethod ({ cls := "Quaylock$Yard", name := "takes", desc := "(IILQuaylock$Box;)Z" } : Jvm.MethodName)) ∈ lw_all := lw_g (lw_at lw_m2 134 rfl) rfl
theorem q432 : (Jvm.Cond.selects "Quaylock$Yard" ({ cls := "Quaylock$Yard", name := "takes", desc := "(IILQuaylock$Box;)Z" } : Jvm.MethodName) ({ cls := "Quaylock$Yard", name := "takes", desc := "(IILQuaylock$Box;)Z" } : Jvm.MethodName)) ∈ lw_all := lw_g (lw_at lw_m2 135 rfl) rfl
theorem q433 : (Jvm.Cond.code ({ cls := "Quaylock$Yard", name := "takes", desc := "(IILQuaylock$Box;)Z" } : Jvm.MethodName) prog_7_method_9_code (5 : Nat) (Option.some Jvm.ClassFile.FieldType.boolean)) ∈ lw_all := lw_g (lw_at lw_m2 136 rfl) rfl
theorem q434 : (Jvm.Cond.methodLink "Quaylock$Yard" (43 : Nat) ({ cls := "Quaylock$Yard", name := "top", desc := "(I)LQuaylock$Box;" } : Jvm.MethodName)) ∈ lw_all := lw_g (lw_at lw_m2 137 rfl) rfl
theorem q435 : (Jvm.Cond.instanceMethod ({ cls := "Quaylock$Yard", name := "top", desc := "(I)LQuaylock$Box;" } : Jvm.MethodName)) ∈ lw_all := lw_g (lw_at lw_m2 138 rfl) rfl
theorem q436 : (Jvm.Cond.selects "Quaylock$Yard" ({ cls := "Quaylock$Yard", name := "top", desc := "(I)LQuaylock$Box;" } : Jvm.MethodName) ({ cls := "Quaylock$Yard", name := "top", desc := "(I)LQuaylock$Box;" } : Jvm.MethodName)) ∈ lw_all := lw_g (lw_at lw_m2 139 rfl) rfl
theorem q437 : (Jvm.Cond.code ({ cls := "Quaylock$Yard", name := "top", desc := "(I)LQuaylock$Box;" } : Jvm.MethodName) prog_7_method_6_code (2 : Nat) (Option.some (Jvm.ClassFile.FieldType.object "Quaylock$Box"))) ∈ lw_all := lw_g (lw_at lw_m2 140 rfl) rfl
theorem q438 : (Jvm.Cond.methodLink "Quaylock$Yard" (35 : Nat) ({ cls := "Quaylock$Yard", name := "at", desc := "(II)LQuaylock$Box;" } : Jvm.MethodName)) ∈ lw_all := lw_g (lw_at lw_m2 141 rfl) rfl
theorem q439 : (Jvm.Cond.instanceMethod ({ cls := "Quaylock$Yard", name := "at", desc := "(II)LQuaylock$Box;" } : Jvm.MethodName)) ∈ lw_all := lw_g (lw_at lw_m2 142 rfl) rfl
theorem q440 : (Jvm.Cond.selects "Quaylock$Yard" ({ cls := "Quaylock$Yard", name := "at", desc := "(II)LQuaylock$Box;" } : Jvm.MethodName) ({ cls := "Quaylock$Yard", name := "at", desc := "(II)LQuaylock$Box;" } : Jvm.MethodName)) ∈ lw_all := lw_g (lw_at lw_m2 143 rfl) rfl
theorem q441 : (Jvm.Cond.code ({ cls := "Quaylock$Yard", name := "at", desc := "(II)LQuaylock$Box;" } : Jvm.MethodName) prog_7_method_4_code (3 : Nat) (Option.some (Jvm.ClassFile.FieldType.object "Quaylock$Box"))) ∈ lw_all := lw_g (lw_at lw_m2 144 rfl) rfl
theorem q461 : (Jvm.Cond.instanceMethod ({ cls := "Quaylock$Yard", name := "push", desc := "(ILQuaylock$Box;)V" } : Jvm.MethodName)) ∈ lw_all := lw_g (lw_at lw_m2 164 rfl) rfl
theorem q462 : (Jvm.Cond.selects "Quaylock$Yard" ({ cls := "Quaylock$Yard", name := "push", desc := "(ILQuaylock$Box;)V" } : Jvm.MethodName) ({ cls := "Quaylock$Yard", name := "push", desc := "(ILQuaylock$Box;)V" } : Jvm.MethodName)) ∈ lw_all := lw_g (lw_at lw_m2 165 rfl) rfl
theorem q463 : (Jvm.Cond.code ({ cls := "Quaylock$Yard", name := "push", desc := "(ILQuaylock$Box;)V" } : Jvm.MethodName) prog_7_method_7_code (3 : Nat) (Option.none : Option Jvm.ClassFile.FieldType)) ∈ lw_all := lw_g (lw_at lw_m2 166 rfl) rfl
theorem q483 : (Jvm.Cond.instanceMethod ({ cls := "Quaylock$Yard", name := "stackOf", desc := "(LQuaylock$Box;)I" } : Jvm.MethodName)) ∈ lw_all := lw_g (lw_at lw_m2 186 rfl) rfl
theorem q484 : (Jvm.Cond.selects "Quaylock$Yard" ({ cls := "Quaylock$Yard", name := "stackOf", desc := "(LQuaylock$Box;)I" } : Jvm.MethodName) ({ cls := "Quaylock$Yard", name := "stackOf", desc := "(LQuaylock$Box;)I" } : Jvm.MethodName)) ∈ lw_all := lw_g (lw_at lw_m2 187 rfl) rfl
theorem q485 : (Jvm.Cond.code ({ cls := "Quaylock$Yard", name := "stackOf", desc := "(LQuaylock$Box;)I" } : Jvm.MethodName) prog_7_method_10_code (5 : Nat) (Option.some Jvm.ClassFile.FieldType.int)) ∈ lw_all := lw_g (lw_at lw_m2 188 rfl) rfl
theorem q494 : (Jvm.Cond.instanceMethod ({ cls := "Quaylock$Yard", name := "levelOf", desc := "(LQuaylock$Box;)I" } : Jvm.MethodName)) ∈ lw_all := lw_g (lw_at lw_m2 197 rfl) rfl
theorem q495 : (Jvm.Cond.selects "Quaylock$Yard" ({ cls := "Quaylock$Yard", name := "levelOf", desc := "(LQuaylock$Box;)I" } : Jvm.MethodName) ({ cls := "Quaylock$Yard", name := "levelOf", desc := "(LQuaylock$Box;)I" } : Jvm.MethodName)) ∈ lw_all := lw_g (lw_at lw_m2 198 rfl) rfl
theorem q496 : (Jvm.Cond.code ({ cls := "Quaylock$Yard", name := "levelOf", desc := "(LQuaylock$Box;)I" } : Jvm.MethodName) prog_7_method_11_code (4 : Nat) (Option.some Jvm.ClassFile.FieldType.int)) ∈ lw_all := lw_g (lw_at lw_m2 199 rfl) rfl
theorem q497 : (Jvm.Cond.methodLink "Quaylock$Yard" (50 : Nat) ({ cls := "Quaylock$Yard", name := "stackOf", desc := "(LQuaylock$Box;)I" } : Jvm.MethodName)) ∈ lw_all := lw_g (lw_at lw_m2 200 rfl) rfl
theorem q506 : (Jvm.Cond.instanceMethod ({ cls := "Quaylock$Yard", name := "above", desc := "(LQuaylock$Box;)I" } : Jvm.MethodName)) ∈ lw_all := lw_g (lw_at lw_m2 209 rfl) rfl
theorem q507 : (Jvm.Cond.selects "Quaylock$Yard" ({ cls := "Quaylock$Yard", name := "above", desc := "(LQuaylock$Box;)I" } : Jvm.MethodName) ({ cls := "Quaylock$Yard", name := "above", desc := "(LQuaylock$Box;)I" } : Jvm.MethodName)) ∈ lw_all := lw_g (lw_at lw_m2 210 rfl) rfl
theorem q508 : (Jvm.Cond.code ({ cls := "Quaylock$Yard", name := "above", desc := "(LQuaylock$Box;)I" } : Jvm.MethodName) prog_7_method_12_code (2 : Nat) (Option.some Jvm.ClassFile.FieldType.int)) ∈ lw_all := lw_g (lw_at lw_m2 211 rfl) rfl
theorem q509 : (Jvm.Cond.methodLink "Quaylock$Yard" (54 : Nat) ({ cls := "Quaylock$Yard", name := "levelOf", desc := "(LQuaylock$Box;)I" } : Jvm.MethodName)) ∈ lw_all := lw_g (lw_at lw_m2 212 rfl) rfl
theorem q667 : (Jvm.Cond.castable "Quaylock$Yard" "java/lang/Comparable") ∈ lw_tbl := lw_at lw_m3 130 rfl
theorem q668 : (Jvm.Cond.selects "Quaylock$Yard" ({ cls := "java/lang/Comparable", name := "compareTo", desc := "(Ljava/lang/Object;)I" } : Jvm.MethodName) ({ cls := "Quaylock$Yard", name := "compareTo", desc := "(Ljava/lang/Object;)I" } : Jvm.MethodName)) ∈ lw_all := lw_g (lw_at lw_m3 131 rfl) rfl
theorem q669 : (Jvm.Cond.unhidden "Quaylock$Yard" "compareTo" "(Ljava/lang/Object;)I") ∈ lw_tbl := lw_at lw_m3 132 rfl
theorem q670 : (Jvm.Cond.instanceMethod ({ cls := "Quaylock$Yard", name := "compareTo", desc := "(Ljava/lang/Object;)I" } : Jvm.MethodName)) ∈ lw_all := lw_g (lw_at lw_m3 133 rfl) rfl
theorem q671 : (Jvm.Cond.publicMethod ({ cls := "Quaylock$Yard", name := "compareTo", desc := "(Ljava/lang/Object;)I" } : Jvm.MethodName)) ∈ lw_tbl := lw_at lw_m3 134 rfl
theorem q672 : (Jvm.Cond.code ({ cls := "Quaylock$Yard", name := "compareTo", desc := "(Ljava/lang/Object;)I" } : Jvm.MethodName) prog_7_method_14_code (2 : Nat) (Option.some Jvm.ClassFile.FieldType.int)) ∈ lw_all := lw_g (lw_at lw_m3 135 rfl) rfl
theorem q673 : (Jvm.Cond.classLink "Quaylock$Yard" (12 : Nat) "Quaylock$Yard") ∈ lw_all := lw_g (lw_at lw_m3 136 rfl) rfl
theorem q674 : (Jvm.Cond.methodLink "Quaylock$Yard" (57 : Nat) ({ cls := "Quaylock$Yard", name := "compareTo", desc := "(LQuaylock$Yard;)I" } : Jvm.MethodName)) ∈ lw_all := lw_g (lw_at lw_m3 137 rfl) rfl
theorem q675 : (Jvm.Cond.instanceMethod ({ cls := "Quaylock$Yard", name := "compareTo", desc := "(LQuaylock$Yard;)I" } : Jvm.MethodName)) ∈ lw_all := lw_g (lw_at lw_m3 138 rfl) rfl
theorem q676 : (Jvm.Cond.selects "Quaylock$Yard" ({ cls := "Quaylock$Yard", name := "compareTo", desc := "(LQuaylock$Yard;)I" } : Jvm.MethodName) ({ cls := "Quaylock$Yard", name := "compareTo", desc := "(LQuaylock$Yard;)I" } : Jvm.MethodName)) ∈ lw_all := lw_g (lw_at lw_m3 139 rfl) rfl
theorem q677 : (Jvm.Cond.code ({ cls := "Quaylock$Yard", name := "compareTo", desc := "(LQuaylock$Yard;)I" } : Jvm.MethodName) prog_7_method_5_code (5 : Nat) (Option.some Jvm.ClassFile.FieldType.int)) ∈ lw_all := lw_g (lw_at lw_m3 140 rfl) rfl
theorem q770 : (Jvm.Cond.instanceMethod ({ cls := "Quaylock$Yard", name := "topOf", desc := "(LQuaylock$Box;)I" } : Jvm.MethodName)) ∈ lw_all := lw_g (lw_at lw_m3 233 rfl) rfl
theorem q771 : (Jvm.Cond.selects "Quaylock$Yard" ({ cls := "Quaylock$Yard", name := "topOf", desc := "(LQuaylock$Box;)I" } : Jvm.MethodName) ({ cls := "Quaylock$Yard", name := "topOf", desc := "(LQuaylock$Box;)I" } : Jvm.MethodName)) ∈ lw_all := lw_g (lw_at lw_m3 234 rfl) rfl
theorem q772 : (Jvm.Cond.code ({ cls := "Quaylock$Yard", name := "topOf", desc := "(LQuaylock$Box;)I" } : Jvm.MethodName) prog_7_method_13_code (3 : Nat) (Option.some Jvm.ClassFile.FieldType.int)) ∈ lw_all := lw_g (lw_at lw_m3 235 rfl) rfl
theorem q785 : (Jvm.Cond.instanceMethod ({ cls := "Quaylock$Yard", name := "pop", desc := "(I)LQuaylock$Box;" } : Jvm.MethodName)) ∈ lw_all := lw_g (lw_at lw_m4 8 rfl) rfl
theorem q786 : (Jvm.Cond.selects "Quaylock$Yard" ({ cls := "Quaylock$Yard", name := "pop", desc := "(I)LQuaylock$Box;" } : Jvm.MethodName) ({ cls := "Quaylock$Yard", name := "pop", desc := "(I)LQuaylock$Box;" } : Jvm.MethodName)) ∈ lw_all := lw_g (lw_at lw_m4 9 rfl) rfl
theorem q787 : (Jvm.Cond.code ({ cls := "Quaylock$Yard", name := "pop", desc := "(I)LQuaylock$Box;" } : Jvm.MethodName) prog_7_method_8_code (3 : Nat) (Option.some (Jvm.ClassFile.FieldType.object "Quaylock$Box"))) ∈ lw_all := lw_g (lw_at lw_m4 10 rfl) rfl
theorem q898 : (Jvm.Cond.selects "Quaylock$Yard" ({ cls := "java/lang/Object", name := "getClass", desc := "()Ljava/lang/Class;" } : Jvm.MethodName) ({ cls := "java/lang/Object", name := "getClass", desc := "()Ljava/lang/Class;" } : Jvm.MethodName)) ∈ lw_all := lw_g (lw_at lw_m4 121 rfl) rfl
theorem q1068 : (Jvm.Cond.instanceMethod ({ cls := "Quaylock$Yard", name := "copy", desc := "()LQuaylock$Yard;" } : Jvm.MethodName)) ∈ lw_all := lw_g (lw_at lw_m5 51 rfl) rfl
theorem q1069 : (Jvm.Cond.selects "Quaylock$Yard" ({ cls := "Quaylock$Yard", name := "copy", desc := "()LQuaylock$Yard;" } : Jvm.MethodName) ({ cls := "Quaylock$Yard", name := "copy", desc := "()LQuaylock$Yard;" } : Jvm.MethodName)) ∈ lw_all := lw_g (lw_at lw_m5 52 rfl) rfl
theorem q1070 : (Jvm.Cond.code ({ cls := "Quaylock$Yard", name := "copy", desc := "()LQuaylock$Yard;" } : Jvm.MethodName) prog_7_method_3_code (1 : Nat) (Option.some (Jvm.ClassFile.FieldType.object "Quaylock$Yard"))) ∈ lw_all := lw_g (lw_at lw_m5 53 rfl) rfl
theorem q1071 : (Jvm.Cond.methodLink "Quaylock$Yard" (32 : Nat) ({ cls := "Quaylock$Yard", name := "<init>", desc := "(LQuaylock$Yard;)V" } : Jvm.MethodName)) ∈ lw_all := lw_g (lw_at lw_m5 54 rfl) rfl
theorem q1072 : (Jvm.Cond.instanceMethod ({ cls := "Quaylock$Yard", name := "<init>", desc := "(LQuaylock$Yard;)V" } : Jvm.MethodName)) ∈ lw_all := lw_g (lw_at lw_m5 55 rfl) rfl
theorem q1073 : (Jvm.Cond.code ({ cls := "Quaylock$Yard", name := "<init>", desc := "(LQuaylock$Yard;)V" } : Jvm.MethodName) prog_7_method_2_code (2 : Nat) (Option.none : Option Jvm.ClassFile.FieldType)) ∈ lw_all := lw_g (lw_at lw_m5 56 rfl) rfl
theorem q1074 : (Jvm.Cond.methodLink "Quaylock$Yard" (21 : Nat) ({ cls := "java/lang/System", name := "arraycopy", desc := "(Ljava/lang/Object;ILjava/lang/Object;II)V" } : Jvm.MethodName)) ∈ lw_all := lw_g (lw_at lw_m5 57 rfl) rfl
theorem q1075 : (Jvm.Cond.methodLink "Quaylock$Yard" (27 : Nat) ({ cls := "[I", name := "clone", desc := "()Ljava/lang/Object;" } : Jvm.MethodName)) ∈ lw_all := lw_g (lw_at lw_m5 58 rfl) rfl
theorem q1081 : (Jvm.Cond.classLink "Quaylock$Yard" (28 : Nat) "[I") ∈ lw_all := lw_g (lw_at lw_m5 64 rfl) rfl
theorem q1700 : (Jvm.Cond.castable "Quaylock$Yard" "java/lang/Object") ∈ lw_tbl := lw_at lw_m7 203 rfl
theorem in_X2 : ∀ w ∈ wsX20, w ∈ lw_all := lw_in wsX20 [116, 118] (by decide +kernel) (by decide +kernel)
/-! Quaylock$Box -/
set_option maxRecDepth 100000
def RX4 : String := "Quaylock$Box"
def TX4 : u_T := fun k => match k with
  | 0 => ("Quaylock$Box", "number", "I", true)
  | 1 => ("Quaylock$Box", "weight", "I", true)
  | 2 => ("Quaylock$Box", "hold", "C", false)
  | _ => ("Quaylock$Box", "until", "I", false)
def tyX4 : Nat → FieldType := fun k => match k with
  | 0 => .int
  | 1 => .int
  | 2 => .char
  | _ => .int
abbrev wsX40 : List Cond := u_ws RX4 TX4 4
theorem nmX4 : ∀ a, a < 4 → ∀ b, b < 4 → a ≠ b → (TX4 a).2.1 ≠ (TX4 b).2.1 := by decide +kernel
theorem tyX4_ok : ∀ k, k < 4 → parseFieldDescriptor (TX4 k).2.2.1 = some (tyX4 k) := by decide +kernel
abbrev cX4_init : ByteArray := prog_3_method_1_code
def yX4_init : MethodName := ⟨RX4, "<init>", "(II)V"⟩
def dkwX4_init_0 : List UInt8 := [42, 183, 0, 1, 42, 16, 45, 181, 0, 7, 42, 27, 181, 0, 13, 42, 28, 181, 0, 17, 177]
abbrev dktX4_init_0 : List UInt8 := dkwX4_init_0 ++ []
theorem dksX4_init_0 : cX4_init.data.toList.drop 0 = dktX4_init_0 := by decide +kernel
theorem dX4_init_0 : decode cX4_init 0 = .ok (.aload_n 0, 1) := dk_42 (dk_at dksX4_init_0 0 rfl rfl)
theorem dX4_init_1 : decode cX4_init 1 = .ok (.invokespecial 1, 3) := dk_183 0 1 (dk_at dksX4_init_0 1 rfl rfl)
theorem dX4_init_4 : decode cX4_init 4 = .ok (.aload_n 0, 1) := dk_42 (dk_at dksX4_init_0 4 rfl rfl)
theorem dX4_init_5 : decode cX4_init 5 = .ok (.bipush 45, 2) := dk_16 45 (dk_at dksX4_init_0 5 rfl rfl)
theorem dX4_init_7 : decode cX4_init 7 = .ok (.putfield 7, 3) := dk_181 0 7 (dk_at dksX4_init_0 7 rfl rfl)
theorem dX4_init_10 : decode cX4_init 10 = .ok (.aload_n 0, 1) := dk_42 (dk_at dksX4_init_0 10 rfl rfl)
theorem dX4_init_11 : decode cX4_init 11 = .ok (.iload_n 1, 1) := dk_27 (dk_at dksX4_init_0 11 rfl rfl)
theorem dX4_init_12 : decode cX4_init 12 = .ok (.putfield 13, 3) := dk_181 0 13 (dk_at dksX4_init_0 12 rfl rfl)
theorem dX4_init_15 : decode cX4_init 15 = .ok (.aload_n 0, 1) := dk_42 (dk_at dksX4_init_0 15 rfl rfl)
theorem dX4_init_16 : decode cX4_init 16 = .ok (.iload_n 2, 1) := dk_28 (dk_at dksX4_init_0 16 rfl rfl)
theorem dX4_init_17 : decode cX4_init 17 = .ok (.putfield 17, 3) := dk_181 0 17 (dk_at dksX4_init_0 17 rfl rfl)
theorem dX4_init_20 : decode cX4_init 20 = .ok (.return_, 1) := dk_177 (dk_at dksX4_init_0 20 rfl rfl)
abbrev cX4_isHeldAt : ByteArray := prog_3_method_2_code
def yX4_isHeldAt : MethodName := ⟨RX4, "isHeldAt", "(I)Z"⟩
def dkwX4_isHeldAt_0 : List UInt8 := [42, 180, 0, 7, 16, 45, 159, 0, 15, 27, 42, 180, 0, 20, 162, 0, 7, 4, 167, 0, 4, 3, 172]
abbrev dktX4_isHeldAt_0 : List UInt8 := dkwX4_isHeldAt_0 ++ []
theorem dksX4_isHeldAt_0 : cX4_isHeldAt.data.toList.drop 0 = dktX4_isHeldAt_0 := by decide +kernel
theorem dX4_isHeldAt_0 : decode cX4_isHeldAt 0 = .ok (.aload_n 0, 1) := dk_42 (dk_at dksX4_isHeldAt_0 0 rfl rfl)
theorem dX4_isHeldAt_1 : decode cX4_isHeldAt 1 = .ok (.getfield 7, 3) := dk_180 0 7 (dk_at dksX4_isHeldAt_0 1 rfl rfl)
theorem dX4_isHeldAt_4 : decode cX4_isHeldAt 4 = .ok (.bipush 45, 2) := dk_16 45 (dk_at dksX4_isHeldAt_0 4 rfl rfl)
theorem dX4_isHeldAt_6 : decode cX4_isHeldAt 6 = .ok (.if_icmp .eq 15, 3) := dk_159 0 15 (dk_at dksX4_isHeldAt_0 6 rfl rfl)
theorem dX4_isHeldAt_9 : decode cX4_isHeldAt 9 = .ok (.iload_n 1, 1) := dk_27 (dk_at dksX4_isHeldAt_0 9 rfl rfl)
theorem dX4_isHeldAt_10 : decode cX4_isHeldAt 10 = .ok (.aload_n 0, 1) := dk_42 (dk_at dksX4_isHeldAt_0 10 rfl rfl)
theorem dX4_isHeldAt_11 : decode cX4_isHeldAt 11 = .ok (.getfield 20, 3) := dk_180 0 20 (dk_at dksX4_isHeldAt_0 11 rfl rfl)
theorem dX4_isHeldAt_14 : decode cX4_isHeldAt 14 = .ok (.if_icmp .ge 7, 3) := dk_162 0 7 (dk_at dksX4_isHeldAt_0 14 rfl rfl)
theorem dX4_isHeldAt_17 : decode cX4_isHeldAt 17 = .ok (.iconst 1, 1) := dk_4 (dk_at dksX4_isHeldAt_0 17 rfl rfl)
theorem dX4_isHeldAt_18 : decode cX4_isHeldAt 18 = .ok (.goto 4, 3) := dk_167 0 4 (dk_at dksX4_isHeldAt_0 18 rfl rfl)
theorem dX4_isHeldAt_21 : decode cX4_isHeldAt 21 = .ok (.iconst 0, 1) := dk_3 (dk_at dksX4_isHeldAt_0 21 rfl rfl)
theorem dX4_isHeldAt_22 : decode cX4_isHeldAt 22 = .ok (.ireturn, 1) := dk_172 (dk_at dksX4_isHeldAt_0 22 rfl rfl)
abbrev cX4_isPinned : ByteArray := prog_3_method_3_code
def yX4_isPinned : MethodName := ⟨RX4, "isPinned", "()Z"⟩
def dkwX4_isPinned_0 : List UInt8 := [42, 180, 0, 7, 16, 112, 160, 0, 7, 4, 167, 0, 4, 3, 172]
abbrev dktX4_isPinned_0 : List UInt8 := dkwX4_isPinned_0 ++ []
theorem dksX4_isPinned_0 : cX4_isPinned.data.toList.drop 0 = dktX4_isPinned_0 := by decide +kernel
theorem dX4_isPinned_0 : decode cX4_isPinned 0 = .ok (.aload_n 0, 1) := dk_42 (dk_at dksX4_isPinned_0 0 rfl rfl)
theorem dX4_isPinned_1 : decode cX4_isPinned 1 = .ok (.getfield 7, 3) := dk_180 0 7 (dk_at dksX4_isPinned_0 1 rfl rfl)
theorem dX4_isPinned_4 : decode cX4_isPinned 4 = .ok (.bipush 112, 2) := dk_16 112 (dk_at dksX4_isPinned_0 4 rfl rfl)
theorem dX4_isPinned_6 : decode cX4_isPinned 6 = .ok (.if_icmp .ne 7, 3) := dk_160 0 7 (dk_at dksX4_isPinned_0 6 rfl rfl)
theorem dX4_isPinned_9 : decode cX4_isPinned 9 = .ok (.iconst 1, 1) := dk_4 (dk_at dksX4_isPinned_0 9 rfl rfl)
theorem dX4_isPinned_10 : decode cX4_isPinned 10 = .ok (.goto 4, 3) := dk_167 0 4 (dk_at dksX4_isPinned_0 10 rfl rfl)
theorem dX4_isPinned_13 : decode cX4_isPinned 13 = .ok (.iconst 0, 1) := dk_3 (dk_at dksX4_isPinned_0 13 rfl rfl)
theorem dX4_isPinned_14 : decode cX4_isPinned 14 = .ok (.ireturn, 1) := dk_172 (dk_at dksX4_isPinned_0 14 rfl rfl)
theorem q74 : (Jvm.Cond.initialized "Quaylock$Box") ∈ lw_all := lw_g (lw_at lw_m1 17 rfl) rfl
theorem q406 : (Jvm.Cond.instantiable "Quaylock$Box" (4 : Nat)) ∈ lw_all := lw_g (lw_at lw_m2 109 rfl) rfl
theorem q408 : (Jvm.Cond.instanceMethod ({ cls := "Quaylock$Box", name := "<init>", desc := "(II)V" } : Jvm.MethodName)) ∈ lw_all := lw_g (lw_at lw_m2 111 rfl) rfl
theorem q409 : (Jvm.Cond.code ({ cls := "Quaylock$Box", name := "<init>", desc := "(II)V" } : Jvm.MethodName) prog_3_method_1_code (3 : Nat) (Option.none : Option Jvm.ClassFile.FieldType)) ∈ lw_all := lw_g (lw_at lw_m2 112 rfl) rfl
theorem q410 : (Jvm.Cond.methodLink "Quaylock$Box" (1 : Nat) ({ cls := "java/lang/Object", name := "<init>", desc := "()V" } : Jvm.MethodName)) ∈ lw_all := lw_g (lw_at lw_m2 113 rfl) rfl
theorem q411 : (Jvm.Cond.fieldLink "Quaylock$Box" (13 : Nat) "Quaylock$Box" "number" "I") ∈ lw_all := lw_g (lw_at lw_m2 114 rfl) rfl
theorem q414 : (Jvm.Cond.fieldLink "Quaylock$Box" (17 : Nat) "Quaylock$Box" "weight" "I") ∈ lw_all := lw_g (lw_at lw_m2 117 rfl) rfl
theorem q417 : (Jvm.Cond.fieldLink "Quaylock$Box" (7 : Nat) "Quaylock$Box" "hold" "C") ∈ lw_all := lw_g (lw_at lw_m2 120 rfl) rfl
theorem q419 : (Jvm.Cond.fieldLink "Quaylock$Box" (20 : Nat) "Quaylock$Box" "until" "I") ∈ lw_all := lw_g (lw_at lw_m2 122 rfl) rfl
theorem q421 : (Jvm.Cond.laysFinal "Quaylock$Box" "Quaylock$Box" "number" "I") ∈ lw_all := lw_g (lw_at lw_m2 124 rfl) rfl
theorem q422 : (Jvm.Cond.soleField "Quaylock$Box" "number") ∈ lw_all := lw_g (lw_at lw_m2 125 rfl) rfl
theorem q423 : (Jvm.Cond.laysFinal "Quaylock$Box" "Quaylock$Box" "weight" "I") ∈ lw_all := lw_g (lw_at lw_m2 126 rfl) rfl
theorem q424 : (Jvm.Cond.soleField "Quaylock$Box" "weight") ∈ lw_all := lw_g (lw_at lw_m2 127 rfl) rfl
theorem q425 : (Jvm.Cond.lays "Quaylock$Box" "Quaylock$Box" "hold" "C") ∈ lw_all := lw_g (lw_at lw_m2 128 rfl) rfl
theorem q426 : (Jvm.Cond.soleField "Quaylock$Box" "hold") ∈ lw_all := lw_g (lw_at lw_m2 129 rfl) rfl
theorem q427 : (Jvm.Cond.lays "Quaylock$Box" "Quaylock$Box" "until" "I") ∈ lw_all := lw_g (lw_at lw_m2 130 rfl) rfl
theorem q428 : (Jvm.Cond.soleField "Quaylock$Box" "until") ∈ lw_all := lw_g (lw_at lw_m2 131 rfl) rfl
theorem q429 : (Jvm.Cond.superclass "Quaylock$Box" "java/lang/Object") ∈ lw_all := lw_g (lw_at lw_m2 132 rfl) rfl
theorem q611 : (Jvm.Cond.instanceMethod ({ cls := "Quaylock$Box", name := "isHeldAt", desc := "(I)Z" } : Jvm.MethodName)) ∈ lw_all := lw_g (lw_at lw_m3 74 rfl) rfl
theorem q612 : (Jvm.Cond.selects "Quaylock$Box" ({ cls := "Quaylock$Box", name := "isHeldAt", desc := "(I)Z" } : Jvm.MethodName) ({ cls := "Quaylock$Box", name := "isHeldAt", desc := "(I)Z" } : Jvm.MethodName)) ∈ lw_all := lw_g (lw_at lw_m3 75 rfl) rfl
theorem q613 : (Jvm.Cond.code ({ cls := "Quaylock$Box", name := "isHeldAt", desc := "(I)Z" } : Jvm.MethodName) prog_3_method_2_code (2 : Nat) (Option.some Jvm.ClassFile.FieldType.boolean)) ∈ lw_all := lw_g (lw_at lw_m3 76 rfl) rfl
theorem q755 : (Jvm.Cond.instanceMethod ({ cls := "Quaylock$Box", name := "isPinned", desc := "()Z" } : Jvm.MethodName)) ∈ lw_all := lw_g (lw_at lw_m3 218 rfl) rfl
theorem q756 : (Jvm.Cond.selects "Quaylock$Box" ({ cls := "Quaylock$Box", name := "isPinned", desc := "()Z" } : Jvm.MethodName) ({ cls := "Quaylock$Box", name := "isPinned", desc := "()Z" } : Jvm.MethodName)) ∈ lw_all := lw_g (lw_at lw_m3 219 rfl) rfl
theorem q757 : (Jvm.Cond.code ({ cls := "Quaylock$Box", name := "isPinned", desc := "()Z" } : Jvm.MethodName) prog_3_method_3_code (1 : Nat) (Option.some Jvm.ClassFile.FieldType.boolean)) ∈ lw_all := lw_g (lw_at lw_m3 220 rfl) rfl
theorem q894 : (Jvm.Cond.selects "Quaylock$Box" ({ cls := "java/lang/Object", name := "getClass", desc := "()Ljava/lang/Class;" } : Jvm.MethodName) ({ cls := "java/lang/Object", name := "getClass", desc := "()Ljava/lang/Class;" } : Jvm.MethodName)) ∈ lw_all := lw_g (lw_at lw_m4 117 rfl) rfl
theorem q1698 : (Jvm.Cond.castable "Quaylock$Box" "java/lang/Object") ∈ lw_tbl := lw_at lw_m7 201 rfl
theorem in_X4 : ∀ w ∈ wsX40, w ∈ lw_all := lw_in wsX40 [421, 423, 425, 427] (by decide +kernel) (by decide +kernel)
/-! Quaylock$MorePromising -/
set_option maxRecDepth 100000
def RX5 : String := "Quaylock$MorePromising"
abbrev cX5_compare : ByteArray := prog_4_method_3_code
def yX5_compare : MethodName := ⟨RX5, "compare", "(Ljava/lang/Object;Ljava/lang/Object;)I"⟩
def dkwX5_compare_0 : List UInt8 := [42, 43, 192, 0, 8, 44, 192, 0, 8, 182, 0, 26, 172]
abbrev dktX5_compare_0 : List UInt8 := dkwX5_compare_0 ++ []
theorem dksX5_compare_0 : cX5_compare.data.toList.drop 0 = dktX5_compare_0 := by decide +kernel
theorem dX5_compare_0 : decode cX5_compare 0 = .ok (.aload_n 0, 1) := dk_42 (dk_at dksX5_compare_0 0 rfl rfl)
theorem dX5_compare_1 : decode cX5_compare 1 = .ok (.aload_n 1, 1) := dk_43 (dk_at dksX5_compare_0 1 rfl rfl)
theorem dX5_compare_2 : decode cX5_compare 2 = .ok (.checkcast 8, 3) := dk_192 0 8 (dk_at dksX5_compare_0 2 rfl rfl)
theorem dX5_compare_5 : decode cX5_compare 5 = .ok (.aload_n 2, 1) := dk_44 (dk_at dksX5_compare_0 5 rfl rfl)
theorem dX5_compare_6 : decode cX5_compare 6 = .ok (.checkcast 8, 3) := dk_192 0 8 (dk_at dksX5_compare_0 6 rfl rfl)
theorem dX5_compare_9 : decode cX5_compare 9 = .ok (.invokevirtual 26, 3) := dk_182 0 26 (dk_at dksX5_compare_0 9 rfl rfl)
theorem dX5_compare_12 : decode cX5_compare 12 = .ok (.ireturn, 1) := dk_172 (dk_at dksX5_compare_0 12 rfl rfl)
abbrev cX5_compare_2 : ByteArray := prog_4_method_2_code
def yX5_compare_2 : MethodName := ⟨RX5, "compare", "(LQuaylock$Plan;LQuaylock$Plan;)I"⟩
def dkwX5_compare_2_5 : List UInt8 := [167, 255, 181, 43, 180, 0, 13, 190, 44, 180, 0, 13, 190, 100, 172]
abbrev dktX5_compare_2_5 : List UInt8 := dkwX5_compare_2_5 ++ []
def dkwX5_compare_2_4 : List UInt8 := [159, 0, 19, 43, 180, 0, 23, 21, 4, 46, 44, 180, 0, 23, 21, 4, 46, 100, 172, 132, 4, 1]
abbrev dktX5_compare_2_4 : List UInt8 := dkwX5_compare_2_4 ++ dktX5_compare_2_5
def dkwX5_compare_2_3 : List UInt8 := [180, 0, 13, 21, 4, 46, 100, 172, 43, 180, 0, 23, 21, 4, 46, 44, 180, 0, 23, 21, 4, 46]
abbrev dktX5_compare_2_3 : List UInt8 := dkwX5_compare_2_3 ++ dktX5_compare_2_4
def dkwX5_compare_2_2 : List UInt8 := [180, 0, 13, 21, 4, 46, 44, 180, 0, 13, 21, 4, 46, 159, 0, 19, 43, 180, 0, 13, 21, 4, 46, 44]
abbrev dktX5_compare_2_2 : List UInt8 := dkwX5_compare_2_2 ++ dktX5_compare_2_3
def dkwX5_compare_2_1 : List UInt8 := [180, 0, 13, 190, 44, 180, 0, 13, 190, 184, 0, 17, 62, 3, 54, 4, 21, 4, 29, 162, 0, 75, 43]
abbrev dktX5_compare_2_1 : List UInt8 := dkwX5_compare_2_1 ++ dktX5_compare_2_2
def dkwX5_compare_2_0 : List UInt8 := [43, 180, 0, 7, 44, 180, 0, 7, 159, 0, 13, 43, 180, 0, 7, 44, 180, 0, 7, 100, 172, 43]
abbrev dktX5_compare_2_0 : List UInt8 := dkwX5_compare_2_0 ++ dktX5_compare_2_1
theorem dksX5_compare_2_0 : cX5_compare_2.data.toList.drop 0 = dktX5_compare_2_0 := by decide +kernel
theorem dksX5_compare_2_1 : cX5_compare_2.data.toList.drop 22 = dktX5_compare_2_1 := dk_seg dksX5_compare_2_0 22 rfl rfl
theorem dksX5_compare_2_2 : cX5_compare_2.data.toList.drop 45 = dktX5_compare_2_2 := dk_seg dksX5_compare_2_1 23 rfl rfl
theorem dksX5_compare_2_3 : cX5_compare_2.data.toList.drop 69 = dktX5_compare_2_3 := dk_seg dksX5_compare_2_2 24 rfl rfl
theorem dksX5_compare_2_4 : cX5_compare_2.data.toList.drop 91 = dktX5_compare_2_4 := dk_seg dksX5_compare_2_3 22 rfl rfl
theorem dksX5_compare_2_5 : cX5_compare_2.data.toList.drop 113 = dktX5_compare_2_5 := dk_seg dksX5_compare_2_4 22 rfl rfl
theorem dX5_compare_2_0 : decode cX5_compare_2 0 = .ok (.aload_n 1, 1) := dk_43 (dk_at dksX5_compare_2_0 0 rfl rfl)
theorem dX5_compare_2_1 : decode cX5_compare_2 1 = .ok (.getfield 7, 3) := dk_180 0 7 (dk_at dksX5_compare_2_0 1 rfl rfl)
theorem dX5_compare_2_4 : decode cX5_compare_2 4 = .ok (.aload_n 2, 1) := dk_44 (dk_at dksX5_compare_2_0 4 rfl rfl)
theorem dX5_compare_2_5 : decode cX5_compare_2 5 = .ok (.getfield 7, 3) := dk_180 0 7 (dk_at dksX5_compare_2_0 5 rfl rfl)
theorem dX5_compare_2_8 : decode cX5_compare_2 8 = .ok (.if_icmp .eq 13, 3) := dk_159 0 13 (dk_at dksX5_compare_2_0 8 rfl rfl)
theorem dX5_compare_2_11 : decode cX5_compare_2 11 = .ok (.aload_n 1, 1) := dk_43 (dk_at dksX5_compare_2_0 11 rfl rfl)
theorem dX5_compare_2_12 : decode cX5_compare_2 12 = .ok (.getfield 7, 3) := dk_180 0 7 (dk_at dksX5_compare_2_0 12 rfl rfl)
theorem dX5_compare_2_15 : decode cX5_compare_2 15 = .ok (.aload_n 2, 1) := dk_44 (dk_at dksX5_compare_2_0 15 rfl rfl)
theorem dX5_compare_2_16 : decode cX5_compare_2 16 = .ok (.getfield 7, 3) := dk_180 0 7 (dk_at dksX5_compare_2_0 16 rfl rfl)
theorem dX5_compare_2_19 : decode cX5_compare_2 19 = .ok (.isub, 1) := dk_100 (dk_at dksX5_compare_2_0 19 rfl rfl)
theorem dX5_compare_2_20 : decode cX5_compare_2 20 = .ok (.ireturn, 1) := dk_172 (dk_at dksX5_compare_2_0 20 rfl rfl)
theorem dX5_compare_2_21 : decode cX5_compare_2 21 = .ok (.aload_n 1, 1) := dk_43 (dk_at dksX5_compare_2_0 21 rfl rfl)
theorem dX5_compare_2_22 : decode cX5_compare_2 22 = .ok (.getfield 13, 3) := dk_180 0 13 (dk_at dksX5_compare_2_1 0 rfl rfl)
theorem dX5_compare_2_25 : decode cX5_compare_2 25 = .ok (.arraylength, 1) := dk_190 (dk_at dksX5_compare_2_1 3 rfl rfl)
theorem dX5_compare_2_26 : decode cX5_compare_2 26 = .ok (.aload_n 2, 1) := dk_44 (dk_at dksX5_compare_2_1 4 rfl rfl)
theorem dX5_compare_2_27 : decode cX5_compare_2 27 = .ok (.getfield 13, 3) := dk_180 0 13 (dk_at dksX5_compare_2_1 5 rfl rfl)
theorem dX5_compare_2_30 : decode cX5_compare_2 30 = .ok (.arraylength, 1) := dk_190 (dk_at dksX5_compare_2_1 8 rfl rfl)
theorem dX5_compare_2_31 : decode cX5_compare_2 31 = .ok (.invokestatic 17, 3) := dk_184 0 17 (dk_at dksX5_compare_2_1 9 rfl rfl)
theorem dX5_compare_2_34 : decode cX5_compare_2 34 = .ok (.istore_n 3, 1) := dk_62 (dk_at dksX5_compare_2_1 12 rfl rfl)
theorem dX5_compare_2_35 : decode cX5_compare_2 35 = .ok (.iconst 0, 1) := dk_3 (dk_at dksX5_compare_2_1 13 rfl rfl)
theorem dX5_compare_2_36 : decode cX5_compare_2 36 = .ok (.istore 4, 2) := dk_54 4 (dk_at dksX5_compare_2_1 14 rfl rfl)
theorem dX5_compare_2_38 : decode cX5_compare_2 38 = .ok (.iload 4, 2) := dk_21 4 (dk_at dksX5_compare_2_1 16 rfl rfl)
theorem dX5_compare_2_40 : decode cX5_compare_2 40 = .ok (.iload_n 3, 1) := dk_29 (dk_at dksX5_compare_2_1 18 rfl rfl)
theorem dX5_compare_2_41 : decode cX5_compare_2 41 = .ok (.if_icmp .ge 75, 3) := dk_162 0 75 (dk_at dksX5_compare_2_1 19 rfl rfl)
theorem dX5_compare_2_44 : decode cX5_compare_2 44 = .ok (.aload_n 1, 1) := dk_43 (dk_at dksX5_compare_2_1 22 rfl rfl)
theorem dX5_compare_2_45 : decode cX5_compare_2 45 = .ok (.getfield 13, 3) := dk_180 0 13 (dk_at dksX5_compare_2_2 0 rfl rfl)
theorem dX5_compare_2_48 : decode cX5_compare_2 48 = .ok (.iload 4, 2) := dk_21 4 (dk_at dksX5_compare_2_2 3 rfl rfl)
theorem dX5_compare_2_50 : decode cX5_compare_2 50 = .ok (.iaload, 1) := dk_46 (dk_at dksX5_compare_2_2 5 rfl rfl)
theorem dX5_compare_2_51 : decode cX5_compare_2 51 = .ok (.aload_n 2, 1) := dk_44 (dk_at dksX5_compare_2_2 6 rfl rfl)
theorem dX5_compare_2_52 : decode cX5_compare_2 52 = .ok (.getfield 13, 3) := dk_180 0 13 (dk_at dksX5_compare_2_2 7 rfl rfl)
theorem dX5_compare_2_55 : decode cX5_compare_2 55 = .ok (.iload 4, 2) := dk_21 4 (dk_at dksX5_compare_2_2 10 rfl rfl)
theorem dX5_compare_2_57 : decode cX5_compare_2 57 = .ok (.iaload, 1) := dk_46 (dk_at dksX5_compare_2_2 12 rfl rfl)
theorem dX5_compare_2_58 : decode cX5_compare_2 58 = .ok (.if_icmp .eq 19, 3) := dk_159 0 19 (dk_at dksX5_compare_2_2 13 rfl rfl)
theorem dX5_compare_2_61 : decode cX5_compare_2 61 = .ok (.aload_n 1, 1) := dk_43 (dk_at dksX5_compare_2_2 16 rfl rfl)
theorem dX5_compare_2_62 : decode cX5_compare_2 62 = .ok (.getfield 13, 3) := dk_180 0 13 (dk_at dksX5_compare_2_2 17 rfl rfl)
theorem dX5_compare_2_65 : decode cX5_compare_2 65 = .ok (.iload 4, 2) := dk_21 4 (dk_at dksX5_compare_2_2 20 rfl rfl)
theorem dX5_compare_2_67 : decode cX5_compare_2 67 = .ok (.iaload, 1) := dk_46 (dk_at dksX5_compare_2_2 22 rfl rfl)
theorem dX5_compare_2_68 : decode cX5_compare_2 68 = .ok (.aload_n 2, 1) := dk_44 (dk_at dksX5_compare_2_2 23 rfl rfl)
theorem dX5_compare_2_69 : decode cX5_compare_2 69 = .ok (.getfield 13, 3) := dk_180 0 13 (dk_at dksX5_compare_2_3 0 rfl rfl)
theorem dX5_compare_2_72 : decode cX5_compare_2 72 = .ok (.iload 4, 2) := dk_21 4 (dk_at dksX5_compare_2_3 3 rfl rfl)
theorem dX5_compare_2_74 : decode cX5_compare_2 74 = .ok (.iaload, 1) := dk_46 (dk_at dksX5_compare_2_3 5 rfl rfl)
theorem dX5_compare_2_75 : decode cX5_compare_2 75 = .ok (.isub, 1) := dk_100 (dk_at dksX5_compare_2_3 6 rfl rfl)
theorem dX5_compare_2_76 : decode cX5_compare_2 76 = .ok (.ireturn, 1) := dk_172 (dk_at dksX5_compare_2_3 7 rfl rfl)
theorem dX5_compare_2_77 : decode cX5_compare_2 77 = .ok (.aload_n 1, 1) := dk_43 (dk_at dksX5_compare_2_3 8 rfl rfl)
theorem dX5_compare_2_78 : decode cX5_compare_2 78 = .ok (.getfield 23, 3) := dk_180 0 23 (dk_at dksX5_compare_2_3 9 rfl rfl)
theorem dX5_compare_2_81 : decode cX5_compare_2 81 = .ok (.iload 4, 2) := dk_21 4 (dk_at dksX5_compare_2_3 12 rfl rfl)
theorem dX5_compare_2_83 : decode cX5_compare_2 83 = .ok (.iaload, 1) := dk_46 (dk_at dksX5_compare_2_3 14 rfl rfl)
theorem dX5_compare_2_84 : decode cX5_compare_2 84 = .ok (.aload_n 2, 1) := dk_44 (dk_at dksX5_compare_2_3 15 rfl rfl)
theorem dX5_compare_2_85 : decode cX5_compare_2 85 = .ok (.getfield 23, 3) := dk_180 0 23 (dk_at dksX5_compare_2_3 16 rfl rfl)
theorem dX5_compare_2_88 : decode cX5_compare_2 88 = .ok (.iload 4, 2) := dk_21 4 (dk_at dksX5_compare_2_3 19 rfl rfl)
theorem dX5_compare_2_90 : decode cX5_compare_2 90 = .ok (.iaload, 1) := dk_46 (dk_at dksX5_compare_2_3 21 rfl rfl)
theorem dX5_compare_2_91 : decode cX5_compare_2 91 = .ok (.if_icmp .eq 19, 3) := dk_159 0 19 (dk_at dksX5_compare_2_4 0 rfl rfl)
theorem dX5_compare_2_94 : decode cX5_compare_2 94 = .ok (.aload_n 1, 1) := dk_43 (dk_at dksX5_compare_2_4 3 rfl rfl)
theorem dX5_compare_2_95 : decode cX5_compare_2 95 = .ok (.getfield 23, 3) := dk_180 0 23 (dk_at dksX5_compare_2_4 4 rfl rfl)
theorem dX5_compare_2_98 : decode cX5_compare_2 98 = .ok (.iload 4, 2) := dk_21 4 (dk_at dksX5_compare_2_4 7 rfl rfl)
theorem dX5_compare_2_100 : decode cX5_compare_2 100 = .ok (.iaload, 1) := dk_46 (dk_at dksX5_compare_2_4 9 rfl rfl)
theorem dX5_compare_2_101 : decode cX5_compare_2 101 = .ok (.aload_n 2, 1) := dk_44 (dk_at dksX5_compare_2_4 10 rfl rfl)
theorem dX5_compare_2_102 : decode cX5_compare_2 102 = .ok (.getfield 23, 3) := dk_180 0 23 (dk_at dksX5_compare_2_4 11 rfl rfl)
theorem dX5_compare_2_105 : decode cX5_compare_2 105 = .ok (.iload 4, 2) := dk_21 4 (dk_at dksX5_compare_2_4 14 rfl rfl)
theorem dX5_compare_2_107 : decode cX5_compare_2 107 = .ok (.iaload, 1) := dk_46 (dk_at dksX5_compare_2_4 16 rfl rfl)
theorem dX5_compare_2_108 : decode cX5_compare_2 108 = .ok (.isub, 1) := dk_100 (dk_at dksX5_compare_2_4 17 rfl rfl)
theorem dX5_compare_2_109 : decode cX5_compare_2 109 = .ok (.ireturn, 1) := dk_172 (dk_at dksX5_compare_2_4 18 rfl rfl)
theorem dX5_compare_2_110 : decode cX5_compare_2 110 = .ok (.iinc 4 1, 3) := dk_132 4 1 (dk_at dksX5_compare_2_4 19 rfl rfl)
theorem dX5_compare_2_113 : decode cX5_compare_2 113 = .ok (.goto (-75), 3) := dk_167 255 181 (dk_at dksX5_compare_2_5 0 rfl rfl)
theorem dX5_compare_2_116 : decode cX5_compare_2 116 = .ok (.aload_n 1, 1) := dk_43 (dk_at dksX5_compare_2_5 3 rfl rfl)
theorem dX5_compare_2_117 : decode cX5_compare_2 117 = .ok (.getfield 13, 3) := dk_180 0 13 (dk_at dksX5_compare_2_5 4 rfl rfl)
theorem dX5_compare_2_120 : decode cX5_compare_2 120 = .ok (.arraylength, 1) := dk_190 (dk_at dksX5_compare_2_5 7 rfl rfl)
theorem dX5_compare_2_121 : decode cX5_compare_2 121 = .ok (.aload_n 2, 1) := dk_44 (dk_at dksX5_compare_2_5 8 rfl rfl)
theorem dX5_compare_2_122 : decode cX5_compare_2 122 = .ok (.getfield 13, 3) := dk_180 0 13 (dk_at dksX5_compare_2_5 9 rfl rfl)
theorem dX5_compare_2_125 : decode cX5_compare_2 125 = .ok (.arraylength, 1) := dk_190 (dk_at dksX5_compare_2_5 12 rfl rfl)
theorem dX5_compare_2_126 : decode cX5_compare_2 126 = .ok (.isub, 1) := dk_100 (dk_at dksX5_compare_2_5 13 rfl rfl)
theorem dX5_compare_2_127 : decode cX5_compare_2 127 = .ok (.ireturn, 1) := dk_172 (dk_at dksX5_compare_2_5 14 rfl rfl)
abbrev cX5_init : ByteArray := prog_4_method_1_code
def yX5_init : MethodName := ⟨RX5, "<init>", "()V"⟩
theorem dX5_init_0 : decode cX5_init 0 = .ok (.aload_n 0, 1) := by decide +kernel
theorem dX5_init_1 : decode cX5_init 1 = .ok (.invokespecial 1, 3) := by decide +kernel
theorem dX5_init_4 : decode cX5_init 4 = .ok (.return_, 1) := by decide +kernel
theorem q84 : (Jvm.Cond.initialized "Quaylock$MorePromising") ∈ lw_all := lw_g (lw_at lw_m1 27 rfl) rfl
theorem q634 : (Jvm.Cond.castable "Quaylock$MorePromising" "java/util/Comparator") ∈ lw_tbl := lw_at lw_m3 97 rfl
theorem q635 : (Jvm.Cond.selects "Quaylock$MorePromising" ({ cls := "java/util/Comparator", name := "compare", desc := "(Ljava/lang/Object;Ljava/lang/Object;)I" } : Jvm.MethodName) ({ cls := "Quaylock$MorePromising", name := "compare", desc := "(Ljava/lang/Object;Ljava/lang/Object;)I" } : Jvm.MethodName)) ∈ lw_all := lw_g (lw_at lw_m3 98 rfl) rfl
theorem q636 : (Jvm.Cond.unhidden "Quaylock$MorePromising" "compare" "(Ljava/lang/Object;Ljava/lang/Object;)I") ∈ lw_tbl := lw_at lw_m3 99 rfl
theorem q637 : (Jvm.Cond.instanceMethod ({ cls := "Quaylock$MorePromising", name := "compare", desc := "(Ljava/lang/Object;Ljava/lang/Object;)I" } : Jvm.MethodName)) ∈ lw_all := lw_g (lw_at lw_m3 100 rfl) rfl
theorem q638 : (Jvm.Cond.publicMethod ({ cls := "Quaylock$MorePromising", name := "compare", desc := "(Ljava/lang/Object;Ljava/lang/Object;)I" } : Jvm.MethodName)) ∈ lw_tbl := lw_at lw_m3 101 rfl
theorem q639 : (Jvm.Cond.code ({ cls := "Quaylock$MorePromising", name := "compare", desc := "(Ljava/lang/Object;Ljava/lang/Object;)I" } : Jvm.MethodName) prog_4_method_3_code (3 : Nat) (Option.some Jvm.ClassFile.FieldType.int)) ∈ lw_all := lw_g (lw_at lw_m3 102 rfl) rfl
theorem q640 : (Jvm.Cond.classLink "Quaylock$MorePromising" (8 : Nat) "Quaylock$Plan") ∈ lw_all := lw_g (lw_at lw_m3 103 rfl) rfl
theorem q641 : (Jvm.Cond.methodLink "Quaylock$MorePromising" (26 : Nat) ({ cls := "Quaylock$MorePromising", name := "compare", desc := "(LQuaylock$Plan;LQuaylock$Plan;)I" } : Jvm.MethodName)) ∈ lw_all := lw_g (lw_at lw_m3 104 rfl) rfl
theorem q642 : (Jvm.Cond.instanceMethod ({ cls := "Quaylock$MorePromising", name := "compare", desc := "(LQuaylock$Plan;LQuaylock$Plan;)I" } : Jvm.MethodName)) ∈ lw_all := lw_g (lw_at lw_m3 105 rfl) rfl
theorem q643 : (Jvm.Cond.selects "Quaylock$MorePromising" ({ cls := "Quaylock$MorePromising", name := "compare", desc := "(LQuaylock$Plan;LQuaylock$Plan;)I" } : Jvm.MethodName) ({ cls := "Quaylock$MorePromising", name := "compare", desc := "(LQuaylock$Plan;LQuaylock$Plan;)I" } : Jvm.MethodName)) ∈ lw_all := lw_g (lw_at lw_m3 106 rfl) rfl
theorem q644 : (Jvm.Cond.code ({ cls := "Quaylock$MorePromising", name := "compare", desc := "(LQuaylock$Plan;LQuaylock$Plan;)I" } : Jvm.MethodName) prog_4_method_2_code (5 : Nat) (Option.some Jvm.ClassFile.FieldType.int)) ∈ lw_all := lw_g (lw_at lw_m3 107 rfl) rfl
theorem q645 : (Jvm.Cond.methodLink "Quaylock$MorePromising" (17 : Nat) ({ cls := "java/lang/Math", name := "min", desc := "(II)I" } : Jvm.MethodName)) ∈ lw_all := lw_g (lw_at lw_m3 108 rfl) rfl
theorem q806 : (Jvm.Cond.instantiable "Quaylock$MorePromising" (0 : Nat)) ∈ lw_all := lw_g (lw_at lw_m4 29 rfl) rfl
theorem q808 : (Jvm.Cond.instanceMethod ({ cls := "Quaylock$MorePromising", name := "<init>", desc := "()V" } : Jvm.MethodName)) ∈ lw_all := lw_g (lw_at lw_m4 31 rfl) rfl
theorem q809 : (Jvm.Cond.code ({ cls := "Quaylock$MorePromising", name := "<init>", desc := "()V" } : Jvm.MethodName) prog_4_method_1_code (1 : Nat) (Option.none : Option Jvm.ClassFile.FieldType)) ∈ lw_all := lw_g (lw_at lw_m4 32 rfl) rfl
theorem q810 : (Jvm.Cond.methodLink "Quaylock$MorePromising" (1 : Nat) ({ cls := "java/lang/Object", name := "<init>", desc := "()V" } : Jvm.MethodName)) ∈ lw_all := lw_g (lw_at lw_m4 33 rfl) rfl
theorem q811 : (Jvm.Cond.superclass "Quaylock$MorePromising" "java/lang/Object") ∈ lw_all := lw_g (lw_at lw_m4 34 rfl) rfl
theorem q848 : (Jvm.Cond.fieldLinkNest "Quaylock$MorePromising" (13 : Nat) "Quaylock$Plan" "boxes" "[I" "Quaylock") ∈ lw_tbl := lw_at lw_m4 71 rfl
theorem q851 : (Jvm.Cond.fieldLinkNest "Quaylock$MorePromising" (23 : Nat) "Quaylock$Plan" "stacks" "[I" "Quaylock") ∈ lw_tbl := lw_at lw_m4 74 rfl
theorem q854 : (Jvm.Cond.fieldLinkNest "Quaylock$MorePromising" (7 : Nat) "Quaylock$Plan" "atLeast" "I" "Quaylock") ∈ lw_tbl := lw_at lw_m4 77 rfl
theorem q895 : (Jvm.Cond.selects "Quaylock$MorePromising" ({ cls := "java/lang/Object", name := "getClass", desc := "()Ljava/lang/Class;" } : Jvm.MethodName) ({ cls := "java/lang/Object", name := "getClass", desc := "()Ljava/lang/Class;" } : Jvm.MethodName)) ∈ lw_all := lw_g (lw_at lw_m4 118 rfl) rfl
theorem q1712 : (Jvm.Cond.castable "Quaylock$MorePromising" "java/lang/Object") ∈ lw_tbl := lw_at lw_m7 215 rfl
/-! Quaylock$Plan -/
set_option maxRecDepth 100000
def RX6 : String := "Quaylock$Plan"
def TX6 : u_T := fun k => match k with
  | 0 => ("Quaylock$Plan", "yard", "LQuaylock$Yard;", true)
  | 1 => ("Quaylock$Plan", "boxes", "[I", true)
  | 2 => ("Quaylock$Plan", "stacks", "[I", true)
  | _ => ("Quaylock$Plan", "atLeast", "I", true)
def tyX6 : Nat → FieldType := fun k => match k with
  | 0 => .object "Quaylock$Yard"
  | 1 => .array .int
  | 2 => .array .int
  | _ => .int
abbrev wsX60 : List Cond := u_ws RX6 TX6 4
theorem nmX6 : ∀ a, a < 4 → ∀ b, b < 4 → a ≠ b → (TX6 a).2.1 ≠ (TX6 b).2.1 := by decide +kernel
theorem tyX6_ok : ∀ k, k < 4 → parseFieldDescriptor (TX6 k).2.2.1 = some (tyX6 k) := by decide +kernel
abbrev cX6_init : ByteArray := prog_5_method_1_code
def yX6_init : MethodName := ⟨RX6, "<init>", "(LQuaylock$Yard;[I[II)V"⟩
def dkwX6_init_1 : List UInt8 := [96, 181, 0, 20, 177]
abbrev dktX6_init_1 : List UInt8 := dkwX6_init_1 ++ []
def dkwX6_init_0 : List UInt8 := [42, 183, 0, 1, 42, 43, 181, 0, 7, 42, 44, 181, 0, 13, 42, 45, 181, 0, 17, 42, 44, 190, 21, 4]
abbrev dktX6_init_0 : List UInt8 := dkwX6_init_0 ++ dktX6_init_1
theorem dksX6_init_0 : cX6_init.data.toList.drop 0 = dktX6_init_0 := by decide +kernel
theorem dksX6_init_1 : cX6_init.data.toList.drop 24 = dktX6_init_1 := dk_seg dksX6_init_0 24 rfl rfl
theorem dX6_init_0 : decode cX6_init 0 = .ok (.aload_n 0, 1) := dk_42 (dk_at dksX6_init_0 0 rfl rfl)
theorem dX6_init_1 : decode cX6_init 1 = .ok (.invokespecial 1, 3) := dk_183 0 1 (dk_at dksX6_init_0 1 rfl rfl)
theorem dX6_init_4 : decode cX6_init 4 = .ok (.aload_n 0, 1) := dk_42 (dk_at dksX6_init_0 4 rfl rfl)
theorem dX6_init_5 : decode cX6_init 5 = .ok (.aload_n 1, 1) := dk_43 (dk_at dksX6_init_0 5 rfl rfl)
theorem dX6_init_6 : decode cX6_init 6 = .ok (.putfield 7, 3) := dk_181 0 7 (dk_at dksX6_init_0 6 rfl rfl)
theorem dX6_init_9 : decode cX6_init 9 = .ok (.aload_n 0, 1) := dk_42 (dk_at dksX6_init_0 9 rfl rfl)
theorem dX6_init_10 : decode cX6_init 10 = .ok (.aload_n 2, 1) := dk_44 (dk_at dksX6_init_0 10 rfl rfl)
theorem dX6_init_11 : decode cX6_init 11 = .ok (.putfield 13, 3) := dk_181 0 13 (dk_at dksX6_init_0 11 rfl rfl)
theorem dX6_init_14 : decode cX6_init 14 = .ok (.aload_n 0, 1) := dk_42 (dk_at dksX6_init_0 14 rfl rfl)
theorem dX6_init_15 : decode cX6_init 15 = .ok (.aload_n 3, 1) := dk_45 (dk_at dksX6_init_0 15 rfl rfl)
theorem dX6_init_16 : decode cX6_init 16 = .ok (.putfield 17, 3) := dk_181 0 17 (dk_at dksX6_init_0 16 rfl rfl)
theorem dX6_init_19 : decode cX6_init 19 = .ok (.aload_n 0, 1) := dk_42 (dk_at dksX6_init_0 19 rfl rfl)
theorem dX6_init_20 : decode cX6_init 20 = .ok (.aload_n 2, 1) := dk_44 (dk_at dksX6_init_0 20 rfl rfl)
theorem dX6_init_21 : decode cX6_init 21 = .ok (.arraylength, 1) := dk_190 (dk_at dksX6_init_0 21 rfl rfl)
theorem dX6_init_22 : decode cX6_init 22 = .ok (.iload 4, 2) := dk_21 4 (dk_at dksX6_init_0 22 rfl rfl)
theorem dX6_init_24 : decode cX6_init 24 = .ok (.iadd, 1) := dk_96 (dk_at dksX6_init_1 0 rfl rfl)
theorem dX6_init_25 : decode cX6_init 25 = .ok (.putfield 20, 3) := dk_181 0 20 (dk_at dksX6_init_1 1 rfl rfl)
theorem dX6_init_28 : decode cX6_init 28 = .ok (.return_, 1) := dk_177 (dk_at dksX6_init_1 4 rfl rfl)
abbrev cX6_with : ByteArray := prog_5_method_3_code
def yX6_with : MethodName := ⟨RX6, "with", "(LQuaylock$Yard;III)LQuaylock$Plan;"⟩
def dkwX6_with_1 : List UInt8 := [183, 0, 34, 176]
abbrev dktX6_with_1 : List UInt8 := dkwX6_with_1 ++ []
def dkwX6_with_0 : List UInt8 := [187, 0, 8, 89, 43, 42, 180, 0, 13, 28, 184, 0, 30, 42, 180, 0, 17, 29, 184, 0, 30, 21, 4]
abbrev dktX6_with_0 : List UInt8 := dkwX6_with_0 ++ dktX6_with_1
theorem dksX6_with_0 : cX6_with.data.toList.drop 0 = dktX6_with_0 := by decide +kernel
theorem dksX6_with_1 : cX6_with.data.toList.drop 23 = dktX6_with_1 := dk_seg dksX6_with_0 23 rfl rfl
theorem dX6_with_0 : decode cX6_with 0 = .ok (.new 8, 3) := dk_187 0 8 (dk_at dksX6_with_0 0 rfl rfl)
theorem dX6_with_3 : decode cX6_with 3 = .ok (.dup, 1) := dk_89 (dk_at dksX6_with_0 3 rfl rfl)
theorem dX6_with_4 : decode cX6_with 4 = .ok (.aload_n 1, 1) := dk_43 (dk_at dksX6_with_0 4 rfl rfl)
theorem dX6_with_5 : decode cX6_with 5 = .ok (.aload_n 0, 1) := dk_42 (dk_at dksX6_with_0 5 rfl rfl)
theorem dX6_with_6 : decode cX6_with 6 = .ok (.getfield 13, 3) := dk_180 0 13 (dk_at dksX6_with_0 6 rfl rfl)
theorem dX6_with_9 : decode cX6_with 9 = .ok (.iload_n 2, 1) := dk_28 (dk_at dksX6_with_0 9 rfl rfl)
theorem dX6_with_10 : decode cX6_with 10 = .ok (.invokestatic 30, 3) := dk_184 0 30 (dk_at dksX6_with_0 10 rfl rfl)
theorem dX6_with_13 : decode cX6_with 13 = .ok (.aload_n 0, 1) := dk_42 (dk_at dksX6_with_0 13 rfl rfl)
theorem dX6_with_14 : decode cX6_with 14 = .ok (.getfield 17, 3) := dk_180 0 17 (dk_at dksX6_with_0 14 rfl rfl)
theorem dX6_with_17 : decode cX6_with 17 = .ok (.iload_n 3, 1) := dk_29 (dk_at dksX6_with_0 17 rfl rfl)
theorem dX6_with_18 : decode cX6_with 18 = .ok (.invokestatic 30, 3) := dk_184 0 30 (dk_at dksX6_with_0 18 rfl rfl)
theorem dX6_with_21 : decode cX6_with 21 = .ok (.iload 4, 2) := dk_21 4 (dk_at dksX6_with_0 21 rfl rfl)
theorem dX6_with_23 : decode cX6_with 23 = .ok (.invokespecial 34, 3) := dk_183 0 34 (dk_at dksX6_with_1 0 rfl rfl)
theorem dX6_with_26 : decode cX6_with 26 = .ok (.areturn, 1) := dk_176 (dk_at dksX6_with_1 3 rfl rfl)
abbrev cX6_with_2 : ByteArray := prog_5_method_2_code
def yX6_with_2 : MethodName := ⟨RX6, "with", "([II)[I"⟩
def dkwX6_with_2_0 : List UInt8 := [42, 190, 4, 96, 188, 10, 77, 42, 3, 44, 3, 42, 190, 184, 0, 24, 44, 42, 190, 27, 79, 44, 176]
abbrev dktX6_with_2_0 : List UInt8 := dkwX6_with_2_0 ++ []
theorem dksX6_with_2_0 : cX6_with_2.data.toList.drop 0 = dktX6_with_2_0 := by decide +kernel
theorem dX6_with_2_0 : decode cX6_with_2 0 = .ok (.aload_n 0, 1) := dk_42 (dk_at dksX6_with_2_0 0 rfl rfl)
theorem dX6_with_2_1 : decode cX6_with_2 1 = .ok (.arraylength, 1) := dk_190 (dk_at dksX6_with_2_0 1 rfl rfl)
theorem dX6_with_2_2 : decode cX6_with_2 2 = .ok (.iconst 1, 1) := dk_4 (dk_at dksX6_with_2_0 2 rfl rfl)
theorem dX6_with_2_3 : decode cX6_with_2 3 = .ok (.iadd, 1) := dk_96 (dk_at dksX6_with_2_0 3 rfl rfl)
theorem dX6_with_2_4 : decode cX6_with_2 4 = .ok (.newarray .int, 2) := dk_188_10 (dk_at dksX6_with_2_0 4 rfl rfl)
theorem dX6_with_2_6 : decode cX6_with_2 6 = .ok (.astore_n 2, 1) := dk_77 (dk_at dksX6_with_2_0 6 rfl rfl)
theorem dX6_with_2_7 : decode cX6_with_2 7 = .ok (.aload_n 0, 1) := dk_42 (dk_at dksX6_with_2_0 7 rfl rfl)
theorem dX6_with_2_8 : decode cX6_with_2 8 = .ok (.iconst 0, 1) := dk_3 (dk_at dksX6_with_2_0 8 rfl rfl)
theorem dX6_with_2_9 : decode cX6_with_2 9 = .ok (.aload_n 2, 1) := dk_44 (dk_at dksX6_with_2_0 9 rfl rfl)
theorem dX6_with_2_10 : decode cX6_with_2 10 = .ok (.iconst 0, 1) := dk_3 (dk_at dksX6_with_2_0 10 rfl rfl)
theorem dX6_with_2_11 : decode cX6_with_2 11 = .ok (.aload_n 0, 1) := dk_42 (dk_at dksX6_with_2_0 11 rfl rfl)
theorem dX6_with_2_12 : decode cX6_with_2 12 = .ok (.arraylength, 1) := dk_190 (dk_at dksX6_with_2_0 12 rfl rfl)
theorem dX6_with_2_13 : decode cX6_with_2 13 = .ok (.invokestatic 24, 3) := dk_184 0 24 (dk_at dksX6_with_2_0 13 rfl rfl)
theorem dX6_with_2_16 : decode cX6_with_2 16 = .ok (.aload_n 2, 1) := dk_44 (dk_at dksX6_with_2_0 16 rfl rfl)
theorem dX6_with_2_17 : decode cX6_with_2 17 = .ok (.aload_n 0, 1) := dk_42 (dk_at dksX6_with_2_0 17 rfl rfl)
theorem dX6_with_2_18 : decode cX6_with_2 18 = .ok (.arraylength, 1) := dk_190 (dk_at dksX6_with_2_0 18 rfl rfl)
theorem dX6_with_2_19 : decode cX6_with_2 19 = .ok (.iload_n 1, 1) := dk_27 (dk_at dksX6_with_2_0 19 rfl rfl)
theorem dX6_with_2_20 : decode cX6_with_2 20 = .ok (.iastore, 1) := dk_79 (dk_at dksX6_with_2_0 20 rfl rfl)
theorem dX6_with_2_21 : decode cX6_with_2 21 = .ok (.aload_n 2, 1) := dk_44 (dk_at dksX6_with_2_0 21 rfl rfl)
theorem dX6_with_2_22 : decode cX6_with_2 22 = .ok (.areturn, 1) := dk_176 (dk_at dksX6_with_2_0 22 rfl rfl)
theorem q85 : (Jvm.Cond.initialized "Quaylock$Plan") ∈ lw_all := lw_g (lw_at lw_m1 28 rfl) rfl
theorem q840 : (Jvm.Cond.instantiable "Quaylock$Plan" (4 : Nat)) ∈ lw_all := lw_g (lw_at lw_m4 63 rfl) rfl
theorem q842 : (Jvm.Cond.instanceMethod ({ cls := "Quaylock$Plan", name := "<init>", desc := "(LQuaylock$Yard;[I[II)V" } : Jvm.MethodName)) ∈ lw_all := lw_g (lw_at lw_m4 65 rfl) rfl
theorem q843 : (Jvm.Cond.code ({ cls := "Quaylock$Plan", name := "<init>", desc := "(LQuaylock$Yard;[I[II)V" } : Jvm.MethodName) prog_5_method_1_code (5 : Nat) (Option.none : Option Jvm.ClassFile.FieldType)) ∈ lw_all := lw_g (lw_at lw_m4 66 rfl) rfl
theorem q844 : (Jvm.Cond.methodLink "Quaylock$Plan" (1 : Nat) ({ cls := "java/lang/Object", name := "<init>", desc := "()V" } : Jvm.MethodName)) ∈ lw_all := lw_g (lw_at lw_m4 67 rfl) rfl
theorem q845 : (Jvm.Cond.fieldLink "Quaylock$Plan" (7 : Nat) "Quaylock$Plan" "yard" "LQuaylock$Yard;") ∈ lw_all := lw_g (lw_at lw_m4 68 rfl) rfl
theorem q847 : (Jvm.Cond.fieldLink "Quaylock$Plan" (13 : Nat) "Quaylock$Plan" "boxes" "[I") ∈ lw_all := lw_g (lw_at lw_m4 70 rfl) rfl
theorem q850 : (Jvm.Cond.fieldLink "Quaylock$Plan" (17 : Nat) "Quaylock$Plan" "stacks" "[I") ∈ lw_all := lw_g (lw_at lw_m4 73 rfl) rfl
theorem q853 : (Jvm.Cond.fieldLink "Quaylock$Plan" (20 : Nat) "Quaylock$Plan" "atLeast" "I") ∈ lw_all := lw_g (lw_at lw_m4 76 rfl) rfl
theorem q855 : (Jvm.Cond.laysFinal "Quaylock$Plan" "Quaylock$Plan" "yard" "LQuaylock$Yard;") ∈ lw_all := lw_g (lw_at lw_m4 78 rfl) rfl
theorem q856 : (Jvm.Cond.soleField "Quaylock$Plan" "yard") ∈ lw_all := lw_g (lw_at lw_m4 79 rfl) rfl
theorem q857 : (Jvm.Cond.laysFinal "Quaylock$Plan" "Quaylock$Plan" "boxes" "[I") ∈ lw_all := lw_g (lw_at lw_m4 80 rfl) rfl
theorem q858 : (Jvm.Cond.soleField "Quaylock$Plan" "boxes") ∈ lw_all := lw_g (lw_at lw_m4 81 rfl) rfl
theorem q859 : (Jvm.Cond.laysFinal "Quaylock$Plan" "Quaylock$Plan" "stacks" "[I") ∈ lw_all := lw_g (lw_at lw_m4 82 rfl) rfl
theorem q860 : (Jvm.Cond.soleField "Quaylock$Plan" "stacks") ∈ lw_all := lw_g (lw_at lw_m4 83 rfl) rfl
theorem q861 : (Jvm.Cond.laysFinal "Quaylock$Plan" "Quaylock$Plan" "atLeast" "I") ∈ lw_all := lw_g (lw_at lw_m4 84 rfl) rfl
theorem q862 : (Jvm.Cond.soleField "Quaylock$Plan" "atLeast") ∈ lw_all := lw_g (lw_at lw_m4 85 rfl) rfl
theorem q863 : (Jvm.Cond.superclass "Quaylock$Plan" "java/lang/Object") ∈ lw_all := lw_g (lw_at lw_m4 86 rfl) rfl
theorem q896 : (Jvm.Cond.selects "Quaylock$Plan" ({ cls := "java/lang/Object", name := "getClass", desc := "()Ljava/lang/Class;" } : Jvm.MethodName) ({ cls := "java/lang/Object", name := "getClass", desc := "()Ljava/lang/Class;" } : Jvm.MethodName)) ∈ lw_all := lw_g (lw_at lw_m4 119 rfl) rfl
theorem q1083 : (Jvm.Cond.instanceMethod ({ cls := "Quaylock$Plan", name := "with", desc := "(LQuaylock$Yard;III)LQuaylock$Plan;" } : Jvm.MethodName)) ∈ lw_all := lw_g (lw_at lw_m5 66 rfl) rfl
theorem q1084 : (Jvm.Cond.selects "Quaylock$Plan" ({ cls := "Quaylock$Plan", name := "with", desc := "(LQuaylock$Yard;III)LQuaylock$Plan;" } : Jvm.MethodName) ({ cls := "Quaylock$Plan", name := "with", desc := "(LQuaylock$Yard;III)LQuaylock$Plan;" } : Jvm.MethodName)) ∈ lw_all := lw_g (lw_at lw_m5 67 rfl) rfl
theorem q1085 : (Jvm.Cond.code ({ cls := "Quaylock$Plan", name := "with", desc := "(LQuaylock$Yard;III)LQuaylock$Plan;" } : Jvm.MethodName) prog_5_method_3_code (5 : Nat) (Option.some (Jvm.ClassFile.FieldType.object "Quaylock$Plan"))) ∈ lw_all := lw_g (lw_at lw_m5 68 rfl) rfl
theorem q1086 : (Jvm.Cond.classLink "Quaylock$Plan" (8 : Nat) "Quaylock$Plan") ∈ lw_all := lw_g (lw_at lw_m5 69 rfl) rfl
theorem q1087 : (Jvm.Cond.methodLink "Quaylock$Plan" (30 : Nat) ({ cls := "Quaylock$Plan", name := "with", desc := "([II)[I" } : Jvm.MethodName)) ∈ lw_all := lw_g (lw_at lw_m5 70 rfl) rfl
theorem q1088 : (Jvm.Cond.static ({ cls := "Quaylock$Plan", name := "with", desc := "([II)[I" } : Jvm.MethodName)) ∈ lw_all := lw_g (lw_at lw_m5 71 rfl) rfl
theorem q1089 : (Jvm.Cond.code ({ cls := "Quaylock$Plan", name := "with", desc := "([II)[I" } : Jvm.MethodName) prog_5_method_2_code (3 : Nat) (Option.some (Jvm.ClassFile.FieldType.array Jvm.ClassFile.FieldType.int))) ∈ lw_all := lw_g (lw_at lw_m5 72 rfl) rfl
theorem q1090 : (Jvm.Cond.methodLink "Quaylock$Plan" (24 : Nat) ({ cls := "java/lang/System", name := "arraycopy", desc := "(Ljava/lang/Object;ILjava/lang/Object;II)V" } : Jvm.MethodName)) ∈ lw_all := lw_g (lw_at lw_m5 73 rfl) rfl
theorem q1091 : (Jvm.Cond.methodLink "Quaylock$Plan" (34 : Nat) ({ cls := "Quaylock$Plan", name := "<init>", desc := "(LQuaylock$Yard;[I[II)V" } : Jvm.MethodName)) ∈ lw_all := lw_g (lw_at lw_m5 74 rfl) rfl
theorem q1713 : (Jvm.Cond.castable "Quaylock$Plan" "java/lang/Object") ∈ lw_tbl := lw_at lw_m7 216 rfl
theorem in_X6 : ∀ w ∈ wsX60, w ∈ lw_all := lw_in wsX60 [855, 857, 859, 861] (by decide +kernel) (by decide +kernel)
/-! Quaylock$Slot -/
set_option maxRecDepth 100000
def RX7 : String := "Quaylock$Slot"
def TX7 : u_T := fun k => match k with
  | 0 => ("Quaylock$Slot", "hour", "I", true)
  | _ => ("Quaylock$Slot", "lane", "I", true)
def tyX7 : Nat → FieldType := fun k => match k with
  | 0 => .int
  | _ => .int
abbrev wsX70 : List Cond := u_ws RX7 TX7 2
theorem nmX7 : ∀ a, a < 2 → ∀ b, b < 2 → a ≠ b → (TX7 a).2.1 ≠ (TX7 b).2.1 := by decide +kernel
theorem tyX7_ok : ∀ k, k < 2 → parseFieldDescriptor (TX7 k).2.2.1 = some (tyX7 k) := by decide +kernel
abbrev cX7_compareTo : ByteArray := prog_6_method_3_code
def yX7_compareTo : MethodName := ⟨RX7, "compareTo", "(Ljava/lang/Object;)I"⟩
def dkwX7_compareTo_0 : List UInt8 := [42, 43, 192, 0, 8, 182, 0, 16, 172]
abbrev dktX7_compareTo_0 : List UInt8 := dkwX7_compareTo_0 ++ []
theorem dksX7_compareTo_0 : cX7_compareTo.data.toList.drop 0 = dktX7_compareTo_0 := by decide +kernel
theorem dX7_compareTo_0 : decode cX7_compareTo 0 = .ok (.aload_n 0, 1) := dk_42 (dk_at dksX7_compareTo_0 0 rfl rfl)
theorem dX7_compareTo_1 : decode cX7_compareTo 1 = .ok (.aload_n 1, 1) := dk_43 (dk_at dksX7_compareTo_0 1 rfl rfl)
theorem dX7_compareTo_2 : decode cX7_compareTo 2 = .ok (.checkcast 8, 3) := dk_192 0 8 (dk_at dksX7_compareTo_0 2 rfl rfl)
theorem dX7_compareTo_5 : decode cX7_compareTo 5 = .ok (.invokevirtual 16, 3) := dk_182 0 16 (dk_at dksX7_compareTo_0 5 rfl rfl)
theorem dX7_compareTo_8 : decode cX7_compareTo 8 = .ok (.ireturn, 1) := dk_172 (dk_at dksX7_compareTo_0 8 rfl rfl)
abbrev cX7_compareTo_2 : ByteArray := prog_6_method_2_code
def yX7_compareTo_2 : MethodName := ⟨RX7, "compareTo", "(LQuaylock$Slot;)I"⟩
def dkwX7_compareTo_2_1 : List UInt8 := [180, 0, 13, 43, 180, 0, 13, 100, 172]
abbrev dktX7_compareTo_2_1 : List UInt8 := dkwX7_compareTo_2_1 ++ []
def dkwX7_compareTo_2_0 : List UInt8 := [42, 180, 0, 7, 43, 180, 0, 7, 159, 0, 15, 42, 180, 0, 7, 43, 180, 0, 7, 100, 167, 0, 12, 42]
abbrev dktX7_compareTo_2_0 : List UInt8 := dkwX7_compareTo_2_0 ++ dktX7_compareTo_2_1
theorem dksX7_compareTo_2_0 : cX7_compareTo_2.data.toList.drop 0 = dktX7_compareTo_2_0 := by decide +kernel
theorem dksX7_compareTo_2_1 : cX7_compareTo_2.data.toList.drop 24 = dktX7_compareTo_2_1 := dk_seg dksX7_compareTo_2_0 24 rfl rfl
theorem dX7_compareTo_2_0 : decode cX7_compareTo_2 0 = .ok (.aload_n 0, 1) := dk_42 (dk_at dksX7_compareTo_2_0 0 rfl rfl)
theorem dX7_compareTo_2_1 : decode cX7_compareTo_2 1 = .ok (.getfield 7, 3) := dk_180 0 7 (dk_at dksX7_compareTo_2_0 1 rfl rfl)
theorem dX7_compareTo_2_4 : decode cX7_compareTo_2 4 = .ok (.aload_n 1, 1) := dk_43 (dk_at dksX7_compareTo_2_0 4 rfl rfl)
theorem dX7_compareTo_2_5 : decode cX7_compareTo_2 5 = .ok (.getfield 7, 3) := dk_180 0 7 (dk_at dksX7_compareTo_2_0 5 rfl rfl)
theorem dX7_compareTo_2_8 : decode cX7_compareTo_2 8 = .ok (.if_icmp .eq 15, 3) := dk_159 0 15 (dk_at dksX7_compareTo_2_0 8 rfl rfl)
theorem dX7_compareTo_2_11 : decode cX7_compareTo_2 11 = .ok (.aload_n 0, 1) := dk_42 (dk_at dksX7_compareTo_2_0 11 rfl rfl)
theorem dX7_compareTo_2_12 : decode cX7_compareTo_2 12 = .ok (.getfield 7, 3) := dk_180 0 7 (dk_at dksX7_compareTo_2_0 12 rfl rfl)
theorem dX7_compareTo_2_15 : decode cX7_compareTo_2 15 = .ok (.aload_n 1, 1) := dk_43 (dk_at dksX7_compareTo_2_0 15 rfl rfl)
theorem dX7_compareTo_2_16 : decode cX7_compareTo_2 16 = .ok (.getfield 7, 3) := dk_180 0 7 (dk_at dksX7_compareTo_2_0 16 rfl rfl)
theorem dX7_compareTo_2_19 : decode cX7_compareTo_2 19 = .ok (.isub, 1) := dk_100 (dk_at dksX7_compareTo_2_0 19 rfl rfl)
theorem dX7_compareTo_2_20 : decode cX7_compareTo_2 20 = .ok (.goto 12, 3) := dk_167 0 12 (dk_at dksX7_compareTo_2_0 20 rfl rfl)
theorem dX7_compareTo_2_23 : decode cX7_compareTo_2 23 = .ok (.aload_n 0, 1) := dk_42 (dk_at dksX7_compareTo_2_0 23 rfl rfl)
theorem dX7_compareTo_2_24 : decode cX7_compareTo_2 24 = .ok (.getfield 13, 3) := dk_180 0 13 (dk_at dksX7_compareTo_2_1 0 rfl rfl)
theorem dX7_compareTo_2_27 : decode cX7_compareTo_2 27 = .ok (.aload_n 1, 1) := dk_43 (dk_at dksX7_compareTo_2_1 3 rfl rfl)
theorem dX7_compareTo_2_28 : decode cX7_compareTo_2 28 = .ok (.getfield 13, 3) := dk_180 0 13 (dk_at dksX7_compareTo_2_1 4 rfl rfl)
theorem dX7_compareTo_2_31 : decode cX7_compareTo_2 31 = .ok (.isub, 1) := dk_100 (dk_at dksX7_compareTo_2_1 7 rfl rfl)
theorem dX7_compareTo_2_32 : decode cX7_compareTo_2 32 = .ok (.ireturn, 1) := dk_172 (dk_at dksX7_compareTo_2_1 8 rfl rfl)
abbrev cX7_init : ByteArray := prog_6_method_1_code
def yX7_init : MethodName := ⟨RX7, "<init>", "(II)V"⟩
def dkwX7_init_0 : List UInt8 := [42, 183, 0, 1, 42, 27, 181, 0, 7, 42, 28, 181, 0, 13, 177]
abbrev dktX7_init_0 : List UInt8 := dkwX7_init_0 ++ []
theorem dksX7_init_0 : cX7_init.data.toList.drop 0 = dktX7_init_0 := by decide +kernel
theorem dX7_init_0 : decode cX7_init 0 = .ok (.aload_n 0, 1) := dk_42 (dk_at dksX7_init_0 0 rfl rfl)
theorem dX7_init_1 : decode cX7_init 1 = .ok (.invokespecial 1, 3) := dk_183 0 1 (dk_at dksX7_init_0 1 rfl rfl)
theorem dX7_init_4 : decode cX7_init 4 = .ok (.aload_n 0, 1) := dk_42 (dk_at dksX7_init_0 4 rfl rfl)
theorem dX7_init_5 : decode cX7_init 5 = .ok (.iload_n 1, 1) := dk_27 (dk_at dksX7_init_0 5 rfl rfl)
theorem dX7_init_6 : decode cX7_init 6 = .ok (.putfield 7, 3) := dk_181 0 7 (dk_at dksX7_init_0 6 rfl rfl)
theorem dX7_init_9 : decode cX7_init 9 = .ok (.aload_n 0, 1) := dk_42 (dk_at dksX7_init_0 9 rfl rfl)
theorem dX7_init_10 : decode cX7_init 10 = .ok (.iload_n 2, 1) := dk_28 (dk_at dksX7_init_0 10 rfl rfl)
theorem dX7_init_11 : decode cX7_init 11 = .ok (.putfield 13, 3) := dk_181 0 13 (dk_at dksX7_init_0 11 rfl rfl)
theorem dX7_init_14 : decode cX7_init 14 = .ok (.return_, 1) := dk_177 (dk_at dksX7_init_0 14 rfl rfl)
theorem q91 : (Jvm.Cond.initialized "Quaylock$Slot") ∈ lw_all := lw_g (lw_at lw_m1 34 rfl) rfl
theorem q656 : (Jvm.Cond.castable "Quaylock$Slot" "java/lang/Comparable") ∈ lw_tbl := lw_at lw_m3 119 rfl
theorem q657 : (Jvm.Cond.selects "Quaylock$Slot" ({ cls := "java/lang/Comparable", name := "compareTo", desc := "(Ljava/lang/Object;)I" } : Jvm.MethodName) ({ cls := "Quaylock$Slot", name := "compareTo", desc := "(Ljava/lang/Object;)I" } : Jvm.MethodName)) ∈ lw_all := lw_g (lw_at lw_m3 120 rfl) rfl
theorem q658 : (Jvm.Cond.unhidden "Quaylock$Slot" "compareTo" "(Ljava/lang/Object;)I") ∈ lw_tbl := lw_at lw_m3 121 rfl
theorem q659 : (Jvm.Cond.instanceMethod ({ cls := "Quaylock$Slot", name := "compareTo", desc := "(Ljava/lang/Object;)I" } : Jvm.MethodName)) ∈ lw_all := lw_g (lw_at lw_m3 122 rfl) rfl
theorem q660 : (Jvm.Cond.publicMethod ({ cls := "Quaylock$Slot", name := "compareTo", desc := "(Ljava/lang/Object;)I" } : Jvm.MethodName)) ∈ lw_tbl := lw_at lw_m3 123 rfl
theorem q661 : (Jvm.Cond.code ({ cls := "Quaylock$Slot", name := "compareTo", desc := "(Ljava/lang/Object;)I" } : Jvm.MethodName) prog_6_method_3_code (2 : Nat) (Option.some Jvm.ClassFile.FieldType.int)) ∈ lw_all := lw_g (lw_at lw_m3 124 rfl) rfl
theorem q662 : (Jvm.Cond.classLink "Quaylock$Slot" (8 : Nat) "Quaylock$Slot") ∈ lw_all := lw_g (lw_at lw_m3 125 rfl) rfl
theorem q663 : (Jvm.Cond.methodLink "Quaylock$Slot" (16 : Nat) ({ cls := "Quaylock$Slot", name := "compareTo", desc := "(LQuaylock$Slot;)I" } : Jvm.MethodName)) ∈ lw_all := lw_g (lw_at lw_m3 126 rfl) rfl
theorem q664 : (Jvm.Cond.instanceMethod ({ cls := "Quaylock$Slot", name := "compareTo", desc := "(LQuaylock$Slot;)I" } : Jvm.MethodName)) ∈ lw_all := lw_g (lw_at lw_m3 127 rfl) rfl
theorem q665 : (Jvm.Cond.selects "Quaylock$Slot" ({ cls := "Quaylock$Slot", name := "compareTo", desc := "(LQuaylock$Slot;)I" } : Jvm.MethodName) ({ cls := "Quaylock$Slot", name := "compareTo", desc := "(LQuaylock$Slot;)I" } : Jvm.MethodName)) ∈ lw_all := lw_g (lw_at lw_m3 128 rfl) rfl
theorem q666 : (Jvm.Cond.code ({ cls := "Quaylock$Slot", name := "compareTo", desc := "(LQuaylock$Slot;)I" } : Jvm.MethodName) prog_6_method_2_code (2 : Nat) (Option.some Jvm.ClassFile.FieldType.int)) ∈ lw_all := lw_g (lw_at lw_m3 129 rfl) rfl
theorem q897 : (Jvm.Cond.selects "Quaylock$Slot" ({ cls := "java/lang/Object", name := "getClass", desc := "()Ljava/lang/Class;" } : Jvm.MethodName) ({ cls := "java/lang/Object", name := "getClass", desc := "()Ljava/lang/Class;" } : Jvm.MethodName)) ∈ lw_all := lw_g (lw_at lw_m4 120 rfl) rfl
theorem q1142 : (Jvm.Cond.instantiable "Quaylock$Slot" (2 : Nat)) ∈ lw_all := lw_g (lw_at lw_m5 125 rfl) rfl
theorem q1144 : (Jvm.Cond.instanceMethod ({ cls := "Quaylock$Slot", name := "<init>", desc := "(II)V" } : Jvm.MethodName)) ∈ lw_all := lw_g (lw_at lw_m5 127 rfl) rfl
theorem q1145 : (Jvm.Cond.code ({ cls := "Quaylock$Slot", name := "<init>", desc := "(II)V" } : Jvm.MethodName) prog_6_method_1_code (3 : Nat) (Option.none : Option Jvm.ClassFile.FieldType)) ∈ lw_all := lw_g (lw_at lw_m5 128 rfl) rfl
theorem q1146 : (Jvm.Cond.methodLink "Quaylock$Slot" (1 : Nat) ({ cls := "java/lang/Object", name := "<init>", desc := "()V" } : Jvm.MethodName)) ∈ lw_all := lw_g (lw_at lw_m5 129 rfl) rfl
theorem q1147 : (Jvm.Cond.fieldLink "Quaylock$Slot" (7 : Nat) "Quaylock$Slot" "hour" "I") ∈ lw_all := lw_g (lw_at lw_m5 130 rfl) rfl
theorem q1149 : (Jvm.Cond.fieldLink "Quaylock$Slot" (13 : Nat) "Quaylock$Slot" "lane" "I") ∈ lw_all := lw_g (lw_at lw_m5 132 rfl) rfl
theorem q1150 : (Jvm.Cond.laysFinal "Quaylock$Slot" "Quaylock$Slot" "hour" "I") ∈ lw_all := lw_g (lw_at lw_m5 133 rfl) rfl
theorem q1151 : (Jvm.Cond.soleField "Quaylock$Slot" "hour") ∈ lw_all := lw_g (lw_at lw_m5 134 rfl) rfl
theorem q1152 : (Jvm.Cond.laysFinal "Quaylock$Slot" "Quaylock$Slot" "lane" "I") ∈ lw_all := lw_g (lw_at lw_m5 135 rfl) rfl
theorem q1153 : (Jvm.Cond.soleField "Quaylock$Slot" "lane") ∈ lw_all := lw_g (lw_at lw_m5 136 rfl) rfl
theorem q1154 : (Jvm.Cond.superclass "Quaylock$Slot" "java/lang/Object") ∈ lw_all := lw_g (lw_at lw_m5 137 rfl) rfl
theorem q1716 : (Jvm.Cond.castable "Quaylock$Slot" "java/lang/Object") ∈ lw_tbl := lw_at lw_m7 219 rfl
theorem in_X7 : ∀ w ∈ wsX70, w ∈ lw_all := lw_in wsX70 [1150, 1152] (by decide +kernel) (by decide +kernel)
/-! Quaylock$Appointment -/
set_option maxRecDepth 100000
def RX8 : String := "Quaylock$Appointment"
def TX8 : u_T := fun k => match k with
  | 0 => ("Quaylock$Appointment", "number", "I", true)
  | 1 => ("Quaylock$Appointment", "box", "LQuaylock$Box;", true)
  | 2 => ("Quaylock$Appointment", "slot", "LQuaylock$Slot;", true)
  | _ => ("Quaylock$Appointment", "state", "C", false)
def tyX8 : Nat → FieldType := fun k => match k with
  | 0 => .int
  | 1 => .object "Quaylock$Box"
  | 2 => .object "Quaylock$Slot"
  | _ => .char
abbrev wsX80 : List Cond := u_ws RX8 TX8 4
theorem nmX8 : ∀ a, a < 4 → ∀ b, b < 4 → a ≠ b → (TX8 a).2.1 ≠ (TX8 b).2.1 := by decide +kernel
theorem tyX8_ok : ∀ k, k < 4 → parseFieldDescriptor (TX8 k).2.2.1 = some (tyX8 k) := by decide +kernel
abbrev cX8_init : ByteArray := prog_2_method_1_code
def yX8_init : MethodName := ⟨RX8, "<init>", "(ILQuaylock$Box;LQuaylock$Slot;)V"⟩
def dkwX8_init_1 : List UInt8 := [181, 0, 21, 177]
abbrev dktX8_init_1 : List UInt8 := dkwX8_init_1 ++ []
def dkwX8_init_0 : List UInt8 := [42, 183, 0, 1, 42, 16, 98, 181, 0, 7, 42, 27, 181, 0, 13, 42, 44, 181, 0, 17, 42, 45]
abbrev dktX8_init_0 : List UInt8 := dkwX8_init_0 ++ dktX8_init_1
theorem dksX8_init_0 : cX8_init.data.toList.drop 0 = dktX8_init_0 := by decide +kernel
theorem dksX8_init_1 : cX8_init.data.toList.drop 22 = dktX8_init_1 := dk_seg dksX8_init_0 22 rfl rfl
theorem dX8_init_0 : decode cX8_init 0 = .ok (.aload_n 0, 1) := dk_42 (dk_at dksX8_init_0 0 rfl rfl)
theorem dX8_init_1 : decode cX8_init 1 = .ok (.invokespecial 1, 3) := dk_183 0 1 (dk_at dksX8_init_0 1 rfl rfl)
theorem dX8_init_4 : decode cX8_init 4 = .ok (.aload_n 0, 1) := dk_42 (dk_at dksX8_init_0 4 rfl rfl)
theorem dX8_init_5 : decode cX8_init 5 = .ok (.bipush 98, 2) := dk_16 98 (dk_at dksX8_init_0 5 rfl rfl)
theorem dX8_init_7 : decode cX8_init 7 = .ok (.putfield 7, 3) := dk_181 0 7 (dk_at dksX8_init_0 7 rfl rfl)
theorem dX8_init_10 : decode cX8_init 10 = .ok (.aload_n 0, 1) := dk_42 (dk_at dksX8_init_0 10 rfl rfl)
theorem dX8_init_11 : decode cX8_init 11 = .ok (.iload_n 1, 1) := dk_27 (dk_at dksX8_init_0 11 rfl rfl)
theorem dX8_init_12 : decode cX8_init 12 = .ok (.putfield 13, 3) := dk_181 0 13 (dk_at dksX8_init_0 12 rfl rfl)
theorem dX8_init_15 : decode cX8_init 15 = .ok (.aload_n 0, 1) := dk_42 (dk_at dksX8_init_0 15 rfl rfl)
theorem dX8_init_16 : decode cX8_init 16 = .ok (.aload_n 2, 1) := dk_44 (dk_at dksX8_init_0 16 rfl rfl)
theorem dX8_init_17 : decode cX8_init 17 = .ok (.putfield 17, 3) := dk_181 0 17 (dk_at dksX8_init_0 17 rfl rfl)
theorem dX8_init_20 : decode cX8_init 20 = .ok (.aload_n 0, 1) := dk_42 (dk_at dksX8_init_0 20 rfl rfl)
theorem dX8_init_21 : decode cX8_init 21 = .ok (.aload_n 3, 1) := dk_45 (dk_at dksX8_init_0 21 rfl rfl)
theorem dX8_init_22 : decode cX8_init 22 = .ok (.putfield 21, 3) := dk_181 0 21 (dk_at dksX8_init_1 0 rfl rfl)
theorem dX8_init_25 : decode cX8_init 25 = .ok (.return_, 1) := dk_177 (dk_at dksX8_init_1 3 rfl rfl)
theorem q92 : (Jvm.Cond.initialized "Quaylock$Appointment") ∈ lw_all := lw_g (lw_at lw_m1 35 rfl) rfl
theorem q893 : (Jvm.Cond.selects "Quaylock$Appointment" ({ cls := "java/lang/Object", name := "getClass", desc := "()Ljava/lang/Class;" } : Jvm.MethodName) ({ cls := "java/lang/Object", name := "getClass", desc := "()Ljava/lang/Class;" } : Jvm.MethodName)) ∈ lw_all := lw_g (lw_at lw_m4 116 rfl) rfl
theorem q1166 : (Jvm.Cond.instantiable "Quaylock$Appointment" (4 : Nat)) ∈ lw_all := lw_g (lw_at lw_m5 149 rfl) rfl
theorem q1168 : (Jvm.Cond.instanceMethod ({ cls := "Quaylock$Appointment", name := "<init>", desc := "(ILQuaylock$Box;LQuaylock$Slot;)V" } : Jvm.MethodName)) ∈ lw_all := lw_g (lw_at lw_m5 151 rfl) rfl
theorem q1169 : (Jvm.Cond.code ({ cls := "Quaylock$Appointment", name := "<init>", desc := "(ILQuaylock$Box;LQuaylock$Slot;)V" } : Jvm.MethodName) prog_2_method_1_code (4 : Nat) (Option.none : Option Jvm.ClassFile.FieldType)) ∈ lw_all := lw_g (lw_at lw_m5 152 rfl) rfl
theorem q1170 : (Jvm.Cond.methodLink "Quaylock$Appointment" (1 : Nat) ({ cls := "java/lang/Object", name := "<init>", desc := "()V" } : Jvm.MethodName)) ∈ lw_all := lw_g (lw_at lw_m5 153 rfl) rfl
theorem q1171 : (Jvm.Cond.fieldLink "Quaylock$Appointment" (13 : Nat) "Quaylock$Appointment" "number" "I") ∈ lw_all := lw_g (lw_at lw_m5 154 rfl) rfl
theorem q1173 : (Jvm.Cond.fieldLink "Quaylock$Appointment" (17 : Nat) "Quaylock$Appointment" "box" "LQuaylock$Box;") ∈ lw_all := lw_g (lw_at lw_m5 156 rfl) rfl
theorem q1175 : (Jvm.Cond.fieldLink "Quaylock$Appointment" (21 : Nat) "Quaylock$Appointment" "slot" "LQuaylock$Slot;") ∈ lw_all := lw_g (lw_at lw_m5 158 rfl) rfl
theorem q1177 : (Jvm.Cond.fieldLink "Quaylock$Appointment" (7 : Nat) "Quaylock$Appointment" "state" "C") ∈ lw_all := lw_g (lw_at lw_m5 160 rfl) rfl
theorem q1179 : (Jvm.Cond.laysFinal "Quaylock$Appointment" "Quaylock$Appointment" "number" "I") ∈ lw_all := lw_g (lw_at lw_m5 162 rfl) rfl
theorem q1180 : (Jvm.Cond.soleField "Quaylock$Appointment" "number") ∈ lw_all := lw_g (lw_at lw_m5 163 rfl) rfl
theorem q1181 : (Jvm.Cond.laysFinal "Quaylock$Appointment" "Quaylock$Appointment" "box" "LQuaylock$Box;") ∈ lw_all := lw_g (lw_at lw_m5 164 rfl) rfl
theorem q1182 : (Jvm.Cond.soleField "Quaylock$Appointment" "box") ∈ lw_all := lw_g (lw_at lw_m5 165 rfl) rfl
theorem q1183 : (Jvm.Cond.laysFinal "Quaylock$Appointment" "Quaylock$Appointment" "slot" "LQuaylock$Slot;") ∈ lw_all := lw_g (lw_at lw_m5 166 rfl) rfl
theorem q1184 : (Jvm.Cond.soleField "Quaylock$Appointment" "slot") ∈ lw_all := lw_g (lw_at lw_m5 167 rfl) rfl
theorem q1185 : (Jvm.Cond.lays "Quaylock$Appointment" "Quaylock$Appointment" "state" "C") ∈ lw_all := lw_g (lw_at lw_m5 168 rfl) rfl
theorem q1186 : (Jvm.Cond.soleField "Quaylock$Appointment" "state") ∈ lw_all := lw_g (lw_at lw_m5 169 rfl) rfl
theorem q1187 : (Jvm.Cond.superclass "Quaylock$Appointment" "java/lang/Object") ∈ lw_all := lw_g (lw_at lw_m5 170 rfl) rfl
theorem q1717 : (Jvm.Cond.castable "Quaylock$Appointment" "java/lang/Object") ∈ lw_tbl := lw_at lw_m7 220 rfl
theorem in_X8 : ∀ w ∈ wsX80, w ∈ lw_all := lw_in wsX80 [1179, 1181, 1183, 1185] (by decide +kernel) (by decide +kernel)
