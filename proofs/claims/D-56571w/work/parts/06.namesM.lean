/-! QuaylockLaw -/
set_option maxRecDepth 100000
def RX0 : String := "QuaylockLaw"
abbrev cX0_addStack : ByteArray := method_3_code
def yX0_addStack : MethodName := ⟨RX0, "addStack", "(LQuaylock;I[J)I"⟩
def dkwX0_addStack_0 : List UInt8 := [44, 3, 42, 27, 182, 0, 7, 133, 80, 167, 0, 9, 78, 4, 172, 78, 5, 172, 3, 172]
abbrev dktX0_addStack_0 : List UInt8 := dkwX0_addStack_0 ++ []
theorem dksX0_addStack_0 : cX0_addStack.data.toList.drop 0 = dktX0_addStack_0 := by decide +kernel
theorem dX0_addStack_0 : decode cX0_addStack 0 = .ok (.aload_n 2, 1) := dk_44 (dk_at dksX0_addStack_0 0 rfl rfl)
theorem dX0_addStack_1 : decode cX0_addStack 1 = .ok (.iconst 0, 1) := dk_3 (dk_at dksX0_addStack_0 1 rfl rfl)
theorem dX0_addStack_2 : decode cX0_addStack 2 = .ok (.aload_n 0, 1) := dk_42 (dk_at dksX0_addStack_0 2 rfl rfl)
theorem dX0_addStack_3 : decode cX0_addStack 3 = .ok (.iload_n 1, 1) := dk_27 (dk_at dksX0_addStack_0 3 rfl rfl)
theorem dX0_addStack_4 : decode cX0_addStack 4 = .ok (.invokevirtual 7, 3) := dk_182 0 7 (dk_at dksX0_addStack_0 4 rfl rfl)
theorem dX0_addStack_7 : decode cX0_addStack 7 = .ok (.i2l, 1) := dk_133 (dk_at dksX0_addStack_0 7 rfl rfl)
theorem dX0_addStack_8 : decode cX0_addStack 8 = .ok (.lastore, 1) := dk_80 (dk_at dksX0_addStack_0 8 rfl rfl)
theorem dX0_addStack_9 : decode cX0_addStack 9 = .ok (.goto 9, 3) := dk_167 0 9 (dk_at dksX0_addStack_0 9 rfl rfl)
theorem dX0_addStack_12 : decode cX0_addStack 12 = .ok (.astore_n 3, 1) := dk_78 (dk_at dksX0_addStack_0 12 rfl rfl)
theorem dX0_addStack_13 : decode cX0_addStack 13 = .ok (.iconst 1, 1) := dk_4 (dk_at dksX0_addStack_0 13 rfl rfl)
theorem dX0_addStack_14 : decode cX0_addStack 14 = .ok (.ireturn, 1) := dk_172 (dk_at dksX0_addStack_0 14 rfl rfl)
theorem dX0_addStack_15 : decode cX0_addStack 15 = .ok (.astore_n 3, 1) := dk_78 (dk_at dksX0_addStack_0 15 rfl rfl)
theorem dX0_addStack_16 : decode cX0_addStack 16 = .ok (.iconst 2, 1) := dk_5 (dk_at dksX0_addStack_0 16 rfl rfl)
theorem dX0_addStack_17 : decode cX0_addStack 17 = .ok (.ireturn, 1) := dk_172 (dk_at dksX0_addStack_0 17 rfl rfl)
theorem dX0_addStack_18 : decode cX0_addStack 18 = .ok (.iconst 0, 1) := dk_3 (dk_at dksX0_addStack_0 18 rfl rfl)
theorem dX0_addStack_19 : decode cX0_addStack 19 = .ok (.ireturn, 1) := dk_172 (dk_at dksX0_addStack_0 19 rfl rfl)
abbrev cX0_addBox : ByteArray := method_4_code
def yX0_addBox : MethodName := ⟨RX0, "addBox", "(LQuaylock;II[J)I"⟩
def dkwX0_addBox_1 : List UInt8 := [172, 58, 4, 7, 172, 3, 172]
abbrev dktX0_addBox_1 : List UInt8 := dkwX0_addBox_1 ++ []
def dkwX0_addBox_0 : List UInt8 := [45, 3, 42, 27, 28, 182, 0, 17, 133, 80, 167, 0, 19, 58, 4, 4, 172, 58, 4, 5, 172, 58, 4, 6]
abbrev dktX0_addBox_0 : List UInt8 := dkwX0_addBox_0 ++ dktX0_addBox_1
theorem dksX0_addBox_0 : cX0_addBox.data.toList.drop 0 = dktX0_addBox_0 := by decide +kernel
theorem dksX0_addBox_1 : cX0_addBox.data.toList.drop 24 = dktX0_addBox_1 := dk_seg dksX0_addBox_0 24 rfl rfl
theorem dX0_addBox_0 : decode cX0_addBox 0 = .ok (.aload_n 3, 1) := dk_45 (dk_at dksX0_addBox_0 0 rfl rfl)
theorem dX0_addBox_1 : decode cX0_addBox 1 = .ok (.iconst 0, 1) := dk_3 (dk_at dksX0_addBox_0 1 rfl rfl)
theorem dX0_addBox_2 : decode cX0_addBox 2 = .ok (.aload_n 0, 1) := dk_42 (dk_at dksX0_addBox_0 2 rfl rfl)
theorem dX0_addBox_3 : decode cX0_addBox 3 = .ok (.iload_n 1, 1) := dk_27 (dk_at dksX0_addBox_0 3 rfl rfl)
theorem dX0_addBox_4 : decode cX0_addBox 4 = .ok (.iload_n 2, 1) := dk_28 (dk_at dksX0_addBox_0 4 rfl rfl)
theorem dX0_addBox_5 : decode cX0_addBox 5 = .ok (.invokevirtual 17, 3) := dk_182 0 17 (dk_at dksX0_addBox_0 5 rfl rfl)
theorem dX0_addBox_8 : decode cX0_addBox 8 = .ok (.i2l, 1) := dk_133 (dk_at dksX0_addBox_0 8 rfl rfl)
theorem dX0_addBox_9 : decode cX0_addBox 9 = .ok (.lastore, 1) := dk_80 (dk_at dksX0_addBox_0 9 rfl rfl)
theorem dX0_addBox_10 : decode cX0_addBox 10 = .ok (.goto 19, 3) := dk_167 0 19 (dk_at dksX0_addBox_0 10 rfl rfl)
theorem dX0_addBox_13 : decode cX0_addBox 13 = .ok (.astore 4, 2) := dk_58 4 (dk_at dksX0_addBox_0 13 rfl rfl)
theorem dX0_addBox_15 : decode cX0_addBox 15 = .ok (.iconst 1, 1) := dk_4 (dk_at dksX0_addBox_0 15 rfl rfl)
theorem dX0_addBox_16 : decode cX0_addBox 16 = .ok (.ireturn, 1) := dk_172 (dk_at dksX0_addBox_0 16 rfl rfl)
theorem dX0_addBox_17 : decode cX0_addBox 17 = .ok (.astore 4, 2) := dk_58 4 (dk_at dksX0_addBox_0 17 rfl rfl)
theorem dX0_addBox_19 : decode cX0_addBox 19 = .ok (.iconst 2, 1) := dk_5 (dk_at dksX0_addBox_0 19 rfl rfl)
theorem dX0_addBox_20 : decode cX0_addBox 20 = .ok (.ireturn, 1) := dk_172 (dk_at dksX0_addBox_0 20 rfl rfl)
theorem dX0_addBox_21 : decode cX0_addBox 21 = .ok (.astore 4, 2) := dk_58 4 (dk_at dksX0_addBox_0 21 rfl rfl)
theorem dX0_addBox_23 : decode cX0_addBox 23 = .ok (.iconst 3, 1) := dk_6 (dk_at dksX0_addBox_0 23 rfl rfl)
theorem dX0_addBox_24 : decode cX0_addBox 24 = .ok (.ireturn, 1) := dk_172 (dk_at dksX0_addBox_1 0 rfl rfl)
theorem dX0_addBox_25 : decode cX0_addBox 25 = .ok (.astore 4, 2) := dk_58 4 (dk_at dksX0_addBox_1 1 rfl rfl)
theorem dX0_addBox_27 : decode cX0_addBox 27 = .ok (.iconst 4, 1) := dk_7 (dk_at dksX0_addBox_1 3 rfl rfl)
theorem dX0_addBox_28 : decode cX0_addBox 28 = .ok (.ireturn, 1) := dk_172 (dk_at dksX0_addBox_1 4 rfl rfl)
theorem dX0_addBox_29 : decode cX0_addBox 29 = .ok (.iconst 0, 1) := dk_3 (dk_at dksX0_addBox_1 5 rfl rfl)
theorem dX0_addBox_30 : decode cX0_addBox 30 = .ok (.ireturn, 1) := dk_172 (dk_at dksX0_addBox_1 6 rfl rfl)
abbrev cX0_weight : ByteArray := method_5_code
def yX0_weight : MethodName := ⟨RX0, "weight", "(LQuaylock;I[J)I"⟩
def dkwX0_weight_0 : List UInt8 := [44, 3, 42, 27, 182, 0, 25, 133, 80, 167, 0, 6, 78, 4, 172, 3, 172]
abbrev dktX0_weight_0 : List UInt8 := dkwX0_weight_0 ++ []
theorem dksX0_weight_0 : cX0_weight.data.toList.drop 0 = dktX0_weight_0 := by decide +kernel
theorem dX0_weight_0 : decode cX0_weight 0 = .ok (.aload_n 2, 1) := dk_44 (dk_at dksX0_weight_0 0 rfl rfl)
theorem dX0_weight_1 : decode cX0_weight 1 = .ok (.iconst 0, 1) := dk_3 (dk_at dksX0_weight_0 1 rfl rfl)
theorem dX0_weight_2 : decode cX0_weight 2 = .ok (.aload_n 0, 1) := dk_42 (dk_at dksX0_weight_0 2 rfl rfl)
theorem dX0_weight_3 : decode cX0_weight 3 = .ok (.iload_n 1, 1) := dk_27 (dk_at dksX0_weight_0 3 rfl rfl)
theorem dX0_weight_4 : decode cX0_weight 4 = .ok (.invokevirtual 25, 3) := dk_182 0 25 (dk_at dksX0_weight_0 4 rfl rfl)
theorem dX0_weight_7 : decode cX0_weight 7 = .ok (.i2l, 1) := dk_133 (dk_at dksX0_weight_0 7 rfl rfl)
theorem dX0_weight_8 : decode cX0_weight 8 = .ok (.lastore, 1) := dk_80 (dk_at dksX0_weight_0 8 rfl rfl)
theorem dX0_weight_9 : decode cX0_weight 9 = .ok (.goto 6, 3) := dk_167 0 6 (dk_at dksX0_weight_0 9 rfl rfl)
theorem dX0_weight_12 : decode cX0_weight 12 = .ok (.astore_n 3, 1) := dk_78 (dk_at dksX0_weight_0 12 rfl rfl)
theorem dX0_weight_13 : decode cX0_weight 13 = .ok (.iconst 1, 1) := dk_4 (dk_at dksX0_weight_0 13 rfl rfl)
theorem dX0_weight_14 : decode cX0_weight 14 = .ok (.ireturn, 1) := dk_172 (dk_at dksX0_weight_0 14 rfl rfl)
theorem dX0_weight_15 : decode cX0_weight 15 = .ok (.iconst 0, 1) := dk_3 (dk_at dksX0_weight_0 15 rfl rfl)
theorem dX0_weight_16 : decode cX0_weight 16 = .ok (.ireturn, 1) := dk_172 (dk_at dksX0_weight_0 16 rfl rfl)
abbrev cX0_stackOf : ByteArray := method_6_code
def yX0_stackOf : MethodName := ⟨RX0, "stackOf", "(LQuaylock;I[J)I"⟩
def dkwX0_stackOf_0 : List UInt8 := [44, 3, 42, 27, 182, 0, 28, 133, 80, 167, 0, 6, 78, 4, 172, 3, 172]
abbrev dktX0_stackOf_0 : List UInt8 := dkwX0_stackOf_0 ++ []
theorem dksX0_stackOf_0 : cX0_stackOf.data.toList.drop 0 = dktX0_stackOf_0 := by decide +kernel
theorem dX0_stackOf_0 : decode cX0_stackOf 0 = .ok (.aload_n 2, 1) := dk_44 (dk_at dksX0_stackOf_0 0 rfl rfl)
theorem dX0_stackOf_1 : decode cX0_stackOf 1 = .ok (.iconst 0, 1) := dk_3 (dk_at dksX0_stackOf_0 1 rfl rfl)
theorem dX0_stackOf_2 : decode cX0_stackOf 2 = .ok (.aload_n 0, 1) := dk_42 (dk_at dksX0_stackOf_0 2 rfl rfl)
theorem dX0_stackOf_3 : decode cX0_stackOf 3 = .ok (.iload_n 1, 1) := dk_27 (dk_at dksX0_stackOf_0 3 rfl rfl)
theorem dX0_stackOf_4 : decode cX0_stackOf 4 = .ok (.invokevirtual 28, 3) := dk_182 0 28 (dk_at dksX0_stackOf_0 4 rfl rfl)
theorem dX0_stackOf_7 : decode cX0_stackOf 7 = .ok (.i2l, 1) := dk_133 (dk_at dksX0_stackOf_0 7 rfl rfl)
theorem dX0_stackOf_8 : decode cX0_stackOf 8 = .ok (.lastore, 1) := dk_80 (dk_at dksX0_stackOf_0 8 rfl rfl)
theorem dX0_stackOf_9 : decode cX0_stackOf 9 = .ok (.goto 6, 3) := dk_167 0 6 (dk_at dksX0_stackOf_0 9 rfl rfl)
theorem dX0_stackOf_12 : decode cX0_stackOf 12 = .ok (.astore_n 3, 1) := dk_78 (dk_at dksX0_stackOf_0 12 rfl rfl)
theorem dX0_stackOf_13 : decode cX0_stackOf 13 = .ok (.iconst 1, 1) := dk_4 (dk_at dksX0_stackOf_0 13 rfl rfl)
theorem dX0_stackOf_14 : decode cX0_stackOf 14 = .ok (.ireturn, 1) := dk_172 (dk_at dksX0_stackOf_0 14 rfl rfl)
theorem dX0_stackOf_15 : decode cX0_stackOf 15 = .ok (.iconst 0, 1) := dk_3 (dk_at dksX0_stackOf_0 15 rfl rfl)
theorem dX0_stackOf_16 : decode cX0_stackOf 16 = .ok (.ireturn, 1) := dk_172 (dk_at dksX0_stackOf_0 16 rfl rfl)
abbrev cX0_level : ByteArray := method_7_code
def yX0_level : MethodName := ⟨RX0, "level", "(LQuaylock;I[J)I"⟩
def dkwX0_level_0 : List UInt8 := [44, 3, 42, 27, 182, 0, 31, 133, 80, 167, 0, 6, 78, 4, 172, 3, 172]
abbrev dktX0_level_0 : List UInt8 := dkwX0_level_0 ++ []
theorem dksX0_level_0 : cX0_level.data.toList.drop 0 = dktX0_level_0 := by decide +kernel
theorem dX0_level_0 : decode cX0_level 0 = .ok (.aload_n 2, 1) := dk_44 (dk_at dksX0_level_0 0 rfl rfl)
theorem dX0_level_1 : decode cX0_level 1 = .ok (.iconst 0, 1) := dk_3 (dk_at dksX0_level_0 1 rfl rfl)
theorem dX0_level_2 : decode cX0_level 2 = .ok (.aload_n 0, 1) := dk_42 (dk_at dksX0_level_0 2 rfl rfl)
theorem dX0_level_3 : decode cX0_level 3 = .ok (.iload_n 1, 1) := dk_27 (dk_at dksX0_level_0 3 rfl rfl)
theorem dX0_level_4 : decode cX0_level 4 = .ok (.invokevirtual 31, 3) := dk_182 0 31 (dk_at dksX0_level_0 4 rfl rfl)
theorem dX0_level_7 : decode cX0_level 7 = .ok (.i2l, 1) := dk_133 (dk_at dksX0_level_0 7 rfl rfl)
theorem dX0_level_8 : decode cX0_level 8 = .ok (.lastore, 1) := dk_80 (dk_at dksX0_level_0 8 rfl rfl)
theorem dX0_level_9 : decode cX0_level 9 = .ok (.goto 6, 3) := dk_167 0 6 (dk_at dksX0_level_0 9 rfl rfl)
theorem dX0_level_12 : decode cX0_level 12 = .ok (.astore_n 3, 1) := dk_78 (dk_at dksX0_level_0 12 rfl rfl)
theorem dX0_level_13 : decode cX0_level 13 = .ok (.iconst 1, 1) := dk_4 (dk_at dksX0_level_0 13 rfl rfl)
theorem dX0_level_14 : decode cX0_level 14 = .ok (.ireturn, 1) := dk_172 (dk_at dksX0_level_0 14 rfl rfl)
theorem dX0_level_15 : decode cX0_level 15 = .ok (.iconst 0, 1) := dk_3 (dk_at dksX0_level_0 15 rfl rfl)
theorem dX0_level_16 : decode cX0_level 16 = .ok (.ireturn, 1) := dk_172 (dk_at dksX0_level_0 16 rfl rfl)
abbrev cX0_above : ByteArray := method_8_code
def yX0_above : MethodName := ⟨RX0, "above", "(LQuaylock;I[J)I"⟩
def dkwX0_above_0 : List UInt8 := [44, 3, 42, 27, 182, 0, 34, 133, 80, 167, 0, 6, 78, 4, 172, 3, 172]
abbrev dktX0_above_0 : List UInt8 := dkwX0_above_0 ++ []
theorem dksX0_above_0 : cX0_above.data.toList.drop 0 = dktX0_above_0 := by decide +kernel
theorem dX0_above_0 : decode cX0_above 0 = .ok (.aload_n 2, 1) := dk_44 (dk_at dksX0_above_0 0 rfl rfl)
theorem dX0_above_1 : decode cX0_above 1 = .ok (.iconst 0, 1) := dk_3 (dk_at dksX0_above_0 1 rfl rfl)
theorem dX0_above_2 : decode cX0_above 2 = .ok (.aload_n 0, 1) := dk_42 (dk_at dksX0_above_0 2 rfl rfl)
theorem dX0_above_3 : decode cX0_above 3 = .ok (.iload_n 1, 1) := dk_27 (dk_at dksX0_above_0 3 rfl rfl)
theorem dX0_above_4 : decode cX0_above 4 = .ok (.invokevirtual 34, 3) := dk_182 0 34 (dk_at dksX0_above_0 4 rfl rfl)
theorem dX0_above_7 : decode cX0_above 7 = .ok (.i2l, 1) := dk_133 (dk_at dksX0_above_0 7 rfl rfl)
theorem dX0_above_8 : decode cX0_above 8 = .ok (.lastore, 1) := dk_80 (dk_at dksX0_above_0 8 rfl rfl)
theorem dX0_above_9 : decode cX0_above 9 = .ok (.goto 6, 3) := dk_167 0 6 (dk_at dksX0_above_0 9 rfl rfl)
theorem dX0_above_12 : decode cX0_above 12 = .ok (.astore_n 3, 1) := dk_78 (dk_at dksX0_above_0 12 rfl rfl)
theorem dX0_above_13 : decode cX0_above 13 = .ok (.iconst 1, 1) := dk_4 (dk_at dksX0_above_0 13 rfl rfl)
theorem dX0_above_14 : decode cX0_above 14 = .ok (.ireturn, 1) := dk_172 (dk_at dksX0_above_0 14 rfl rfl)
theorem dX0_above_15 : decode cX0_above 15 = .ok (.iconst 0, 1) := dk_3 (dk_at dksX0_above_0 15 rfl rfl)
theorem dX0_above_16 : decode cX0_above 16 = .ok (.ireturn, 1) := dk_172 (dk_at dksX0_above_0 16 rfl rfl)
abbrev cX0_height : ByteArray := method_9_code
def yX0_height : MethodName := ⟨RX0, "height", "(LQuaylock;I[J)I"⟩
def dkwX0_height_0 : List UInt8 := [44, 3, 42, 27, 182, 0, 37, 133, 80, 167, 0, 6, 78, 4, 172, 3, 172]
abbrev dktX0_height_0 : List UInt8 := dkwX0_height_0 ++ []
theorem dksX0_height_0 : cX0_height.data.toList.drop 0 = dktX0_height_0 := by decide +kernel
theorem dX0_height_0 : decode cX0_height 0 = .ok (.aload_n 2, 1) := dk_44 (dk_at dksX0_height_0 0 rfl rfl)
theorem dX0_height_1 : decode cX0_height 1 = .ok (.iconst 0, 1) := dk_3 (dk_at dksX0_height_0 1 rfl rfl)
theorem dX0_height_2 : decode cX0_height 2 = .ok (.aload_n 0, 1) := dk_42 (dk_at dksX0_height_0 2 rfl rfl)
theorem dX0_height_3 : decode cX0_height 3 = .ok (.iload_n 1, 1) := dk_27 (dk_at dksX0_height_0 3 rfl rfl)
theorem dX0_height_4 : decode cX0_height 4 = .ok (.invokevirtual 37, 3) := dk_182 0 37 (dk_at dksX0_height_0 4 rfl rfl)
theorem dX0_height_7 : decode cX0_height 7 = .ok (.i2l, 1) := dk_133 (dk_at dksX0_height_0 7 rfl rfl)
theorem dX0_height_8 : decode cX0_height 8 = .ok (.lastore, 1) := dk_80 (dk_at dksX0_height_0 8 rfl rfl)
theorem dX0_height_9 : decode cX0_height 9 = .ok (.goto 6, 3) := dk_167 0 6 (dk_at dksX0_height_0 9 rfl rfl)
theorem dX0_height_12 : decode cX0_height 12 = .ok (.astore_n 3, 1) := dk_78 (dk_at dksX0_height_0 12 rfl rfl)
theorem dX0_height_13 : decode cX0_height 13 = .ok (.iconst 1, 1) := dk_4 (dk_at dksX0_height_0 13 rfl rfl)
theorem dX0_height_14 : decode cX0_height 14 = .ok (.ireturn, 1) := dk_172 (dk_at dksX0_height_0 14 rfl rfl)
theorem dX0_height_15 : decode cX0_height 15 = .ok (.iconst 0, 1) := dk_3 (dk_at dksX0_height_0 15 rfl rfl)
theorem dX0_height_16 : decode cX0_height 16 = .ok (.ireturn, 1) := dk_172 (dk_at dksX0_height_0 16 rfl rfl)
abbrev cX0_boxAt : ByteArray := method_10_code
def yX0_boxAt : MethodName := ⟨RX0, "boxAt", "(LQuaylock;II[J)I"⟩
def dkwX0_boxAt_0 : List UInt8 := [45, 3, 42, 27, 28, 182, 0, 40, 133, 80, 167, 0, 11, 58, 4, 4, 172, 58, 4, 5, 172, 3, 172]
abbrev dktX0_boxAt_0 : List UInt8 := dkwX0_boxAt_0 ++ []
theorem dksX0_boxAt_0 : cX0_boxAt.data.toList.drop 0 = dktX0_boxAt_0 := by decide +kernel
theorem dX0_boxAt_0 : decode cX0_boxAt 0 = .ok (.aload_n 3, 1) := dk_45 (dk_at dksX0_boxAt_0 0 rfl rfl)
theorem dX0_boxAt_1 : decode cX0_boxAt 1 = .ok (.iconst 0, 1) := dk_3 (dk_at dksX0_boxAt_0 1 rfl rfl)
theorem dX0_boxAt_2 : decode cX0_boxAt 2 = .ok (.aload_n 0, 1) := dk_42 (dk_at dksX0_boxAt_0 2 rfl rfl)
theorem dX0_boxAt_3 : decode cX0_boxAt 3 = .ok (.iload_n 1, 1) := dk_27 (dk_at dksX0_boxAt_0 3 rfl rfl)
theorem dX0_boxAt_4 : decode cX0_boxAt 4 = .ok (.iload_n 2, 1) := dk_28 (dk_at dksX0_boxAt_0 4 rfl rfl)
theorem dX0_boxAt_5 : decode cX0_boxAt 5 = .ok (.invokevirtual 40, 3) := dk_182 0 40 (dk_at dksX0_boxAt_0 5 rfl rfl)
theorem dX0_boxAt_8 : decode cX0_boxAt 8 = .ok (.i2l, 1) := dk_133 (dk_at dksX0_boxAt_0 8 rfl rfl)
theorem dX0_boxAt_9 : decode cX0_boxAt 9 = .ok (.lastore, 1) := dk_80 (dk_at dksX0_boxAt_0 9 rfl rfl)
theorem dX0_boxAt_10 : decode cX0_boxAt 10 = .ok (.goto 11, 3) := dk_167 0 11 (dk_at dksX0_boxAt_0 10 rfl rfl)
theorem dX0_boxAt_13 : decode cX0_boxAt 13 = .ok (.astore 4, 2) := dk_58 4 (dk_at dksX0_boxAt_0 13 rfl rfl)
theorem dX0_boxAt_15 : decode cX0_boxAt 15 = .ok (.iconst 1, 1) := dk_4 (dk_at dksX0_boxAt_0 15 rfl rfl)
theorem dX0_boxAt_16 : decode cX0_boxAt 16 = .ok (.ireturn, 1) := dk_172 (dk_at dksX0_boxAt_0 16 rfl rfl)
theorem dX0_boxAt_17 : decode cX0_boxAt 17 = .ok (.astore 4, 2) := dk_58 4 (dk_at dksX0_boxAt_0 17 rfl rfl)
theorem dX0_boxAt_19 : decode cX0_boxAt 19 = .ok (.iconst 2, 1) := dk_5 (dk_at dksX0_boxAt_0 19 rfl rfl)
theorem dX0_boxAt_20 : decode cX0_boxAt 20 = .ok (.ireturn, 1) := dk_172 (dk_at dksX0_boxAt_0 20 rfl rfl)
theorem dX0_boxAt_21 : decode cX0_boxAt 21 = .ok (.iconst 0, 1) := dk_3 (dk_at dksX0_boxAt_0 21 rfl rfl)
theorem dX0_boxAt_22 : decode cX0_boxAt 22 = .ok (.ireturn, 1) := dk_172 (dk_at dksX0_boxAt_0 22 rfl rfl)
abbrev cX0_hold : ByteArray := method_11_code
def yX0_hold : MethodName := ⟨RX0, "hold", "(LQuaylock;ICI[J)I"⟩
def dkwX0_hold_1 : List UInt8 := [172]
abbrev dktX0_hold_1 : List UInt8 := dkwX0_hold_1 ++ []
def dkwX0_hold_0 : List UInt8 := [25, 4, 3, 42, 27, 28, 29, 182, 0, 45, 133, 80, 167, 0, 11, 58, 5, 4, 172, 58, 5, 5, 172, 3]
abbrev dktX0_hold_0 : List UInt8 := dkwX0_hold_0 ++ dktX0_hold_1
theorem dksX0_hold_0 : cX0_hold.data.toList.drop 0 = dktX0_hold_0 := by decide +kernel
theorem dksX0_hold_1 : cX0_hold.data.toList.drop 24 = dktX0_hold_1 := dk_seg dksX0_hold_0 24 rfl rfl
theorem dX0_hold_0 : decode cX0_hold 0 = .ok (.aload 4, 2) := dk_25 4 (dk_at dksX0_hold_0 0 rfl rfl)
theorem dX0_hold_2 : decode cX0_hold 2 = .ok (.iconst 0, 1) := dk_3 (dk_at dksX0_hold_0 2 rfl rfl)
theorem dX0_hold_3 : decode cX0_hold 3 = .ok (.aload_n 0, 1) := dk_42 (dk_at dksX0_hold_0 3 rfl rfl)
theorem dX0_hold_4 : decode cX0_hold 4 = .ok (.iload_n 1, 1) := dk_27 (dk_at dksX0_hold_0 4 rfl rfl)
theorem dX0_hold_5 : decode cX0_hold 5 = .ok (.iload_n 2, 1) := dk_28 (dk_at dksX0_hold_0 5 rfl rfl)
theorem dX0_hold_6 : decode cX0_hold 6 = .ok (.iload_n 3, 1) := dk_29 (dk_at dksX0_hold_0 6 rfl rfl)
theorem dX0_hold_7 : decode cX0_hold 7 = .ok (.invokevirtual 45, 3) := dk_182 0 45 (dk_at dksX0_hold_0 7 rfl rfl)
theorem dX0_hold_10 : decode cX0_hold 10 = .ok (.i2l, 1) := dk_133 (dk_at dksX0_hold_0 10 rfl rfl)
theorem dX0_hold_11 : decode cX0_hold 11 = .ok (.lastore, 1) := dk_80 (dk_at dksX0_hold_0 11 rfl rfl)
theorem dX0_hold_12 : decode cX0_hold 12 = .ok (.goto 11, 3) := dk_167 0 11 (dk_at dksX0_hold_0 12 rfl rfl)
theorem dX0_hold_15 : decode cX0_hold 15 = .ok (.astore 5, 2) := dk_58 5 (dk_at dksX0_hold_0 15 rfl rfl)
theorem dX0_hold_17 : decode cX0_hold 17 = .ok (.iconst 1, 1) := dk_4 (dk_at dksX0_hold_0 17 rfl rfl)
theorem dX0_hold_18 : decode cX0_hold 18 = .ok (.ireturn, 1) := dk_172 (dk_at dksX0_hold_0 18 rfl rfl)
theorem dX0_hold_19 : decode cX0_hold 19 = .ok (.astore 5, 2) := dk_58 5 (dk_at dksX0_hold_0 19 rfl rfl)
theorem dX0_hold_21 : decode cX0_hold 21 = .ok (.iconst 2, 1) := dk_5 (dk_at dksX0_hold_0 21 rfl rfl)
theorem dX0_hold_22 : decode cX0_hold 22 = .ok (.ireturn, 1) := dk_172 (dk_at dksX0_hold_0 22 rfl rfl)
theorem dX0_hold_23 : decode cX0_hold 23 = .ok (.iconst 0, 1) := dk_3 (dk_at dksX0_hold_0 23 rfl rfl)
theorem dX0_hold_24 : decode cX0_hold 24 = .ok (.ireturn, 1) := dk_172 (dk_at dksX0_hold_1 0 rfl rfl)
abbrev cX0_release : ByteArray := method_12_code
def yX0_release : MethodName := ⟨RX0, "release", "(LQuaylock;I[J)I"⟩
def dkwX0_release_0 : List UInt8 := [44, 3, 42, 27, 182, 0, 49, 133, 80, 167, 0, 9, 78, 4, 172, 78, 5, 172, 3, 172]
abbrev dktX0_release_0 : List UInt8 := dkwX0_release_0 ++ []
theorem dksX0_release_0 : cX0_release.data.toList.drop 0 = dktX0_release_0 := by decide +kernel
theorem dX0_release_0 : decode cX0_release 0 = .ok (.aload_n 2, 1) := dk_44 (dk_at dksX0_release_0 0 rfl rfl)
theorem dX0_release_1 : decode cX0_release 1 = .ok (.iconst 0, 1) := dk_3 (dk_at dksX0_release_0 1 rfl rfl)
theorem dX0_release_2 : decode cX0_release 2 = .ok (.aload_n 0, 1) := dk_42 (dk_at dksX0_release_0 2 rfl rfl)
theorem dX0_release_3 : decode cX0_release 3 = .ok (.iload_n 1, 1) := dk_27 (dk_at dksX0_release_0 3 rfl rfl)
theorem dX0_release_4 : decode cX0_release 4 = .ok (.invokevirtual 49, 3) := dk_182 0 49 (dk_at dksX0_release_0 4 rfl rfl)
theorem dX0_release_7 : decode cX0_release 7 = .ok (.i2l, 1) := dk_133 (dk_at dksX0_release_0 7 rfl rfl)
theorem dX0_release_8 : decode cX0_release 8 = .ok (.lastore, 1) := dk_80 (dk_at dksX0_release_0 8 rfl rfl)
theorem dX0_release_9 : decode cX0_release 9 = .ok (.goto 9, 3) := dk_167 0 9 (dk_at dksX0_release_0 9 rfl rfl)
theorem dX0_release_12 : decode cX0_release 12 = .ok (.astore_n 3, 1) := dk_78 (dk_at dksX0_release_0 12 rfl rfl)
theorem dX0_release_13 : decode cX0_release 13 = .ok (.iconst 1, 1) := dk_4 (dk_at dksX0_release_0 13 rfl rfl)
theorem dX0_release_14 : decode cX0_release 14 = .ok (.ireturn, 1) := dk_172 (dk_at dksX0_release_0 14 rfl rfl)
theorem dX0_release_15 : decode cX0_release 15 = .ok (.astore_n 3, 1) := dk_78 (dk_at dksX0_release_0 15 rfl rfl)
theorem dX0_release_16 : decode cX0_release 16 = .ok (.iconst 2, 1) := dk_5 (dk_at dksX0_release_0 16 rfl rfl)
theorem dX0_release_17 : decode cX0_release 17 = .ok (.ireturn, 1) := dk_172 (dk_at dksX0_release_0 17 rfl rfl)
theorem dX0_release_18 : decode cX0_release 18 = .ok (.iconst 0, 1) := dk_3 (dk_at dksX0_release_0 18 rfl rfl)
theorem dX0_release_19 : decode cX0_release 19 = .ok (.ireturn, 1) := dk_172 (dk_at dksX0_release_0 19 rfl rfl)
abbrev cX0_holdOf : ByteArray := method_13_code
def yX0_holdOf : MethodName := ⟨RX0, "holdOf", "(LQuaylock;I[J)I"⟩
def dkwX0_holdOf_0 : List UInt8 := [44, 3, 42, 27, 182, 0, 52, 133, 80, 167, 0, 6, 78, 4, 172, 3, 172]
abbrev dktX0_holdOf_0 : List UInt8 := dkwX0_holdOf_0 ++ []
theorem dksX0_holdOf_0 : cX0_holdOf.data.toList.drop 0 = dktX0_holdOf_0 := by decide +kernel
theorem dX0_holdOf_0 : decode cX0_holdOf 0 = .ok (.aload_n 2, 1) := dk_44 (dk_at dksX0_holdOf_0 0 rfl rfl)
theorem dX0_holdOf_1 : decode cX0_holdOf 1 = .ok (.iconst 0, 1) := dk_3 (dk_at dksX0_holdOf_0 1 rfl rfl)
theorem dX0_holdOf_2 : decode cX0_holdOf 2 = .ok (.aload_n 0, 1) := dk_42 (dk_at dksX0_holdOf_0 2 rfl rfl)
theorem dX0_holdOf_3 : decode cX0_holdOf 3 = .ok (.iload_n 1, 1) := dk_27 (dk_at dksX0_holdOf_0 3 rfl rfl)
theorem dX0_holdOf_4 : decode cX0_holdOf 4 = .ok (.invokevirtual 52, 3) := dk_182 0 52 (dk_at dksX0_holdOf_0 4 rfl rfl)
theorem dX0_holdOf_7 : decode cX0_holdOf 7 = .ok (.i2l, 1) := dk_133 (dk_at dksX0_holdOf_0 7 rfl rfl)
theorem dX0_holdOf_8 : decode cX0_holdOf 8 = .ok (.lastore, 1) := dk_80 (dk_at dksX0_holdOf_0 8 rfl rfl)
theorem dX0_holdOf_9 : decode cX0_holdOf 9 = .ok (.goto 6, 3) := dk_167 0 6 (dk_at dksX0_holdOf_0 9 rfl rfl)
theorem dX0_holdOf_12 : decode cX0_holdOf 12 = .ok (.astore_n 3, 1) := dk_78 (dk_at dksX0_holdOf_0 12 rfl rfl)
theorem dX0_holdOf_13 : decode cX0_holdOf 13 = .ok (.iconst 1, 1) := dk_4 (dk_at dksX0_holdOf_0 13 rfl rfl)
theorem dX0_holdOf_14 : decode cX0_holdOf 14 = .ok (.ireturn, 1) := dk_172 (dk_at dksX0_holdOf_0 14 rfl rfl)
theorem dX0_holdOf_15 : decode cX0_holdOf 15 = .ok (.iconst 0, 1) := dk_3 (dk_at dksX0_holdOf_0 15 rfl rfl)
theorem dX0_holdOf_16 : decode cX0_holdOf 16 = .ok (.ireturn, 1) := dk_172 (dk_at dksX0_holdOf_0 16 rfl rfl)
abbrev cX0_heldUntil : ByteArray := method_14_code
def yX0_heldUntil : MethodName := ⟨RX0, "heldUntil", "(LQuaylock;I[J)I"⟩
def dkwX0_heldUntil_0 : List UInt8 := [44, 3, 42, 27, 182, 0, 56, 133, 80, 167, 0, 9, 78, 4, 172, 78, 5, 172, 3, 172]
abbrev dktX0_heldUntil_0 : List UInt8 := dkwX0_heldUntil_0 ++ []
theorem dksX0_heldUntil_0 : cX0_heldUntil.data.toList.drop 0 = dktX0_heldUntil_0 := by decide +kernel
theorem dX0_heldUntil_0 : decode cX0_heldUntil 0 = .ok (.aload_n 2, 1) := dk_44 (dk_at dksX0_heldUntil_0 0 rfl rfl)
theorem dX0_heldUntil_1 : decode cX0_heldUntil 1 = .ok (.iconst 0, 1) := dk_3 (dk_at dksX0_heldUntil_0 1 rfl rfl)
theorem dX0_heldUntil_2 : decode cX0_heldUntil 2 = .ok (.aload_n 0, 1) := dk_42 (dk_at dksX0_heldUntil_0 2 rfl rfl)
theorem dX0_heldUntil_3 : decode cX0_heldUntil 3 = .ok (.iload_n 1, 1) := dk_27 (dk_at dksX0_heldUntil_0 3 rfl rfl)
theorem dX0_heldUntil_4 : decode cX0_heldUntil 4 = .ok (.invokevirtual 56, 3) := dk_182 0 56 (dk_at dksX0_heldUntil_0 4 rfl rfl)
theorem dX0_heldUntil_7 : decode cX0_heldUntil 7 = .ok (.i2l, 1) := dk_133 (dk_at dksX0_heldUntil_0 7 rfl rfl)
theorem dX0_heldUntil_8 : decode cX0_heldUntil 8 = .ok (.lastore, 1) := dk_80 (dk_at dksX0_heldUntil_0 8 rfl rfl)
theorem dX0_heldUntil_9 : decode cX0_heldUntil 9 = .ok (.goto 9, 3) := dk_167 0 9 (dk_at dksX0_heldUntil_0 9 rfl rfl)
theorem dX0_heldUntil_12 : decode cX0_heldUntil 12 = .ok (.astore_n 3, 1) := dk_78 (dk_at dksX0_heldUntil_0 12 rfl rfl)
theorem dX0_heldUntil_13 : decode cX0_heldUntil 13 = .ok (.iconst 1, 1) := dk_4 (dk_at dksX0_heldUntil_0 13 rfl rfl)
theorem dX0_heldUntil_14 : decode cX0_heldUntil 14 = .ok (.ireturn, 1) := dk_172 (dk_at dksX0_heldUntil_0 14 rfl rfl)
theorem dX0_heldUntil_15 : decode cX0_heldUntil 15 = .ok (.astore_n 3, 1) := dk_78 (dk_at dksX0_heldUntil_0 15 rfl rfl)
theorem dX0_heldUntil_16 : decode cX0_heldUntil 16 = .ok (.iconst 2, 1) := dk_5 (dk_at dksX0_heldUntil_0 16 rfl rfl)
theorem dX0_heldUntil_17 : decode cX0_heldUntil 17 = .ok (.ireturn, 1) := dk_172 (dk_at dksX0_heldUntil_0 17 rfl rfl)
theorem dX0_heldUntil_18 : decode cX0_heldUntil 18 = .ok (.iconst 0, 1) := dk_3 (dk_at dksX0_heldUntil_0 18 rfl rfl)
theorem dX0_heldUntil_19 : decode cX0_heldUntil 19 = .ok (.ireturn, 1) := dk_172 (dk_at dksX0_heldUntil_0 19 rfl rfl)
abbrev cX0_pinnedAbove : ByteArray := method_15_code
def yX0_pinnedAbove : MethodName := ⟨RX0, "pinnedAbove", "(LQuaylock;I[J)I"⟩
def dkwX0_pinnedAbove_0 : List UInt8 := [44, 3, 42, 27, 182, 0, 59, 133, 80, 167, 0, 6, 78, 4, 172, 3, 172]
abbrev dktX0_pinnedAbove_0 : List UInt8 := dkwX0_pinnedAbove_0 ++ []
theorem dksX0_pinnedAbove_0 : cX0_pinnedAbove.data.toList.drop 0 = dktX0_pinnedAbove_0 := by decide +kernel
theorem dX0_pinnedAbove_0 : decode cX0_pinnedAbove 0 = .ok (.aload_n 2, 1) := dk_44 (dk_at dksX0_pinnedAbove_0 0 rfl rfl)
theorem dX0_pinnedAbove_1 : decode cX0_pinnedAbove 1 = .ok (.iconst 0, 1) := dk_3 (dk_at dksX0_pinnedAbove_0 1 rfl rfl)
theorem dX0_pinnedAbove_2 : decode cX0_pinnedAbove 2 = .ok (.aload_n 0, 1) := dk_42 (dk_at dksX0_pinnedAbove_0 2 rfl rfl)
theorem dX0_pinnedAbove_3 : decode cX0_pinnedAbove 3 = .ok (.iload_n 1, 1) := dk_27 (dk_at dksX0_pinnedAbove_0 3 rfl rfl)
theorem dX0_pinnedAbove_4 : decode cX0_pinnedAbove 4 = .ok (.invokevirtual 59, 3) := dk_182 0 59 (dk_at dksX0_pinnedAbove_0 4 rfl rfl)
theorem dX0_pinnedAbove_7 : decode cX0_pinnedAbove 7 = .ok (.i2l, 1) := dk_133 (dk_at dksX0_pinnedAbove_0 7 rfl rfl)
theorem dX0_pinnedAbove_8 : decode cX0_pinnedAbove 8 = .ok (.lastore, 1) := dk_80 (dk_at dksX0_pinnedAbove_0 8 rfl rfl)
theorem dX0_pinnedAbove_9 : decode cX0_pinnedAbove 9 = .ok (.goto 6, 3) := dk_167 0 6 (dk_at dksX0_pinnedAbove_0 9 rfl rfl)
theorem dX0_pinnedAbove_12 : decode cX0_pinnedAbove 12 = .ok (.astore_n 3, 1) := dk_78 (dk_at dksX0_pinnedAbove_0 12 rfl rfl)
theorem dX0_pinnedAbove_13 : decode cX0_pinnedAbove 13 = .ok (.iconst 1, 1) := dk_4 (dk_at dksX0_pinnedAbove_0 13 rfl rfl)
theorem dX0_pinnedAbove_14 : decode cX0_pinnedAbove 14 = .ok (.ireturn, 1) := dk_172 (dk_at dksX0_pinnedAbove_0 14 rfl rfl)
theorem dX0_pinnedAbove_15 : decode cX0_pinnedAbove 15 = .ok (.iconst 0, 1) := dk_3 (dk_at dksX0_pinnedAbove_0 15 rfl rfl)
theorem dX0_pinnedAbove_16 : decode cX0_pinnedAbove 16 = .ok (.ireturn, 1) := dk_172 (dk_at dksX0_pinnedAbove_0 16 rfl rfl)
abbrev cX0_why : ByteArray := method_16_code
def yX0_why : MethodName := ⟨RX0, "why", "(LQuaylock;II[J)I"⟩
def dkwX0_why_0 : List UInt8 := [45, 3, 42, 27, 28, 182, 0, 62, 133, 80, 167, 0, 7, 58, 4, 4, 172, 3, 172]
abbrev dktX0_why_0 : List UInt8 := dkwX0_why_0 ++ []
theorem dksX0_why_0 : cX0_why.data.toList.drop 0 = dktX0_why_0 := by decide +kernel
theorem dX0_why_0 : decode cX0_why 0 = .ok (.aload_n 3, 1) := dk_45 (dk_at dksX0_why_0 0 rfl rfl)
theorem dX0_why_1 : decode cX0_why 1 = .ok (.iconst 0, 1) := dk_3 (dk_at dksX0_why_0 1 rfl rfl)
theorem dX0_why_2 : decode cX0_why 2 = .ok (.aload_n 0, 1) := dk_42 (dk_at dksX0_why_0 2 rfl rfl)
theorem dX0_why_3 : decode cX0_why 3 = .ok (.iload_n 1, 1) := dk_27 (dk_at dksX0_why_0 3 rfl rfl)
theorem dX0_why_4 : decode cX0_why 4 = .ok (.iload_n 2, 1) := dk_28 (dk_at dksX0_why_0 4 rfl rfl)
theorem dX0_why_5 : decode cX0_why 5 = .ok (.invokevirtual 62, 3) := dk_182 0 62 (dk_at dksX0_why_0 5 rfl rfl)
theorem dX0_why_8 : decode cX0_why 8 = .ok (.i2l, 1) := dk_133 (dk_at dksX0_why_0 8 rfl rfl)
theorem dX0_why_9 : decode cX0_why 9 = .ok (.lastore, 1) := dk_80 (dk_at dksX0_why_0 9 rfl rfl)
theorem dX0_why_10 : decode cX0_why 10 = .ok (.goto 7, 3) := dk_167 0 7 (dk_at dksX0_why_0 10 rfl rfl)
theorem dX0_why_13 : decode cX0_why 13 = .ok (.astore 4, 2) := dk_58 4 (dk_at dksX0_why_0 13 rfl rfl)
theorem dX0_why_15 : decode cX0_why 15 = .ok (.iconst 1, 1) := dk_4 (dk_at dksX0_why_0 15 rfl rfl)
theorem dX0_why_16 : decode cX0_why 16 = .ok (.ireturn, 1) := dk_172 (dk_at dksX0_why_0 16 rfl rfl)
theorem dX0_why_17 : decode cX0_why 17 = .ok (.iconst 0, 1) := dk_3 (dk_at dksX0_why_0 17 rfl rfl)
theorem dX0_why_18 : decode cX0_why 18 = .ok (.ireturn, 1) := dk_172 (dk_at dksX0_why_0 18 rfl rfl)
abbrev cX0_move : ByteArray := method_17_code
def yX0_move : MethodName := ⟨RX0, "move", "(LQuaylock;II[J)I"⟩
def dkwX0_move_0 : List UInt8 := [45, 3, 42, 27, 28, 182, 0, 66, 133, 80, 167, 0, 11, 58, 4, 4, 172, 58, 4, 5, 172, 3, 172]
abbrev dktX0_move_0 : List UInt8 := dkwX0_move_0 ++ []
theorem dksX0_move_0 : cX0_move.data.toList.drop 0 = dktX0_move_0 := by decide +kernel
theorem dX0_move_0 : decode cX0_move 0 = .ok (.aload_n 3, 1) := dk_45 (dk_at dksX0_move_0 0 rfl rfl)
theorem dX0_move_1 : decode cX0_move 1 = .ok (.iconst 0, 1) := dk_3 (dk_at dksX0_move_0 1 rfl rfl)
theorem dX0_move_2 : decode cX0_move 2 = .ok (.aload_n 0, 1) := dk_42 (dk_at dksX0_move_0 2 rfl rfl)
theorem dX0_move_3 : decode cX0_move 3 = .ok (.iload_n 1, 1) := dk_27 (dk_at dksX0_move_0 3 rfl rfl)
theorem dX0_move_4 : decode cX0_move 4 = .ok (.iload_n 2, 1) := dk_28 (dk_at dksX0_move_0 4 rfl rfl)
theorem dX0_move_5 : decode cX0_move 5 = .ok (.invokevirtual 66, 3) := dk_182 0 66 (dk_at dksX0_move_0 5 rfl rfl)
theorem dX0_move_8 : decode cX0_move 8 = .ok (.i2l, 1) := dk_133 (dk_at dksX0_move_0 8 rfl rfl)
theorem dX0_move_9 : decode cX0_move 9 = .ok (.lastore, 1) := dk_80 (dk_at dksX0_move_0 9 rfl rfl)
theorem dX0_move_10 : decode cX0_move 10 = .ok (.goto 11, 3) := dk_167 0 11 (dk_at dksX0_move_0 10 rfl rfl)
theorem dX0_move_13 : decode cX0_move 13 = .ok (.astore 4, 2) := dk_58 4 (dk_at dksX0_move_0 13 rfl rfl)
theorem dX0_move_15 : decode cX0_move 15 = .ok (.iconst 1, 1) := dk_4 (dk_at dksX0_move_0 15 rfl rfl)
theorem dX0_move_16 : decode cX0_move 16 = .ok (.ireturn, 1) := dk_172 (dk_at dksX0_move_0 16 rfl rfl)
theorem dX0_move_17 : decode cX0_move 17 = .ok (.astore 4, 2) := dk_58 4 (dk_at dksX0_move_0 17 rfl rfl)
theorem dX0_move_19 : decode cX0_move 19 = .ok (.iconst 2, 1) := dk_5 (dk_at dksX0_move_0 19 rfl rfl)
theorem dX0_move_20 : decode cX0_move 20 = .ok (.ireturn, 1) := dk_172 (dk_at dksX0_move_0 20 rfl rfl)
theorem dX0_move_21 : decode cX0_move 21 = .ok (.iconst 0, 1) := dk_3 (dk_at dksX0_move_0 21 rfl rfl)
theorem dX0_move_22 : decode cX0_move 22 = .ok (.ireturn, 1) := dk_172 (dk_at dksX0_move_0 22 rfl rfl)
abbrev cX0_planLength : ByteArray := method_18_code
def yX0_planLength : MethodName := ⟨RX0, "planLength", "(LQuaylock;I[J)I"⟩
def dkwX0_planLength_0 : List UInt8 := [44, 3, 42, 27, 182, 0, 69, 133, 80, 167, 0, 9, 78, 4, 172, 78, 5, 172, 3, 172]
abbrev dktX0_planLength_0 : List UInt8 := dkwX0_planLength_0 ++ []
theorem dksX0_planLength_0 : cX0_planLength.data.toList.drop 0 = dktX0_planLength_0 := by decide +kernel
theorem dX0_planLength_0 : decode cX0_planLength 0 = .ok (.aload_n 2, 1) := dk_44 (dk_at dksX0_planLength_0 0 rfl rfl)
theorem dX0_planLength_1 : decode cX0_planLength 1 = .ok (.iconst 0, 1) := dk_3 (dk_at dksX0_planLength_0 1 rfl rfl)
theorem dX0_planLength_2 : decode cX0_planLength 2 = .ok (.aload_n 0, 1) := dk_42 (dk_at dksX0_planLength_0 2 rfl rfl)
theorem dX0_planLength_3 : decode cX0_planLength 3 = .ok (.iload_n 1, 1) := dk_27 (dk_at dksX0_planLength_0 3 rfl rfl)
theorem dX0_planLength_4 : decode cX0_planLength 4 = .ok (.invokevirtual 69, 3) := dk_182 0 69 (dk_at dksX0_planLength_0 4 rfl rfl)
theorem dX0_planLength_7 : decode cX0_planLength 7 = .ok (.i2l, 1) := dk_133 (dk_at dksX0_planLength_0 7 rfl rfl)
theorem dX0_planLength_8 : decode cX0_planLength 8 = .ok (.lastore, 1) := dk_80 (dk_at dksX0_planLength_0 8 rfl rfl)
theorem dX0_planLength_9 : decode cX0_planLength 9 = .ok (.goto 9, 3) := dk_167 0 9 (dk_at dksX0_planLength_0 9 rfl rfl)
theorem dX0_planLength_12 : decode cX0_planLength 12 = .ok (.astore_n 3, 1) := dk_78 (dk_at dksX0_planLength_0 12 rfl rfl)
theorem dX0_planLength_13 : decode cX0_planLength 13 = .ok (.iconst 1, 1) := dk_4 (dk_at dksX0_planLength_0 13 rfl rfl)
theorem dX0_planLength_14 : decode cX0_planLength 14 = .ok (.ireturn, 1) := dk_172 (dk_at dksX0_planLength_0 14 rfl rfl)
theorem dX0_planLength_15 : decode cX0_planLength 15 = .ok (.astore_n 3, 1) := dk_78 (dk_at dksX0_planLength_0 15 rfl rfl)
theorem dX0_planLength_16 : decode cX0_planLength 16 = .ok (.iconst 2, 1) := dk_5 (dk_at dksX0_planLength_0 16 rfl rfl)
theorem dX0_planLength_17 : decode cX0_planLength 17 = .ok (.ireturn, 1) := dk_172 (dk_at dksX0_planLength_0 17 rfl rfl)
theorem dX0_planLength_18 : decode cX0_planLength 18 = .ok (.iconst 0, 1) := dk_3 (dk_at dksX0_planLength_0 18 rfl rfl)
theorem dX0_planLength_19 : decode cX0_planLength 19 = .ok (.ireturn, 1) := dk_172 (dk_at dksX0_planLength_0 19 rfl rfl)
abbrev cX0_planByTrying : ByteArray := method_19_code
def yX0_planByTrying : MethodName := ⟨RX0, "planByTrying", "(LQuaylock;I[J)I"⟩
def dkwX0_planByTrying_0 : List UInt8 := [44, 3, 42, 27, 182, 0, 72, 133, 80, 167, 0, 9, 78, 4, 172, 78, 5, 172, 3, 172]
abbrev dktX0_planByTrying_0 : List UInt8 := dkwX0_planByTrying_0 ++ []
theorem dksX0_planByTrying_0 : cX0_planByTrying.data.toList.drop 0 = dktX0_planByTrying_0 := by decide +kernel
theorem dX0_planByTrying_0 : decode cX0_planByTrying 0 = .ok (.aload_n 2, 1) := dk_44 (dk_at dksX0_planByTrying_0 0 rfl rfl)
theorem dX0_planByTrying_1 : decode cX0_planByTrying 1 = .ok (.iconst 0, 1) := dk_3 (dk_at dksX0_planByTrying_0 1 rfl rfl)
theorem dX0_planByTrying_2 : decode cX0_planByTrying 2 = .ok (.aload_n 0, 1) := dk_42 (dk_at dksX0_planByTrying_0 2 rfl rfl)
theorem dX0_planByTrying_3 : decode cX0_planByTrying 3 = .ok (.iload_n 1, 1) := dk_27 (dk_at dksX0_planByTrying_0 3 rfl rfl)
theorem dX0_planByTrying_4 : decode cX0_planByTrying 4 = .ok (.invokevirtual 72, 3) := dk_182 0 72 (dk_at dksX0_planByTrying_0 4 rfl rfl)
theorem dX0_planByTrying_7 : decode cX0_planByTrying 7 = .ok (.i2l, 1) := dk_133 (dk_at dksX0_planByTrying_0 7 rfl rfl)
theorem dX0_planByTrying_8 : decode cX0_planByTrying 8 = .ok (.lastore, 1) := dk_80 (dk_at dksX0_planByTrying_0 8 rfl rfl)
theorem dX0_planByTrying_9 : decode cX0_planByTrying 9 = .ok (.goto 9, 3) := dk_167 0 9 (dk_at dksX0_planByTrying_0 9 rfl rfl)
theorem dX0_planByTrying_12 : decode cX0_planByTrying 12 = .ok (.astore_n 3, 1) := dk_78 (dk_at dksX0_planByTrying_0 12 rfl rfl)
theorem dX0_planByTrying_13 : decode cX0_planByTrying 13 = .ok (.iconst 1, 1) := dk_4 (dk_at dksX0_planByTrying_0 13 rfl rfl)
theorem dX0_planByTrying_14 : decode cX0_planByTrying 14 = .ok (.ireturn, 1) := dk_172 (dk_at dksX0_planByTrying_0 14 rfl rfl)
theorem dX0_planByTrying_15 : decode cX0_planByTrying 15 = .ok (.astore_n 3, 1) := dk_78 (dk_at dksX0_planByTrying_0 15 rfl rfl)
theorem dX0_planByTrying_16 : decode cX0_planByTrying 16 = .ok (.iconst 2, 1) := dk_5 (dk_at dksX0_planByTrying_0 16 rfl rfl)
theorem dX0_planByTrying_17 : decode cX0_planByTrying 17 = .ok (.ireturn, 1) := dk_172 (dk_at dksX0_planByTrying_0 17 rfl rfl)
theorem dX0_planByTrying_18 : decode cX0_planByTrying 18 = .ok (.iconst 0, 1) := dk_3 (dk_at dksX0_planByTrying_0 18 rfl rfl)
theorem dX0_planByTrying_19 : decode cX0_planByTrying 19 = .ok (.ireturn, 1) := dk_172 (dk_at dksX0_planByTrying_0 19 rfl rfl)
abbrev cX0_planBox : ByteArray := method_20_code
def yX0_planBox : MethodName := ⟨RX0, "planBox", "(LQuaylock;II[J)I"⟩
def dkwX0_planBox_0 : List UInt8 := [45, 3, 42, 27, 28, 182, 0, 75, 133, 80, 167, 0, 11, 58, 4, 4, 172, 58, 4, 5, 172, 3, 172]
abbrev dktX0_planBox_0 : List UInt8 := dkwX0_planBox_0 ++ []
theorem dksX0_planBox_0 : cX0_planBox.data.toList.drop 0 = dktX0_planBox_0 := by decide +kernel
theorem dX0_planBox_0 : decode cX0_planBox 0 = .ok (.aload_n 3, 1) := dk_45 (dk_at dksX0_planBox_0 0 rfl rfl)
theorem dX0_planBox_1 : decode cX0_planBox 1 = .ok (.iconst 0, 1) := dk_3 (dk_at dksX0_planBox_0 1 rfl rfl)
theorem dX0_planBox_2 : decode cX0_planBox 2 = .ok (.aload_n 0, 1) := dk_42 (dk_at dksX0_planBox_0 2 rfl rfl)
theorem dX0_planBox_3 : decode cX0_planBox 3 = .ok (.iload_n 1, 1) := dk_27 (dk_at dksX0_planBox_0 3 rfl rfl)
theorem dX0_planBox_4 : decode cX0_planBox 4 = .ok (.iload_n 2, 1) := dk_28 (dk_at dksX0_planBox_0 4 rfl rfl)
theorem dX0_planBox_5 : decode cX0_planBox 5 = .ok (.invokevirtual 75, 3) := dk_182 0 75 (dk_at dksX0_planBox_0 5 rfl rfl)
theorem dX0_planBox_8 : decode cX0_planBox 8 = .ok (.i2l, 1) := dk_133 (dk_at dksX0_planBox_0 8 rfl rfl)
theorem dX0_planBox_9 : decode cX0_planBox 9 = .ok (.lastore, 1) := dk_80 (dk_at dksX0_planBox_0 9 rfl rfl)
theorem dX0_planBox_10 : decode cX0_planBox 10 = .ok (.goto 11, 3) := dk_167 0 11 (dk_at dksX0_planBox_0 10 rfl rfl)
theorem dX0_planBox_13 : decode cX0_planBox 13 = .ok (.astore 4, 2) := dk_58 4 (dk_at dksX0_planBox_0 13 rfl rfl)
theorem dX0_planBox_15 : decode cX0_planBox 15 = .ok (.iconst 1, 1) := dk_4 (dk_at dksX0_planBox_0 15 rfl rfl)
theorem dX0_planBox_16 : decode cX0_planBox 16 = .ok (.ireturn, 1) := dk_172 (dk_at dksX0_planBox_0 16 rfl rfl)
theorem dX0_planBox_17 : decode cX0_planBox 17 = .ok (.astore 4, 2) := dk_58 4 (dk_at dksX0_planBox_0 17 rfl rfl)
theorem dX0_planBox_19 : decode cX0_planBox 19 = .ok (.iconst 2, 1) := dk_5 (dk_at dksX0_planBox_0 19 rfl rfl)
theorem dX0_planBox_20 : decode cX0_planBox 20 = .ok (.ireturn, 1) := dk_172 (dk_at dksX0_planBox_0 20 rfl rfl)
theorem dX0_planBox_21 : decode cX0_planBox 21 = .ok (.iconst 0, 1) := dk_3 (dk_at dksX0_planBox_0 21 rfl rfl)
theorem dX0_planBox_22 : decode cX0_planBox 22 = .ok (.ireturn, 1) := dk_172 (dk_at dksX0_planBox_0 22 rfl rfl)
abbrev cX0_planStack : ByteArray := method_21_code
def yX0_planStack : MethodName := ⟨RX0, "planStack", "(LQuaylock;II[J)I"⟩
def dkwX0_planStack_0 : List UInt8 := [45, 3, 42, 27, 28, 182, 0, 78, 133, 80, 167, 0, 11, 58, 4, 4, 172, 58, 4, 5, 172, 3, 172]
abbrev dktX0_planStack_0 : List UInt8 := dkwX0_planStack_0 ++ []
theorem dksX0_planStack_0 : cX0_planStack.data.toList.drop 0 = dktX0_planStack_0 := by decide +kernel
theorem dX0_planStack_0 : decode cX0_planStack 0 = .ok (.aload_n 3, 1) := dk_45 (dk_at dksX0_planStack_0 0 rfl rfl)
theorem dX0_planStack_1 : decode cX0_planStack 1 = .ok (.iconst 0, 1) := dk_3 (dk_at dksX0_planStack_0 1 rfl rfl)
theorem dX0_planStack_2 : decode cX0_planStack 2 = .ok (.aload_n 0, 1) := dk_42 (dk_at dksX0_planStack_0 2 rfl rfl)
theorem dX0_planStack_3 : decode cX0_planStack 3 = .ok (.iload_n 1, 1) := dk_27 (dk_at dksX0_planStack_0 3 rfl rfl)
theorem dX0_planStack_4 : decode cX0_planStack 4 = .ok (.iload_n 2, 1) := dk_28 (dk_at dksX0_planStack_0 4 rfl rfl)
theorem dX0_planStack_5 : decode cX0_planStack 5 = .ok (.invokevirtual 78, 3) := dk_182 0 78 (dk_at dksX0_planStack_0 5 rfl rfl)
theorem dX0_planStack_8 : decode cX0_planStack 8 = .ok (.i2l, 1) := dk_133 (dk_at dksX0_planStack_0 8 rfl rfl)
theorem dX0_planStack_9 : decode cX0_planStack 9 = .ok (.lastore, 1) := dk_80 (dk_at dksX0_planStack_0 9 rfl rfl)
theorem dX0_planStack_10 : decode cX0_planStack 10 = .ok (.goto 11, 3) := dk_167 0 11 (dk_at dksX0_planStack_0 10 rfl rfl)
theorem dX0_planStack_13 : decode cX0_planStack 13 = .ok (.astore 4, 2) := dk_58 4 (dk_at dksX0_planStack_0 13 rfl rfl)
theorem dX0_planStack_15 : decode cX0_planStack 15 = .ok (.iconst 1, 1) := dk_4 (dk_at dksX0_planStack_0 15 rfl rfl)
theorem dX0_planStack_16 : decode cX0_planStack 16 = .ok (.ireturn, 1) := dk_172 (dk_at dksX0_planStack_0 16 rfl rfl)
theorem dX0_planStack_17 : decode cX0_planStack 17 = .ok (.astore 4, 2) := dk_58 4 (dk_at dksX0_planStack_0 17 rfl rfl)
theorem dX0_planStack_19 : decode cX0_planStack 19 = .ok (.iconst 2, 1) := dk_5 (dk_at dksX0_planStack_0 19 rfl rfl)
theorem dX0_planStack_20 : decode cX0_planStack 20 = .ok (.ireturn, 1) := dk_172 (dk_at dksX0_planStack_0 20 rfl rfl)
theorem dX0_planStack_21 : decode cX0_planStack 21 = .ok (.iconst 0, 1) := dk_3 (dk_at dksX0_planStack_0 21 rfl rfl)
theorem dX0_planStack_22 : decode cX0_planStack 22 = .ok (.ireturn, 1) := dk_172 (dk_at dksX0_planStack_0 22 rfl rfl)
abbrev cX0_dig : ByteArray := method_22_code
def yX0_dig : MethodName := ⟨RX0, "dig", "(LQuaylock;I[J)I"⟩
def dkwX0_dig_0 : List UInt8 := [44, 3, 42, 27, 182, 0, 81, 133, 80, 167, 0, 9, 78, 4, 172, 78, 5, 172, 3, 172]
abbrev dktX0_dig_0 : List UInt8 := dkwX0_dig_0 ++ []
theorem dksX0_dig_0 : cX0_dig.data.toList.drop 0 = dktX0_dig_0 := by decide +kernel
theorem dX0_dig_0 : decode cX0_dig 0 = .ok (.aload_n 2, 1) := dk_44 (dk_at dksX0_dig_0 0 rfl rfl)
theorem dX0_dig_1 : decode cX0_dig 1 = .ok (.iconst 0, 1) := dk_3 (dk_at dksX0_dig_0 1 rfl rfl)
theorem dX0_dig_2 : decode cX0_dig 2 = .ok (.aload_n 0, 1) := dk_42 (dk_at dksX0_dig_0 2 rfl rfl)
theorem dX0_dig_3 : decode cX0_dig 3 = .ok (.iload_n 1, 1) := dk_27 (dk_at dksX0_dig_0 3 rfl rfl)
theorem dX0_dig_4 : decode cX0_dig 4 = .ok (.invokevirtual 81, 3) := dk_182 0 81 (dk_at dksX0_dig_0 4 rfl rfl)
theorem dX0_dig_7 : decode cX0_dig 7 = .ok (.i2l, 1) := dk_133 (dk_at dksX0_dig_0 7 rfl rfl)
theorem dX0_dig_8 : decode cX0_dig 8 = .ok (.lastore, 1) := dk_80 (dk_at dksX0_dig_0 8 rfl rfl)
theorem dX0_dig_9 : decode cX0_dig 9 = .ok (.goto 9, 3) := dk_167 0 9 (dk_at dksX0_dig_0 9 rfl rfl)
theorem dX0_dig_12 : decode cX0_dig 12 = .ok (.astore_n 3, 1) := dk_78 (dk_at dksX0_dig_0 12 rfl rfl)
theorem dX0_dig_13 : decode cX0_dig 13 = .ok (.iconst 1, 1) := dk_4 (dk_at dksX0_dig_0 13 rfl rfl)
theorem dX0_dig_14 : decode cX0_dig 14 = .ok (.ireturn, 1) := dk_172 (dk_at dksX0_dig_0 14 rfl rfl)
theorem dX0_dig_15 : decode cX0_dig 15 = .ok (.astore_n 3, 1) := dk_78 (dk_at dksX0_dig_0 15 rfl rfl)
theorem dX0_dig_16 : decode cX0_dig 16 = .ok (.iconst 2, 1) := dk_5 (dk_at dksX0_dig_0 16 rfl rfl)
theorem dX0_dig_17 : decode cX0_dig 17 = .ok (.ireturn, 1) := dk_172 (dk_at dksX0_dig_0 17 rfl rfl)
theorem dX0_dig_18 : decode cX0_dig 18 = .ok (.iconst 0, 1) := dk_3 (dk_at dksX0_dig_0 18 rfl rfl)
theorem dX0_dig_19 : decode cX0_dig 19 = .ok (.ireturn, 1) := dk_172 (dk_at dksX0_dig_0 19 rfl rfl)
abbrev cX0_book : ByteArray := method_23_code
def yX0_book : MethodName := ⟨RX0, "book", "(LQuaylock;III[J)I"⟩
def dkwX0_book_1 : List UInt8 := [58, 5, 6, 172, 58, 5, 7, 172, 3, 172]
abbrev dktX0_book_1 : List UInt8 := dkwX0_book_1 ++ []
def dkwX0_book_0 : List UInt8 := [25, 4, 3, 42, 27, 28, 29, 182, 0, 84, 133, 80, 167, 0, 19, 58, 5, 4, 172, 58, 5, 5, 172]
abbrev dktX0_book_0 : List UInt8 := dkwX0_book_0 ++ dktX0_book_1
theorem dksX0_book_0 : cX0_book.data.toList.drop 0 = dktX0_book_0 := by decide +kernel
theorem dksX0_book_1 : cX0_book.data.toList.drop 23 = dktX0_book_1 := dk_seg dksX0_book_0 23 rfl rfl
theorem dX0_book_0 : decode cX0_book 0 = .ok (.aload 4, 2) := dk_25 4 (dk_at dksX0_book_0 0 rfl rfl)
theorem dX0_book_2 : decode cX0_book 2 = .ok (.iconst 0, 1) := dk_3 (dk_at dksX0_book_0 2 rfl rfl)
theorem dX0_book_3 : decode cX0_book 3 = .ok (.aload_n 0, 1) := dk_42 (dk_at dksX0_book_0 3 rfl rfl)
theorem dX0_book_4 : decode cX0_book 4 = .ok (.iload_n 1, 1) := dk_27 (dk_at dksX0_book_0 4 rfl rfl)
theorem dX0_book_5 : decode cX0_book 5 = .ok (.iload_n 2, 1) := dk_28 (dk_at dksX0_book_0 5 rfl rfl)
theorem dX0_book_6 : decode cX0_book 6 = .ok (.iload_n 3, 1) := dk_29 (dk_at dksX0_book_0 6 rfl rfl)
theorem dX0_book_7 : decode cX0_book 7 = .ok (.invokevirtual 84, 3) := dk_182 0 84 (dk_at dksX0_book_0 7 rfl rfl)
theorem dX0_book_10 : decode cX0_book 10 = .ok (.i2l, 1) := dk_133 (dk_at dksX0_book_0 10 rfl rfl)
theorem dX0_book_11 : decode cX0_book 11 = .ok (.lastore, 1) := dk_80 (dk_at dksX0_book_0 11 rfl rfl)
theorem dX0_book_12 : decode cX0_book 12 = .ok (.goto 19, 3) := dk_167 0 19 (dk_at dksX0_book_0 12 rfl rfl)
theorem dX0_book_15 : decode cX0_book 15 = .ok (.astore 5, 2) := dk_58 5 (dk_at dksX0_book_0 15 rfl rfl)
theorem dX0_book_17 : decode cX0_book 17 = .ok (.iconst 1, 1) := dk_4 (dk_at dksX0_book_0 17 rfl rfl)
theorem dX0_book_18 : decode cX0_book 18 = .ok (.ireturn, 1) := dk_172 (dk_at dksX0_book_0 18 rfl rfl)
theorem dX0_book_19 : decode cX0_book 19 = .ok (.astore 5, 2) := dk_58 5 (dk_at dksX0_book_0 19 rfl rfl)
theorem dX0_book_21 : decode cX0_book 21 = .ok (.iconst 2, 1) := dk_5 (dk_at dksX0_book_0 21 rfl rfl)
theorem dX0_book_22 : decode cX0_book 22 = .ok (.ireturn, 1) := dk_172 (dk_at dksX0_book_0 22 rfl rfl)
theorem dX0_book_23 : decode cX0_book 23 = .ok (.astore 5, 2) := dk_58 5 (dk_at dksX0_book_1 0 rfl rfl)
theorem dX0_book_25 : decode cX0_book 25 = .ok (.iconst 3, 1) := dk_6 (dk_at dksX0_book_1 2 rfl rfl)
theorem dX0_book_26 : decode cX0_book 26 = .ok (.ireturn, 1) := dk_172 (dk_at dksX0_book_1 3 rfl rfl)
theorem dX0_book_27 : decode cX0_book 27 = .ok (.astore 5, 2) := dk_58 5 (dk_at dksX0_book_1 4 rfl rfl)
theorem dX0_book_29 : decode cX0_book 29 = .ok (.iconst 4, 1) := dk_7 (dk_at dksX0_book_1 6 rfl rfl)
theorem dX0_book_30 : decode cX0_book 30 = .ok (.ireturn, 1) := dk_172 (dk_at dksX0_book_1 7 rfl rfl)
theorem dX0_book_31 : decode cX0_book 31 = .ok (.iconst 0, 1) := dk_3 (dk_at dksX0_book_1 8 rfl rfl)
theorem dX0_book_32 : decode cX0_book 32 = .ok (.ireturn, 1) := dk_172 (dk_at dksX0_book_1 9 rfl rfl)
abbrev cX0_cancel : ByteArray := method_24_code
def yX0_cancel : MethodName := ⟨RX0, "cancel", "(LQuaylock;I[J)I"⟩
def dkwX0_cancel_0 : List UInt8 := [44, 3, 42, 27, 182, 0, 88, 133, 80, 167, 0, 9, 78, 4, 172, 78, 5, 172, 3, 172]
abbrev dktX0_cancel_0 : List UInt8 := dkwX0_cancel_0 ++ []
theorem dksX0_cancel_0 : cX0_cancel.data.toList.drop 0 = dktX0_cancel_0 := by decide +kernel
theorem dX0_cancel_0 : decode cX0_cancel 0 = .ok (.aload_n 2, 1) := dk_44 (dk_at dksX0_cancel_0 0 rfl rfl)
theorem dX0_cancel_1 : decode cX0_cancel 1 = .ok (.iconst 0, 1) := dk_3 (dk_at dksX0_cancel_0 1 rfl rfl)
theorem dX0_cancel_2 : decode cX0_cancel 2 = .ok (.aload_n 0, 1) := dk_42 (dk_at dksX0_cancel_0 2 rfl rfl)
theorem dX0_cancel_3 : decode cX0_cancel 3 = .ok (.iload_n 1, 1) := dk_27 (dk_at dksX0_cancel_0 3 rfl rfl)
theorem dX0_cancel_4 : decode cX0_cancel 4 = .ok (.invokevirtual 88, 3) := dk_182 0 88 (dk_at dksX0_cancel_0 4 rfl rfl)
theorem dX0_cancel_7 : decode cX0_cancel 7 = .ok (.i2l, 1) := dk_133 (dk_at dksX0_cancel_0 7 rfl rfl)
theorem dX0_cancel_8 : decode cX0_cancel 8 = .ok (.lastore, 1) := dk_80 (dk_at dksX0_cancel_0 8 rfl rfl)
theorem dX0_cancel_9 : decode cX0_cancel 9 = .ok (.goto 9, 3) := dk_167 0 9 (dk_at dksX0_cancel_0 9 rfl rfl)
theorem dX0_cancel_12 : decode cX0_cancel 12 = .ok (.astore_n 3, 1) := dk_78 (dk_at dksX0_cancel_0 12 rfl rfl)
theorem dX0_cancel_13 : decode cX0_cancel 13 = .ok (.iconst 1, 1) := dk_4 (dk_at dksX0_cancel_0 13 rfl rfl)
theorem dX0_cancel_14 : decode cX0_cancel 14 = .ok (.ireturn, 1) := dk_172 (dk_at dksX0_cancel_0 14 rfl rfl)
theorem dX0_cancel_15 : decode cX0_cancel 15 = .ok (.astore_n 3, 1) := dk_78 (dk_at dksX0_cancel_0 15 rfl rfl)
theorem dX0_cancel_16 : decode cX0_cancel 16 = .ok (.iconst 2, 1) := dk_5 (dk_at dksX0_cancel_0 16 rfl rfl)
theorem dX0_cancel_17 : decode cX0_cancel 17 = .ok (.ireturn, 1) := dk_172 (dk_at dksX0_cancel_0 17 rfl rfl)
theorem dX0_cancel_18 : decode cX0_cancel 18 = .ok (.iconst 0, 1) := dk_3 (dk_at dksX0_cancel_0 18 rfl rfl)
theorem dX0_cancel_19 : decode cX0_cancel 19 = .ok (.ireturn, 1) := dk_172 (dk_at dksX0_cancel_0 19 rfl rfl)
abbrev cX0_stateOf : ByteArray := method_25_code
def yX0_stateOf : MethodName := ⟨RX0, "stateOf", "(LQuaylock;I[J)I"⟩
def dkwX0_stateOf_0 : List UInt8 := [44, 3, 42, 27, 182, 0, 91, 133, 80, 167, 0, 6, 78, 4, 172, 3, 172]
abbrev dktX0_stateOf_0 : List UInt8 := dkwX0_stateOf_0 ++ []
theorem dksX0_stateOf_0 : cX0_stateOf.data.toList.drop 0 = dktX0_stateOf_0 := by decide +kernel
theorem dX0_stateOf_0 : decode cX0_stateOf 0 = .ok (.aload_n 2, 1) := dk_44 (dk_at dksX0_stateOf_0 0 rfl rfl)
theorem dX0_stateOf_1 : decode cX0_stateOf 1 = .ok (.iconst 0, 1) := dk_3 (dk_at dksX0_stateOf_0 1 rfl rfl)
theorem dX0_stateOf_2 : decode cX0_stateOf 2 = .ok (.aload_n 0, 1) := dk_42 (dk_at dksX0_stateOf_0 2 rfl rfl)
theorem dX0_stateOf_3 : decode cX0_stateOf 3 = .ok (.iload_n 1, 1) := dk_27 (dk_at dksX0_stateOf_0 3 rfl rfl)
theorem dX0_stateOf_4 : decode cX0_stateOf 4 = .ok (.invokevirtual 91, 3) := dk_182 0 91 (dk_at dksX0_stateOf_0 4 rfl rfl)
theorem dX0_stateOf_7 : decode cX0_stateOf 7 = .ok (.i2l, 1) := dk_133 (dk_at dksX0_stateOf_0 7 rfl rfl)
theorem dX0_stateOf_8 : decode cX0_stateOf 8 = .ok (.lastore, 1) := dk_80 (dk_at dksX0_stateOf_0 8 rfl rfl)
theorem dX0_stateOf_9 : decode cX0_stateOf 9 = .ok (.goto 6, 3) := dk_167 0 6 (dk_at dksX0_stateOf_0 9 rfl rfl)
theorem dX0_stateOf_12 : decode cX0_stateOf 12 = .ok (.astore_n 3, 1) := dk_78 (dk_at dksX0_stateOf_0 12 rfl rfl)
theorem dX0_stateOf_13 : decode cX0_stateOf 13 = .ok (.iconst 1, 1) := dk_4 (dk_at dksX0_stateOf_0 13 rfl rfl)
theorem dX0_stateOf_14 : decode cX0_stateOf 14 = .ok (.ireturn, 1) := dk_172 (dk_at dksX0_stateOf_0 14 rfl rfl)
theorem dX0_stateOf_15 : decode cX0_stateOf 15 = .ok (.iconst 0, 1) := dk_3 (dk_at dksX0_stateOf_0 15 rfl rfl)
theorem dX0_stateOf_16 : decode cX0_stateOf 16 = .ok (.ireturn, 1) := dk_172 (dk_at dksX0_stateOf_0 16 rfl rfl)
abbrev cX0_appointmentOf : ByteArray := method_26_code
def yX0_appointmentOf : MethodName := ⟨RX0, "appointmentOf", "(LQuaylock;I[J)I"⟩
def dkwX0_appointmentOf_0 : List UInt8 := [44, 3, 42, 27, 182, 0, 94, 133, 80, 167, 0, 9, 78, 4, 172, 78, 5, 172, 3, 172]
abbrev dktX0_appointmentOf_0 : List UInt8 := dkwX0_appointmentOf_0 ++ []
theorem dksX0_appointmentOf_0 : cX0_appointmentOf.data.toList.drop 0 = dktX0_appointmentOf_0 := by decide +kernel
theorem dX0_appointmentOf_0 : decode cX0_appointmentOf 0 = .ok (.aload_n 2, 1) := dk_44 (dk_at dksX0_appointmentOf_0 0 rfl rfl)
theorem dX0_appointmentOf_1 : decode cX0_appointmentOf 1 = .ok (.iconst 0, 1) := dk_3 (dk_at dksX0_appointmentOf_0 1 rfl rfl)
theorem dX0_appointmentOf_2 : decode cX0_appointmentOf 2 = .ok (.aload_n 0, 1) := dk_42 (dk_at dksX0_appointmentOf_0 2 rfl rfl)
theorem dX0_appointmentOf_3 : decode cX0_appointmentOf 3 = .ok (.iload_n 1, 1) := dk_27 (dk_at dksX0_appointmentOf_0 3 rfl rfl)
theorem dX0_appointmentOf_4 : decode cX0_appointmentOf 4 = .ok (.invokevirtual 94, 3) := dk_182 0 94 (dk_at dksX0_appointmentOf_0 4 rfl rfl)
theorem dX0_appointmentOf_7 : decode cX0_appointmentOf 7 = .ok (.i2l, 1) := dk_133 (dk_at dksX0_appointmentOf_0 7 rfl rfl)
theorem dX0_appointmentOf_8 : decode cX0_appointmentOf 8 = .ok (.lastore, 1) := dk_80 (dk_at dksX0_appointmentOf_0 8 rfl rfl)
theorem dX0_appointmentOf_9 : decode cX0_appointmentOf 9 = .ok (.goto 9, 3) := dk_167 0 9 (dk_at dksX0_appointmentOf_0 9 rfl rfl)
theorem dX0_appointmentOf_12 : decode cX0_appointmentOf 12 = .ok (.astore_n 3, 1) := dk_78 (dk_at dksX0_appointmentOf_0 12 rfl rfl)
theorem dX0_appointmentOf_13 : decode cX0_appointmentOf 13 = .ok (.iconst 1, 1) := dk_4 (dk_at dksX0_appointmentOf_0 13 rfl rfl)
theorem dX0_appointmentOf_14 : decode cX0_appointmentOf 14 = .ok (.ireturn, 1) := dk_172 (dk_at dksX0_appointmentOf_0 14 rfl rfl)
theorem dX0_appointmentOf_15 : decode cX0_appointmentOf 15 = .ok (.astore_n 3, 1) := dk_78 (dk_at dksX0_appointmentOf_0 15 rfl rfl)
theorem dX0_appointmentOf_16 : decode cX0_appointmentOf 16 = .ok (.iconst 2, 1) := dk_5 (dk_at dksX0_appointmentOf_0 16 rfl rfl)
theorem dX0_appointmentOf_17 : decode cX0_appointmentOf 17 = .ok (.ireturn, 1) := dk_172 (dk_at dksX0_appointmentOf_0 17 rfl rfl)
theorem dX0_appointmentOf_18 : decode cX0_appointmentOf 18 = .ok (.iconst 0, 1) := dk_3 (dk_at dksX0_appointmentOf_0 18 rfl rfl)
theorem dX0_appointmentOf_19 : decode cX0_appointmentOf 19 = .ok (.ireturn, 1) := dk_172 (dk_at dksX0_appointmentOf_0 19 rfl rfl)
abbrev cX0_inLane : ByteArray := method_27_code
def yX0_inLane : MethodName := ⟨RX0, "inLane", "(LQuaylock;II[J)I"⟩
def dkwX0_inLane_0 : List UInt8 := [45, 3, 42, 27, 28, 182, 0, 97, 133, 80, 167, 0, 11, 58, 4, 4, 172, 58, 4, 5, 172, 3, 172]
abbrev dktX0_inLane_0 : List UInt8 := dkwX0_inLane_0 ++ []
theorem dksX0_inLane_0 : cX0_inLane.data.toList.drop 0 = dktX0_inLane_0 := by decide +kernel
theorem dX0_inLane_0 : decode cX0_inLane 0 = .ok (.aload_n 3, 1) := dk_45 (dk_at dksX0_inLane_0 0 rfl rfl)
theorem dX0_inLane_1 : decode cX0_inLane 1 = .ok (.iconst 0, 1) := dk_3 (dk_at dksX0_inLane_0 1 rfl rfl)
theorem dX0_inLane_2 : decode cX0_inLane 2 = .ok (.aload_n 0, 1) := dk_42 (dk_at dksX0_inLane_0 2 rfl rfl)
theorem dX0_inLane_3 : decode cX0_inLane 3 = .ok (.iload_n 1, 1) := dk_27 (dk_at dksX0_inLane_0 3 rfl rfl)
theorem dX0_inLane_4 : decode cX0_inLane 4 = .ok (.iload_n 2, 1) := dk_28 (dk_at dksX0_inLane_0 4 rfl rfl)
theorem dX0_inLane_5 : decode cX0_inLane 5 = .ok (.invokevirtual 97, 3) := dk_182 0 97 (dk_at dksX0_inLane_0 5 rfl rfl)
theorem dX0_inLane_8 : decode cX0_inLane 8 = .ok (.i2l, 1) := dk_133 (dk_at dksX0_inLane_0 8 rfl rfl)
theorem dX0_inLane_9 : decode cX0_inLane 9 = .ok (.lastore, 1) := dk_80 (dk_at dksX0_inLane_0 9 rfl rfl)
theorem dX0_inLane_10 : decode cX0_inLane 10 = .ok (.goto 11, 3) := dk_167 0 11 (dk_at dksX0_inLane_0 10 rfl rfl)
theorem dX0_inLane_13 : decode cX0_inLane 13 = .ok (.astore 4, 2) := dk_58 4 (dk_at dksX0_inLane_0 13 rfl rfl)
theorem dX0_inLane_15 : decode cX0_inLane 15 = .ok (.iconst 1, 1) := dk_4 (dk_at dksX0_inLane_0 15 rfl rfl)
theorem dX0_inLane_16 : decode cX0_inLane 16 = .ok (.ireturn, 1) := dk_172 (dk_at dksX0_inLane_0 16 rfl rfl)
theorem dX0_inLane_17 : decode cX0_inLane 17 = .ok (.astore 4, 2) := dk_58 4 (dk_at dksX0_inLane_0 17 rfl rfl)
theorem dX0_inLane_19 : decode cX0_inLane 19 = .ok (.iconst 2, 1) := dk_5 (dk_at dksX0_inLane_0 19 rfl rfl)
theorem dX0_inLane_20 : decode cX0_inLane 20 = .ok (.ireturn, 1) := dk_172 (dk_at dksX0_inLane_0 20 rfl rfl)
theorem dX0_inLane_21 : decode cX0_inLane 21 = .ok (.iconst 0, 1) := dk_3 (dk_at dksX0_inLane_0 21 rfl rfl)
theorem dX0_inLane_22 : decode cX0_inLane 22 = .ok (.ireturn, 1) := dk_172 (dk_at dksX0_inLane_0 22 rfl rfl)
abbrev cX0_firstHour : ByteArray := method_28_code
def yX0_firstHour : MethodName := ⟨RX0, "firstHour", "(LQuaylock;I[J)I"⟩
def dkwX0_firstHour_0 : List UInt8 := [44, 3, 42, 27, 182, 0, 100, 133, 80, 167, 0, 9, 78, 4, 172, 78, 5, 172, 3, 172]
abbrev dktX0_firstHour_0 : List UInt8 := dkwX0_firstHour_0 ++ []
theorem dksX0_firstHour_0 : cX0_firstHour.data.toList.drop 0 = dktX0_firstHour_0 := by decide +kernel
theorem dX0_firstHour_0 : decode cX0_firstHour 0 = .ok (.aload_n 2, 1) := dk_44 (dk_at dksX0_firstHour_0 0 rfl rfl)
theorem dX0_firstHour_1 : decode cX0_firstHour 1 = .ok (.iconst 0, 1) := dk_3 (dk_at dksX0_firstHour_0 1 rfl rfl)
theorem dX0_firstHour_2 : decode cX0_firstHour 2 = .ok (.aload_n 0, 1) := dk_42 (dk_at dksX0_firstHour_0 2 rfl rfl)
theorem dX0_firstHour_3 : decode cX0_firstHour 3 = .ok (.iload_n 1, 1) := dk_27 (dk_at dksX0_firstHour_0 3 rfl rfl)
theorem dX0_firstHour_4 : decode cX0_firstHour 4 = .ok (.invokevirtual 100, 3) := dk_182 0 100 (dk_at dksX0_firstHour_0 4 rfl rfl)
theorem dX0_firstHour_7 : decode cX0_firstHour 7 = .ok (.i2l, 1) := dk_133 (dk_at dksX0_firstHour_0 7 rfl rfl)
theorem dX0_firstHour_8 : decode cX0_firstHour 8 = .ok (.lastore, 1) := dk_80 (dk_at dksX0_firstHour_0 8 rfl rfl)
theorem dX0_firstHour_9 : decode cX0_firstHour 9 = .ok (.goto 9, 3) := dk_167 0 9 (dk_at dksX0_firstHour_0 9 rfl rfl)
theorem dX0_firstHour_12 : decode cX0_firstHour 12 = .ok (.astore_n 3, 1) := dk_78 (dk_at dksX0_firstHour_0 12 rfl rfl)
theorem dX0_firstHour_13 : decode cX0_firstHour 13 = .ok (.iconst 1, 1) := dk_4 (dk_at dksX0_firstHour_0 13 rfl rfl)
theorem dX0_firstHour_14 : decode cX0_firstHour 14 = .ok (.ireturn, 1) := dk_172 (dk_at dksX0_firstHour_0 14 rfl rfl)
theorem dX0_firstHour_15 : decode cX0_firstHour 15 = .ok (.astore_n 3, 1) := dk_78 (dk_at dksX0_firstHour_0 15 rfl rfl)
theorem dX0_firstHour_16 : decode cX0_firstHour 16 = .ok (.iconst 2, 1) := dk_5 (dk_at dksX0_firstHour_0 16 rfl rfl)
theorem dX0_firstHour_17 : decode cX0_firstHour 17 = .ok (.ireturn, 1) := dk_172 (dk_at dksX0_firstHour_0 17 rfl rfl)
theorem dX0_firstHour_18 : decode cX0_firstHour 18 = .ok (.iconst 0, 1) := dk_3 (dk_at dksX0_firstHour_0 18 rfl rfl)
theorem dX0_firstHour_19 : decode cX0_firstHour 19 = .ok (.ireturn, 1) := dk_172 (dk_at dksX0_firstHour_0 19 rfl rfl)
abbrev cX0_pass : ByteArray := method_29_code
def yX0_pass : MethodName := ⟨RX0, "pass", "(LQuaylock;I[J)I"⟩
def dkwX0_pass_0 : List UInt8 := [44, 3, 42, 27, 182, 0, 103, 133, 80, 167, 0, 6, 78, 4, 172, 3, 172]
abbrev dktX0_pass_0 : List UInt8 := dkwX0_pass_0 ++ []
theorem dksX0_pass_0 : cX0_pass.data.toList.drop 0 = dktX0_pass_0 := by decide +kernel
theorem dX0_pass_0 : decode cX0_pass 0 = .ok (.aload_n 2, 1) := dk_44 (dk_at dksX0_pass_0 0 rfl rfl)
theorem dX0_pass_1 : decode cX0_pass 1 = .ok (.iconst 0, 1) := dk_3 (dk_at dksX0_pass_0 1 rfl rfl)
theorem dX0_pass_2 : decode cX0_pass 2 = .ok (.aload_n 0, 1) := dk_42 (dk_at dksX0_pass_0 2 rfl rfl)
theorem dX0_pass_3 : decode cX0_pass 3 = .ok (.iload_n 1, 1) := dk_27 (dk_at dksX0_pass_0 3 rfl rfl)
theorem dX0_pass_4 : decode cX0_pass 4 = .ok (.invokevirtual 103, 3) := dk_182 0 103 (dk_at dksX0_pass_0 4 rfl rfl)
theorem dX0_pass_7 : decode cX0_pass 7 = .ok (.i2l, 1) := dk_133 (dk_at dksX0_pass_0 7 rfl rfl)
theorem dX0_pass_8 : decode cX0_pass 8 = .ok (.lastore, 1) := dk_80 (dk_at dksX0_pass_0 8 rfl rfl)
theorem dX0_pass_9 : decode cX0_pass 9 = .ok (.goto 6, 3) := dk_167 0 6 (dk_at dksX0_pass_0 9 rfl rfl)
theorem dX0_pass_12 : decode cX0_pass 12 = .ok (.astore_n 3, 1) := dk_78 (dk_at dksX0_pass_0 12 rfl rfl)
theorem dX0_pass_13 : decode cX0_pass 13 = .ok (.iconst 1, 1) := dk_4 (dk_at dksX0_pass_0 13 rfl rfl)
theorem dX0_pass_14 : decode cX0_pass 14 = .ok (.ireturn, 1) := dk_172 (dk_at dksX0_pass_0 14 rfl rfl)
theorem dX0_pass_15 : decode cX0_pass 15 = .ok (.iconst 0, 1) := dk_3 (dk_at dksX0_pass_0 15 rfl rfl)
theorem dX0_pass_16 : decode cX0_pass 16 = .ok (.ireturn, 1) := dk_172 (dk_at dksX0_pass_0 16 rfl rfl)
abbrev cX0_doneShare : ByteArray := method_30_code
def yX0_doneShare : MethodName := ⟨RX0, "doneShare", "(LQuaylock;[D)I"⟩
def dkwX0_doneShare_0 : List UInt8 := [43, 3, 42, 182, 0, 106, 141, 82, 167, 0, 6, 77, 4, 172, 3, 172]
abbrev dktX0_doneShare_0 : List UInt8 := dkwX0_doneShare_0 ++ []
theorem dksX0_doneShare_0 : cX0_doneShare.data.toList.drop 0 = dktX0_doneShare_0 := by decide +kernel
theorem dX0_doneShare_0 : decode cX0_doneShare 0 = .ok (.aload_n 1, 1) := dk_43 (dk_at dksX0_doneShare_0 0 rfl rfl)
theorem dX0_doneShare_1 : decode cX0_doneShare 1 = .ok (.iconst 0, 1) := dk_3 (dk_at dksX0_doneShare_0 1 rfl rfl)
theorem dX0_doneShare_2 : decode cX0_doneShare 2 = .ok (.aload_n 0, 1) := dk_42 (dk_at dksX0_doneShare_0 2 rfl rfl)
theorem dX0_doneShare_3 : decode cX0_doneShare 3 = .ok (.invokevirtual 106, 3) := dk_182 0 106 (dk_at dksX0_doneShare_0 3 rfl rfl)
theorem dX0_doneShare_6 : decode cX0_doneShare 6 = .ok (.f2d, 1) := dk_141 (dk_at dksX0_doneShare_0 6 rfl rfl)
theorem dX0_doneShare_7 : decode cX0_doneShare 7 = .ok (.dastore, 1) := dk_82 (dk_at dksX0_doneShare_0 7 rfl rfl)
theorem dX0_doneShare_8 : decode cX0_doneShare 8 = .ok (.goto 6, 3) := dk_167 0 6 (dk_at dksX0_doneShare_0 8 rfl rfl)
theorem dX0_doneShare_11 : decode cX0_doneShare 11 = .ok (.astore_n 2, 1) := dk_77 (dk_at dksX0_doneShare_0 11 rfl rfl)
theorem dX0_doneShare_12 : decode cX0_doneShare 12 = .ok (.iconst 1, 1) := dk_4 (dk_at dksX0_doneShare_0 12 rfl rfl)
theorem dX0_doneShare_13 : decode cX0_doneShare 13 = .ok (.ireturn, 1) := dk_172 (dk_at dksX0_doneShare_0 13 rfl rfl)
theorem dX0_doneShare_14 : decode cX0_doneShare 14 = .ok (.iconst 0, 1) := dk_3 (dk_at dksX0_doneShare_0 14 rfl rfl)
theorem dX0_doneShare_15 : decode cX0_doneShare 15 = .ok (.ireturn, 1) := dk_172 (dk_at dksX0_doneShare_0 15 rfl rfl)
theorem q57 : (Jvm.Cond.initialized "QuaylockLaw") ∈ lw_all := lw_g (lw_at lw_m1 0 rfl) rfl
theorem q97 : (Jvm.Cond.classLink "QuaylockLaw" (8 : Nat) "Quaylock") ∈ lw_all := lw_g (lw_at lw_m1 40 rfl) rfl
theorem q99 : (Jvm.Cond.methodLink "QuaylockLaw" (110 : Nat) ({ cls := "Quaylock", name := "<init>", desc := "()V" } : Jvm.MethodName)) ∈ lw_all := lw_g (lw_at lw_m1 42 rfl) rfl
theorem q219 : (Jvm.Cond.methodLink "QuaylockLaw" (128 : Nat) ({ cls := "Quaylock", name := "boxes", desc := "()I" } : Jvm.MethodName)) ∈ lw_all := lw_g (lw_at lw_m1 162 rfl) rfl
theorem q223 : (Jvm.Cond.methodLink "QuaylockLaw" (132 : Nat) ({ cls := "Quaylock", name := "isInYard", desc := "(I)Z" } : Jvm.MethodName)) ∈ lw_all := lw_g (lw_at lw_m1 166 rfl) rfl
theorem q234 : (Jvm.Cond.methodLink "QuaylockLaw" (192 : Nat) ({ cls := "Quaylock", name := "moves", desc := "()I" } : Jvm.MethodName)) ∈ lw_all := lw_g (lw_at lw_m1 177 rfl) rfl
theorem q238 : (Jvm.Cond.methodLink "QuaylockLaw" (218 : Nat) ({ cls := "Quaylock", name := "now", desc := "()I" } : Jvm.MethodName)) ∈ lw_all := lw_g (lw_at lw_m1 181 rfl) rfl
theorem q242 : (Jvm.Cond.methodLink "QuaylockLaw" (222 : Nat) ({ cls := "Quaylock", name := "weightLeft", desc := "()J" } : Jvm.MethodName)) ∈ lw_all := lw_g (lw_at lw_m1 185 rfl) rfl
theorem q246 : (Jvm.Cond.methodLink "QuaylockLaw" (114 : Nat) ({ cls := "QuaylockLaw", name := "addStack", desc := "(LQuaylock;I[J)I" } : Jvm.MethodName)) ∈ lw_all := lw_g (lw_at lw_m1 189 rfl) rfl
theorem q247 : (Jvm.Cond.static ({ cls := "QuaylockLaw", name := "addStack", desc := "(LQuaylock;I[J)I" } : Jvm.MethodName)) ∈ lw_all := lw_g (lw_at lw_m1 190 rfl) rfl
theorem q248 : (Jvm.Cond.codeWith ({ cls := "QuaylockLaw", name := "addStack", desc := "(LQuaylock;I[J)I" } : Jvm.MethodName) method_3_code (4 : Nat) (Option.some Jvm.ClassFile.FieldType.int) [((0 : Nat), (9 : Nat), (12 : Nat), (13 : Nat)), ((0 : Nat), (9 : Nat), (15 : Nat), (15 : Nat))]) ∈ lw_all := lw_g (lw_at lw_m1 191 rfl) rfl
theorem q249 : (Jvm.Cond.classLink "QuaylockLaw" (13 : Nat) "java/lang/IllegalArgumentException") ∈ lw_all := lw_g (lw_at lw_m1 192 rfl) rfl
theorem q250 : (Jvm.Cond.classLink "QuaylockLaw" (15 : Nat) "java/lang/IllegalStateException") ∈ lw_all := lw_g (lw_at lw_m1 193 rfl) rfl
theorem q251 : (Jvm.Cond.methodLink "QuaylockLaw" (7 : Nat) ({ cls := "Quaylock", name := "addStack", desc := "(I)I" } : Jvm.MethodName)) ∈ lw_all := lw_g (lw_at lw_m1 194 rfl) rfl
theorem q343 : (Jvm.Cond.methodLink "QuaylockLaw" (124 : Nat) ({ cls := "QuaylockLaw", name := "addBox", desc := "(LQuaylock;II[J)I" } : Jvm.MethodName)) ∈ lw_all := lw_g (lw_at lw_m2 46 rfl) rfl
theorem q344 : (Jvm.Cond.static ({ cls := "QuaylockLaw", name := "addBox", desc := "(LQuaylock;II[J)I" } : Jvm.MethodName)) ∈ lw_all := lw_g (lw_at lw_m2 47 rfl) rfl
theorem q345 : (Jvm.Cond.codeWith ({ cls := "QuaylockLaw", name := "addBox", desc := "(LQuaylock;II[J)I" } : Jvm.MethodName) method_4_code (5 : Nat) (Option.some Jvm.ClassFile.FieldType.int) [((0 : Nat), (10 : Nat), (13 : Nat), (21 : Nat)), ((0 : Nat), (10 : Nat), (17 : Nat), (13 : Nat)), ((0 : Nat), (10 : Nat), (21 : Nat), (23 : Nat)), ((0 : Nat), (10 : Nat), (25 : Nat), (15 : Nat))]) ∈ lw_all := lw_g (lw_at lw_m2 48 rfl) rfl
theorem q346 : (Jvm.Cond.classLink "QuaylockLaw" (21 : Nat) "java/lang/IndexOutOfBoundsException") ∈ lw_all := lw_g (lw_at lw_m2 49 rfl) rfl
theorem q379 : (Jvm.Cond.classLink "QuaylockLaw" (23 : Nat) "java/lang/UnsupportedOperationException") ∈ lw_all := lw_g (lw_at lw_m2 82 rfl) rfl
theorem q380 : (Jvm.Cond.methodLink "QuaylockLaw" (17 : Nat) ({ cls := "Quaylock", name := "addBox", desc := "(II)I" } : Jvm.MethodName)) ∈ lw_all := lw_g (lw_at lw_m2 83 rfl) rfl
theorem q464 : (Jvm.Cond.methodLink "QuaylockLaw" (137 : Nat) ({ cls := "QuaylockLaw", name := "weight", desc := "(LQuaylock;I[J)I" } : Jvm.MethodName)) ∈ lw_all := lw_g (lw_at lw_m2 167 rfl) rfl
theorem q465 : (Jvm.Cond.static ({ cls := "QuaylockLaw", name := "weight", desc := "(LQuaylock;I[J)I" } : Jvm.MethodName)) ∈ lw_all := lw_g (lw_at lw_m2 168 rfl) rfl
theorem q466 : (Jvm.Cond.codeWith ({ cls := "QuaylockLaw", name := "weight", desc := "(LQuaylock;I[J)I" } : Jvm.MethodName) method_5_code (4 : Nat) (Option.some Jvm.ClassFile.FieldType.int) [((0 : Nat), (9 : Nat), (12 : Nat), (21 : Nat))]) ∈ lw_all := lw_g (lw_at lw_m2 169 rfl) rfl
theorem q467 : (Jvm.Cond.methodLink "QuaylockLaw" (25 : Nat) ({ cls := "Quaylock", name := "weight", desc := "(I)I" } : Jvm.MethodName)) ∈ lw_all := lw_g (lw_at lw_m2 170 rfl) rfl
theorem q475 : (Jvm.Cond.methodLink "QuaylockLaw" (140 : Nat) ({ cls := "QuaylockLaw", name := "stackOf", desc := "(LQuaylock;I[J)I" } : Jvm.MethodName)) ∈ lw_all := lw_g (lw_at lw_m2 178 rfl) rfl
theorem q476 : (Jvm.Cond.static ({ cls := "QuaylockLaw", name := "stackOf", desc := "(LQuaylock;I[J)I" } : Jvm.MethodName)) ∈ lw_all := lw_g (lw_at lw_m2 179 rfl) rfl
theorem q477 : (Jvm.Cond.codeWith ({ cls := "QuaylockLaw", name := "stackOf", desc := "(LQuaylock;I[J)I" } : Jvm.MethodName) method_6_code (4 : Nat) (Option.some Jvm.ClassFile.FieldType.int) [((0 : Nat), (9 : Nat), (12 : Nat), (21 : Nat))]) ∈ lw_all := lw_g (lw_at lw_m2 180 rfl) rfl
theorem q478 : (Jvm.Cond.methodLink "QuaylockLaw" (28 : Nat) ({ cls := "Quaylock", name := "stackOf", desc := "(I)I" } : Jvm.MethodName)) ∈ lw_all := lw_g (lw_at lw_m2 181 rfl) rfl
theorem q486 : (Jvm.Cond.methodLink "QuaylockLaw" (143 : Nat) ({ cls := "QuaylockLaw", name := "level", desc := "(LQuaylock;I[J)I" } : Jvm.MethodName)) ∈ lw_all := lw_g (lw_at lw_m2 189 rfl) rfl
theorem q487 : (Jvm.Cond.static ({ cls := "QuaylockLaw", name := "level", desc := "(LQuaylock;I[J)I" } : Jvm.MethodName)) ∈ lw_all := lw_g (lw_at lw_m2 190 rfl) rfl
theorem q488 : (Jvm.Cond.codeWith ({ cls := "QuaylockLaw", name := "level", desc := "(LQuaylock;I[J)I" } : Jvm.MethodName) method_7_code (4 : Nat) (Option.some Jvm.ClassFile.FieldType.int) [((0 : Nat), (9 : Nat), (12 : Nat), (21 : Nat))]) ∈ lw_all := lw_g (lw_at lw_m2 191 rfl) rfl
theorem q489 : (Jvm.Cond.methodLink "QuaylockLaw" (31 : Nat) ({ cls := "Quaylock", name := "level", desc := "(I)I" } : Jvm.MethodName)) ∈ lw_all := lw_g (lw_at lw_m2 192 rfl) rfl
theorem q498 : (Jvm.Cond.methodLink "QuaylockLaw" (146 : Nat) ({ cls := "QuaylockLaw", name := "above", desc := "(LQuaylock;I[J)I" } : Jvm.MethodName)) ∈ lw_all := lw_g (lw_at lw_m2 201 rfl) rfl
theorem q499 : (Jvm.Cond.static ({ cls := "QuaylockLaw", name := "above", desc := "(LQuaylock;I[J)I" } : Jvm.MethodName)) ∈ lw_all := lw_g (lw_at lw_m2 202 rfl) rfl
theorem q500 : (Jvm.Cond.codeWith ({ cls := "QuaylockLaw", name := "above", desc := "(LQuaylock;I[J)I" } : Jvm.MethodName) method_8_code (4 : Nat) (Option.some Jvm.ClassFile.FieldType.int) [((0 : Nat), (9 : Nat), (12 : Nat), (21 : Nat))]) ∈ lw_all := lw_g (lw_at lw_m2 203 rfl) rfl
theorem q501 : (Jvm.Cond.methodLink "QuaylockLaw" (34 : Nat) ({ cls := "Quaylock", name := "above", desc := "(I)I" } : Jvm.MethodName)) ∈ lw_all := lw_g (lw_at lw_m2 204 rfl) rfl
theorem q510 : (Jvm.Cond.methodLink "QuaylockLaw" (149 : Nat) ({ cls := "QuaylockLaw", name := "height", desc := "(LQuaylock;I[J)I" } : Jvm.MethodName)) ∈ lw_all := lw_g (lw_at lw_m2 213 rfl) rfl
theorem q511 : (Jvm.Cond.static ({ cls := "QuaylockLaw", name := "height", desc := "(LQuaylock;I[J)I" } : Jvm.MethodName)) ∈ lw_all := lw_g (lw_at lw_m2 214 rfl) rfl
theorem q512 : (Jvm.Cond.codeWith ({ cls := "QuaylockLaw", name := "height", desc := "(LQuaylock;I[J)I" } : Jvm.MethodName) method_9_code (4 : Nat) (Option.some Jvm.ClassFile.FieldType.int) [((0 : Nat), (9 : Nat), (12 : Nat), (21 : Nat))]) ∈ lw_all := lw_g (lw_at lw_m2 215 rfl) rfl
theorem q513 : (Jvm.Cond.methodLink "QuaylockLaw" (37 : Nat) ({ cls := "Quaylock", name := "height", desc := "(I)I" } : Jvm.MethodName)) ∈ lw_all := lw_g (lw_at lw_m2 216 rfl) rfl
theorem q517 : (Jvm.Cond.methodLink "QuaylockLaw" (152 : Nat) ({ cls := "QuaylockLaw", name := "boxAt", desc := "(LQuaylock;II[J)I" } : Jvm.MethodName)) ∈ lw_all := lw_g (lw_at lw_m2 220 rfl) rfl
theorem q518 : (Jvm.Cond.static ({ cls := "QuaylockLaw", name := "boxAt", desc := "(LQuaylock;II[J)I" } : Jvm.MethodName)) ∈ lw_all := lw_g (lw_at lw_m2 221 rfl) rfl
theorem q519 : (Jvm.Cond.codeWith ({ cls := "QuaylockLaw", name := "boxAt", desc := "(LQuaylock;II[J)I" } : Jvm.MethodName) method_10_code (5 : Nat) (Option.some Jvm.ClassFile.FieldType.int) [((0 : Nat), (10 : Nat), (13 : Nat), (21 : Nat)), ((0 : Nat), (10 : Nat), (17 : Nat), (43 : Nat))]) ∈ lw_all := lw_g (lw_at lw_m2 222 rfl) rfl
theorem q520 : (Jvm.Cond.classLink "QuaylockLaw" (43 : Nat) "java/util/NoSuchElementException") ∈ lw_all := lw_g (lw_at lw_m2 223 rfl) rfl
theorem q521 : (Jvm.Cond.methodLink "QuaylockLaw" (40 : Nat) ({ cls := "Quaylock", name := "boxAt", desc := "(II)I" } : Jvm.MethodName)) ∈ lw_all := lw_g (lw_at lw_m2 224 rfl) rfl
theorem q544 : (Jvm.Cond.methodLink "QuaylockLaw" (155 : Nat) ({ cls := "QuaylockLaw", name := "hold", desc := "(LQuaylock;ICI[J)I" } : Jvm.MethodName)) ∈ lw_all := lw_g (lw_at lw_m3 7 rfl) rfl
theorem q545 : (Jvm.Cond.static ({ cls := "QuaylockLaw", name := "hold", desc := "(LQuaylock;ICI[J)I" } : Jvm.MethodName)) ∈ lw_all := lw_g (lw_at lw_m3 8 rfl) rfl
theorem q546 : (Jvm.Cond.codeWith ({ cls := "QuaylockLaw", name := "hold", desc := "(LQuaylock;ICI[J)I" } : Jvm.MethodName) method_11_code (6 : Nat) (Option.some Jvm.ClassFile.FieldType.int) [((0 : Nat), (12 : Nat), (15 : Nat), (21 : Nat)), ((0 : Nat), (12 : Nat), (19 : Nat), (13 : Nat))]) ∈ lw_all := lw_g (lw_at lw_m3 9 rfl) rfl
theorem q547 : (Jvm.Cond.methodLink "QuaylockLaw" (45 : Nat) ({ cls := "Quaylock", name := "hold", desc := "(ICI)I" } : Jvm.MethodName)) ∈ lw_all := lw_g (lw_at lw_m3 10 rfl) rfl
theorem q726 : (Jvm.Cond.methodLink "QuaylockLaw" (159 : Nat) ({ cls := "QuaylockLaw", name := "release", desc := "(LQuaylock;I[J)I" } : Jvm.MethodName)) ∈ lw_all := lw_g (lw_at lw_m3 189 rfl) rfl
theorem q727 : (Jvm.Cond.static ({ cls := "QuaylockLaw", name := "release", desc := "(LQuaylock;I[J)I" } : Jvm.MethodName)) ∈ lw_all := lw_g (lw_at lw_m3 190 rfl) rfl
theorem q728 : (Jvm.Cond.codeWith ({ cls := "QuaylockLaw", name := "release", desc := "(LQuaylock;I[J)I" } : Jvm.MethodName) method_12_code (4 : Nat) (Option.some Jvm.ClassFile.FieldType.int) [((0 : Nat), (9 : Nat), (12 : Nat), (21 : Nat)), ((0 : Nat), (9 : Nat), (15 : Nat), (15 : Nat))]) ∈ lw_all := lw_g (lw_at lw_m3 191 rfl) rfl
theorem q729 : (Jvm.Cond.methodLink "QuaylockLaw" (49 : Nat) ({ cls := "Quaylock", name := "release", desc := "(I)I" } : Jvm.MethodName)) ∈ lw_all := lw_g (lw_at lw_m3 192 rfl) rfl
theorem q733 : (Jvm.Cond.methodLink "QuaylockLaw" (162 : Nat) ({ cls := "QuaylockLaw", name := "holdOf", desc := "(LQuaylock;I[J)I" } : Jvm.MethodName)) ∈ lw_all := lw_g (lw_at lw_m3 196 rfl) rfl
theorem q734 : (Jvm.Cond.static ({ cls := "QuaylockLaw", name := "holdOf", desc := "(LQuaylock;I[J)I" } : Jvm.MethodName)) ∈ lw_all := lw_g (lw_at lw_m3 197 rfl) rfl
theorem q735 : (Jvm.Cond.codeWith ({ cls := "QuaylockLaw", name := "holdOf", desc := "(LQuaylock;I[J)I" } : Jvm.MethodName) method_13_code (4 : Nat) (Option.some Jvm.ClassFile.FieldType.int) [((0 : Nat), (9 : Nat), (12 : Nat), (21 : Nat))]) ∈ lw_all := lw_g (lw_at lw_m3 198 rfl) rfl
theorem q736 : (Jvm.Cond.methodLink "QuaylockLaw" (52 : Nat) ({ cls := "Quaylock", name := "holdOf", desc := "(I)C" } : Jvm.MethodName)) ∈ lw_all := lw_g (lw_at lw_m3 199 rfl) rfl
theorem q740 : (Jvm.Cond.methodLink "QuaylockLaw" (165 : Nat) ({ cls := "QuaylockLaw", name := "heldUntil", desc := "(LQuaylock;I[J)I" } : Jvm.MethodName)) ∈ lw_all := lw_g (lw_at lw_m3 203 rfl) rfl
theorem q741 : (Jvm.Cond.static ({ cls := "QuaylockLaw", name := "heldUntil", desc := "(LQuaylock;I[J)I" } : Jvm.MethodName)) ∈ lw_all := lw_g (lw_at lw_m3 204 rfl) rfl
theorem q742 : (Jvm.Cond.codeWith ({ cls := "QuaylockLaw", name := "heldUntil", desc := "(LQuaylock;I[J)I" } : Jvm.MethodName) method_14_code (4 : Nat) (Option.some Jvm.ClassFile.FieldType.int) [((0 : Nat), (9 : Nat), (12 : Nat), (21 : Nat)), ((0 : Nat), (9 : Nat), (15 : Nat), (43 : Nat))]) ∈ lw_all := lw_g (lw_at lw_m3 205 rfl) rfl
theorem q743 : (Jvm.Cond.methodLink "QuaylockLaw" (56 : Nat) ({ cls := "Quaylock", name := "heldUntil", desc := "(I)I" } : Jvm.MethodName)) ∈ lw_all := lw_g (lw_at lw_m3 206 rfl) rfl
theorem q747 : (Jvm.Cond.methodLink "QuaylockLaw" (168 : Nat) ({ cls := "QuaylockLaw", name := "pinnedAbove", desc := "(LQuaylock;I[J)I" } : Jvm.MethodName)) ∈ lw_all := lw_g (lw_at lw_m3 210 rfl) rfl
theorem q748 : (Jvm.Cond.static ({ cls := "QuaylockLaw", name := "pinnedAbove", desc := "(LQuaylock;I[J)I" } : Jvm.MethodName)) ∈ lw_all := lw_g (lw_at lw_m3 211 rfl) rfl
theorem q749 : (Jvm.Cond.codeWith ({ cls := "QuaylockLaw", name := "pinnedAbove", desc := "(LQuaylock;I[J)I" } : Jvm.MethodName) method_15_code (4 : Nat) (Option.some Jvm.ClassFile.FieldType.int) [((0 : Nat), (9 : Nat), (12 : Nat), (21 : Nat))]) ∈ lw_all := lw_g (lw_at lw_m3 212 rfl) rfl
theorem q750 : (Jvm.Cond.methodLink "QuaylockLaw" (59 : Nat) ({ cls := "Quaylock", name := "pinnedAbove", desc := "(I)I" } : Jvm.MethodName)) ∈ lw_all := lw_g (lw_at lw_m3 213 rfl) rfl
theorem q758 : (Jvm.Cond.methodLink "QuaylockLaw" (171 : Nat) ({ cls := "QuaylockLaw", name := "why", desc := "(LQuaylock;II[J)I" } : Jvm.MethodName)) ∈ lw_all := lw_g (lw_at lw_m3 221 rfl) rfl
theorem q759 : (Jvm.Cond.static ({ cls := "QuaylockLaw", name := "why", desc := "(LQuaylock;II[J)I" } : Jvm.MethodName)) ∈ lw_all := lw_g (lw_at lw_m3 222 rfl) rfl
theorem q760 : (Jvm.Cond.codeWith ({ cls := "QuaylockLaw", name := "why", desc := "(LQuaylock;II[J)I" } : Jvm.MethodName) method_16_code (5 : Nat) (Option.some Jvm.ClassFile.FieldType.int) [((0 : Nat), (10 : Nat), (13 : Nat), (21 : Nat))]) ∈ lw_all := lw_g (lw_at lw_m3 223 rfl) rfl
theorem q761 : (Jvm.Cond.methodLink "QuaylockLaw" (62 : Nat) ({ cls := "Quaylock", name := "why", desc := "(II)C" } : Jvm.MethodName)) ∈ lw_all := lw_g (lw_at lw_m3 224 rfl) rfl
theorem q773 : (Jvm.Cond.methodLink "QuaylockLaw" (174 : Nat) ({ cls := "QuaylockLaw", name := "move", desc := "(LQuaylock;II[J)I" } : Jvm.MethodName)) ∈ lw_all := lw_g (lw_at lw_m3 236 rfl) rfl
theorem q774 : (Jvm.Cond.static ({ cls := "QuaylockLaw", name := "move", desc := "(LQuaylock;II[J)I" } : Jvm.MethodName)) ∈ lw_all := lw_g (lw_at lw_m3 237 rfl) rfl
theorem q775 : (Jvm.Cond.codeWith ({ cls := "QuaylockLaw", name := "move", desc := "(LQuaylock;II[J)I" } : Jvm.MethodName) method_17_code (5 : Nat) (Option.some Jvm.ClassFile.FieldType.int) [((0 : Nat), (10 : Nat), (13 : Nat), (21 : Nat)), ((0 : Nat), (10 : Nat), (17 : Nat), (23 : Nat))]) ∈ lw_all := lw_g (lw_at lw_m3 238 rfl) rfl
theorem q776 : (Jvm.Cond.methodLink "QuaylockLaw" (66 : Nat) ({ cls := "Quaylock", name := "move", desc := "(II)I" } : Jvm.MethodName)) ∈ lw_all := lw_g (lw_at lw_m3 239 rfl) rfl
theorem q788 : (Jvm.Cond.methodLink "QuaylockLaw" (177 : Nat) ({ cls := "QuaylockLaw", name := "planLength", desc := "(LQuaylock;I[J)I" } : Jvm.MethodName)) ∈ lw_all := lw_g (lw_at lw_m4 11 rfl) rfl
theorem q789 : (Jvm.Cond.static ({ cls := "QuaylockLaw", name := "planLength", desc := "(LQuaylock;I[J)I" } : Jvm.MethodName)) ∈ lw_all := lw_g (lw_at lw_m4 12 rfl) rfl
theorem q790 : (Jvm.Cond.codeWith ({ cls := "QuaylockLaw", name := "planLength", desc := "(LQuaylock;I[J)I" } : Jvm.MethodName) method_18_code (4 : Nat) (Option.some Jvm.ClassFile.FieldType.int) [((0 : Nat), (9 : Nat), (12 : Nat), (21 : Nat)), ((0 : Nat), (9 : Nat), (15 : Nat), (43 : Nat))]) ∈ lw_all := lw_g (lw_at lw_m4 13 rfl) rfl
theorem q791 : (Jvm.Cond.methodLink "QuaylockLaw" (69 : Nat) ({ cls := "Quaylock", name := "planLength", desc := "(I)I" } : Jvm.MethodName)) ∈ lw_all := lw_g (lw_at lw_m4 14 rfl) rfl
theorem q1092 : (Jvm.Cond.methodLink "QuaylockLaw" (180 : Nat) ({ cls := "QuaylockLaw", name := "planByTrying", desc := "(LQuaylock;I[J)I" } : Jvm.MethodName)) ∈ lw_all := lw_g (lw_at lw_m5 75 rfl) rfl
theorem q1093 : (Jvm.Cond.static ({ cls := "QuaylockLaw", name := "planByTrying", desc := "(LQuaylock;I[J)I" } : Jvm.MethodName)) ∈ lw_all := lw_g (lw_at lw_m5 76 rfl) rfl
theorem q1094 : (Jvm.Cond.codeWith ({ cls := "QuaylockLaw", name := "planByTrying", desc := "(LQuaylock;I[J)I" } : Jvm.MethodName) method_19_code (4 : Nat) (Option.some Jvm.ClassFile.FieldType.int) [((0 : Nat), (9 : Nat), (12 : Nat), (21 : Nat)), ((0 : Nat), (9 : Nat), (15 : Nat), (43 : Nat))]) ∈ lw_all := lw_g (lw_at lw_m5 77 rfl) rfl
theorem q1095 : (Jvm.Cond.methodLink "QuaylockLaw" (72 : Nat) ({ cls := "Quaylock", name := "planByTrying", desc := "(I)I" } : Jvm.MethodName)) ∈ lw_all := lw_g (lw_at lw_m5 78 rfl) rfl
theorem q1103 : (Jvm.Cond.methodLink "QuaylockLaw" (183 : Nat) ({ cls := "QuaylockLaw", name := "planBox", desc := "(LQuaylock;II[J)I" } : Jvm.MethodName)) ∈ lw_all := lw_g (lw_at lw_m5 86 rfl) rfl
theorem q1104 : (Jvm.Cond.static ({ cls := "QuaylockLaw", name := "planBox", desc := "(LQuaylock;II[J)I" } : Jvm.MethodName)) ∈ lw_all := lw_g (lw_at lw_m5 87 rfl) rfl
theorem q1105 : (Jvm.Cond.codeWith ({ cls := "QuaylockLaw", name := "planBox", desc := "(LQuaylock;II[J)I" } : Jvm.MethodName) method_20_code (5 : Nat) (Option.some Jvm.ClassFile.FieldType.int) [((0 : Nat), (10 : Nat), (13 : Nat), (21 : Nat)), ((0 : Nat), (10 : Nat), (17 : Nat), (43 : Nat))]) ∈ lw_all := lw_g (lw_at lw_m5 88 rfl) rfl
theorem q1106 : (Jvm.Cond.methodLink "QuaylockLaw" (75 : Nat) ({ cls := "Quaylock", name := "planBox", desc := "(II)I" } : Jvm.MethodName)) ∈ lw_all := lw_g (lw_at lw_m5 89 rfl) rfl
theorem q1113 : (Jvm.Cond.methodLink "QuaylockLaw" (186 : Nat) ({ cls := "QuaylockLaw", name := "planStack", desc := "(LQuaylock;II[J)I" } : Jvm.MethodName)) ∈ lw_all := lw_g (lw_at lw_m5 96 rfl) rfl
theorem q1114 : (Jvm.Cond.static ({ cls := "QuaylockLaw", name := "planStack", desc := "(LQuaylock;II[J)I" } : Jvm.MethodName)) ∈ lw_all := lw_g (lw_at lw_m5 97 rfl) rfl
theorem q1115 : (Jvm.Cond.codeWith ({ cls := "QuaylockLaw", name := "planStack", desc := "(LQuaylock;II[J)I" } : Jvm.MethodName) method_21_code (5 : Nat) (Option.some Jvm.ClassFile.FieldType.int) [((0 : Nat), (10 : Nat), (13 : Nat), (21 : Nat)), ((0 : Nat), (10 : Nat), (17 : Nat), (43 : Nat))]) ∈ lw_all := lw_g (lw_at lw_m5 98 rfl) rfl
theorem q1116 : (Jvm.Cond.methodLink "QuaylockLaw" (78 : Nat) ({ cls := "Quaylock", name := "planStack", desc := "(II)I" } : Jvm.MethodName)) ∈ lw_all := lw_g (lw_at lw_m5 99 rfl) rfl
theorem q1120 : (Jvm.Cond.methodLink "QuaylockLaw" (189 : Nat) ({ cls := "QuaylockLaw", name := "dig", desc := "(LQuaylock;I[J)I" } : Jvm.MethodName)) ∈ lw_all := lw_g (lw_at lw_m5 103 rfl) rfl
theorem q1121 : (Jvm.Cond.static ({ cls := "QuaylockLaw", name := "dig", desc := "(LQuaylock;I[J)I" } : Jvm.MethodName)) ∈ lw_all := lw_g (lw_at lw_m5 104 rfl) rfl
theorem q1122 : (Jvm.Cond.codeWith ({ cls := "QuaylockLaw", name := "dig", desc := "(LQuaylock;I[J)I" } : Jvm.MethodName) method_22_code (4 : Nat) (Option.some Jvm.ClassFile.FieldType.int) [((0 : Nat), (9 : Nat), (12 : Nat), (21 : Nat)), ((0 : Nat), (9 : Nat), (15 : Nat), (43 : Nat))]) ∈ lw_all := lw_g (lw_at lw_m5 105 rfl) rfl
theorem q1123 : (Jvm.Cond.methodLink "QuaylockLaw" (81 : Nat) ({ cls := "Quaylock", name := "dig", desc := "(I)I" } : Jvm.MethodName)) ∈ lw_all := lw_g (lw_at lw_m5 106 rfl) rfl
theorem q1131 : (Jvm.Cond.methodLink "QuaylockLaw" (196 : Nat) ({ cls := "QuaylockLaw", name := "book", desc := "(LQuaylock;III[J)I" } : Jvm.MethodName)) ∈ lw_all := lw_g (lw_at lw_m5 114 rfl) rfl
theorem q1132 : (Jvm.Cond.static ({ cls := "QuaylockLaw", name := "book", desc := "(LQuaylock;III[J)I" } : Jvm.MethodName)) ∈ lw_all := lw_g (lw_at lw_m5 115 rfl) rfl
theorem q1133 : (Jvm.Cond.codeWith ({ cls := "QuaylockLaw", name := "book", desc := "(LQuaylock;III[J)I" } : Jvm.MethodName) method_23_code (6 : Nat) (Option.some Jvm.ClassFile.FieldType.int) [((0 : Nat), (12 : Nat), (15 : Nat), (21 : Nat)), ((0 : Nat), (12 : Nat), (19 : Nat), (13 : Nat)), ((0 : Nat), (12 : Nat), (23 : Nat), (23 : Nat)), ((0 : Nat), (12 : Nat), (27 : Nat), (15 : Nat))]) ∈ lw_all := lw_g (lw_at lw_m5 116 rfl) rfl
theorem q1134 : (Jvm.Cond.methodLink "QuaylockLaw" (84 : Nat) ({ cls := "Quaylock", name := "book", desc := "(III)I" } : Jvm.MethodName)) ∈ lw_all := lw_g (lw_at lw_m5 117 rfl) rfl
theorem q1214 : (Jvm.Cond.methodLink "QuaylockLaw" (200 : Nat) ({ cls := "QuaylockLaw", name := "cancel", desc := "(LQuaylock;I[J)I" } : Jvm.MethodName)) ∈ lw_all := lw_g (lw_at lw_m5 197 rfl) rfl
theorem q1215 : (Jvm.Cond.static ({ cls := "QuaylockLaw", name := "cancel", desc := "(LQuaylock;I[J)I" } : Jvm.MethodName)) ∈ lw_all := lw_g (lw_at lw_m5 198 rfl) rfl
theorem q1216 : (Jvm.Cond.codeWith ({ cls := "QuaylockLaw", name := "cancel", desc := "(LQuaylock;I[J)I" } : Jvm.MethodName) method_24_code (4 : Nat) (Option.some Jvm.ClassFile.FieldType.int) [((0 : Nat), (9 : Nat), (12 : Nat), (21 : Nat)), ((0 : Nat), (9 : Nat), (15 : Nat), (15 : Nat))]) ∈ lw_all := lw_g (lw_at lw_m5 199 rfl) rfl
theorem q1217 : (Jvm.Cond.methodLink "QuaylockLaw" (88 : Nat) ({ cls := "Quaylock", name := "cancel", desc := "(I)I" } : Jvm.MethodName)) ∈ lw_all := lw_g (lw_at lw_m5 200 rfl) rfl
theorem q1245 : (Jvm.Cond.methodLink "QuaylockLaw" (203 : Nat) ({ cls := "QuaylockLaw", name := "stateOf", desc := "(LQuaylock;I[J)I" } : Jvm.MethodName)) ∈ lw_all := lw_g (lw_at lw_m5 228 rfl) rfl
theorem q1246 : (Jvm.Cond.static ({ cls := "QuaylockLaw", name := "stateOf", desc := "(LQuaylock;I[J)I" } : Jvm.MethodName)) ∈ lw_all := lw_g (lw_at lw_m5 229 rfl) rfl
theorem q1247 : (Jvm.Cond.codeWith ({ cls := "QuaylockLaw", name := "stateOf", desc := "(LQuaylock;I[J)I" } : Jvm.MethodName) method_25_code (4 : Nat) (Option.some Jvm.ClassFile.FieldType.int) [((0 : Nat), (9 : Nat), (12 : Nat), (21 : Nat))]) ∈ lw_all := lw_g (lw_at lw_m5 230 rfl) rfl
theorem q1248 : (Jvm.Cond.methodLink "QuaylockLaw" (91 : Nat) ({ cls := "Quaylock", name := "stateOf", desc := "(I)C" } : Jvm.MethodName)) ∈ lw_all := lw_g (lw_at lw_m5 231 rfl) rfl
theorem q1252 : (Jvm.Cond.methodLink "QuaylockLaw" (206 : Nat) ({ cls := "QuaylockLaw", name := "appointmentOf", desc := "(LQuaylock;I[J)I" } : Jvm.MethodName)) ∈ lw_all := lw_g (lw_at lw_m5 235 rfl) rfl
theorem q1253 : (Jvm.Cond.static ({ cls := "QuaylockLaw", name := "appointmentOf", desc := "(LQuaylock;I[J)I" } : Jvm.MethodName)) ∈ lw_all := lw_g (lw_at lw_m5 236 rfl) rfl
theorem q1254 : (Jvm.Cond.codeWith ({ cls := "QuaylockLaw", name := "appointmentOf", desc := "(LQuaylock;I[J)I" } : Jvm.MethodName) method_26_code (4 : Nat) (Option.some Jvm.ClassFile.FieldType.int) [((0 : Nat), (9 : Nat), (12 : Nat), (21 : Nat)), ((0 : Nat), (9 : Nat), (15 : Nat), (43 : Nat))]) ∈ lw_all := lw_g (lw_at lw_m5 237 rfl) rfl
theorem q1255 : (Jvm.Cond.methodLink "QuaylockLaw" (94 : Nat) ({ cls := "Quaylock", name := "appointmentOf", desc := "(I)I" } : Jvm.MethodName)) ∈ lw_all := lw_g (lw_at lw_m5 238 rfl) rfl
theorem q1259 : (Jvm.Cond.methodLink "QuaylockLaw" (209 : Nat) ({ cls := "QuaylockLaw", name := "inLane", desc := "(LQuaylock;II[J)I" } : Jvm.MethodName)) ∈ lw_all := lw_g (lw_at lw_m6 2 rfl) rfl
theorem q1260 : (Jvm.Cond.static ({ cls := "QuaylockLaw", name := "inLane", desc := "(LQuaylock;II[J)I" } : Jvm.MethodName)) ∈ lw_all := lw_g (lw_at lw_m6 3 rfl) rfl
theorem q1261 : (Jvm.Cond.codeWith ({ cls := "QuaylockLaw", name := "inLane", desc := "(LQuaylock;II[J)I" } : Jvm.MethodName) method_27_code (5 : Nat) (Option.some Jvm.ClassFile.FieldType.int) [((0 : Nat), (10 : Nat), (13 : Nat), (21 : Nat)), ((0 : Nat), (10 : Nat), (17 : Nat), (13 : Nat))]) ∈ lw_all := lw_g (lw_at lw_m6 4 rfl) rfl
theorem q1262 : (Jvm.Cond.methodLink "QuaylockLaw" (97 : Nat) ({ cls := "Quaylock", name := "inLane", desc := "(II)I" } : Jvm.MethodName)) ∈ lw_all := lw_g (lw_at lw_m6 5 rfl) rfl
theorem q1267 : (Jvm.Cond.methodLink "QuaylockLaw" (212 : Nat) ({ cls := "QuaylockLaw", name := "firstHour", desc := "(LQuaylock;I[J)I" } : Jvm.MethodName)) ∈ lw_all := lw_g (lw_at lw_m6 10 rfl) rfl
theorem q1268 : (Jvm.Cond.static ({ cls := "QuaylockLaw", name := "firstHour", desc := "(LQuaylock;I[J)I" } : Jvm.MethodName)) ∈ lw_all := lw_g (lw_at lw_m6 11 rfl) rfl
theorem q1269 : (Jvm.Cond.codeWith ({ cls := "QuaylockLaw", name := "firstHour", desc := "(LQuaylock;I[J)I" } : Jvm.MethodName) method_28_code (4 : Nat) (Option.some Jvm.ClassFile.FieldType.int) [((0 : Nat), (9 : Nat), (12 : Nat), (21 : Nat)), ((0 : Nat), (9 : Nat), (15 : Nat), (43 : Nat))]) ∈ lw_all := lw_g (lw_at lw_m6 12 rfl) rfl
theorem q1270 : (Jvm.Cond.methodLink "QuaylockLaw" (100 : Nat) ({ cls := "Quaylock", name := "firstHour", desc := "(I)I" } : Jvm.MethodName)) ∈ lw_all := lw_g (lw_at lw_m6 13 rfl) rfl
theorem q1279 : (Jvm.Cond.methodLink "QuaylockLaw" (215 : Nat) ({ cls := "QuaylockLaw", name := "pass", desc := "(LQuaylock;I[J)I" } : Jvm.MethodName)) ∈ lw_all := lw_g (lw_at lw_m6 22 rfl) rfl
theorem q1280 : (Jvm.Cond.static ({ cls := "QuaylockLaw", name := "pass", desc := "(LQuaylock;I[J)I" } : Jvm.MethodName)) ∈ lw_all := lw_g (lw_at lw_m6 23 rfl) rfl
theorem q1281 : (Jvm.Cond.codeWith ({ cls := "QuaylockLaw", name := "pass", desc := "(LQuaylock;I[J)I" } : Jvm.MethodName) method_29_code (4 : Nat) (Option.some Jvm.ClassFile.FieldType.int) [((0 : Nat), (9 : Nat), (12 : Nat), (13 : Nat))]) ∈ lw_all := lw_g (lw_at lw_m6 24 rfl) rfl
theorem q1282 : (Jvm.Cond.methodLink "QuaylockLaw" (103 : Nat) ({ cls := "Quaylock", name := "pass", desc := "(I)I" } : Jvm.MethodName)) ∈ lw_all := lw_g (lw_at lw_m6 25 rfl) rfl
theorem q1370 : (Jvm.Cond.methodLink "QuaylockLaw" (227 : Nat) ({ cls := "QuaylockLaw", name := "doneShare", desc := "(LQuaylock;[D)I" } : Jvm.MethodName)) ∈ lw_all := lw_g (lw_at lw_m6 113 rfl) rfl
theorem q1371 : (Jvm.Cond.static ({ cls := "QuaylockLaw", name := "doneShare", desc := "(LQuaylock;[D)I" } : Jvm.MethodName)) ∈ lw_all := lw_g (lw_at lw_m6 114 rfl) rfl
theorem q1372 : (Jvm.Cond.codeWith ({ cls := "QuaylockLaw", name := "doneShare", desc := "(LQuaylock;[D)I" } : Jvm.MethodName) method_30_code (3 : Nat) (Option.some Jvm.ClassFile.FieldType.int) [((0 : Nat), (8 : Nat), (11 : Nat), (43 : Nat))]) ∈ lw_all := lw_g (lw_at lw_m6 115 rfl) rfl
theorem q1373 : (Jvm.Cond.methodLink "QuaylockLaw" (106 : Nat) ({ cls := "Quaylock", name := "doneShare", desc := "()F" } : Jvm.MethodName)) ∈ lw_all := lw_g (lw_at lw_m6 116 rfl) rfl
theorem q1381 : (Jvm.Cond.classLink "QuaylockLaw" (111 : Nat) "QuaylockModel") ∈ lw_all := lw_g (lw_at lw_m6 124 rfl) rfl
theorem q1383 : (Jvm.Cond.methodLink "QuaylockLaw" (113 : Nat) ({ cls := "QuaylockModel", name := "<init>", desc := "()V" } : Jvm.MethodName)) ∈ lw_all := lw_g (lw_at lw_m6 126 rfl) rfl
theorem q1447 : (Jvm.Cond.methodLink "QuaylockLaw" (120 : Nat) ({ cls := "QuaylockModel", name := "thrown", desc := "()I" } : Jvm.MethodName)) ∈ lw_all := lw_g (lw_at lw_m6 190 rfl) rfl
theorem q1451 : (Jvm.Cond.methodLink "QuaylockLaw" (119 : Nat) ({ cls := "QuaylockModel", name := "addStack", desc := "(I)I" } : Jvm.MethodName)) ∈ lw_all := lw_g (lw_at lw_m6 194 rfl) rfl
theorem q1462 : (Jvm.Cond.methodLink "QuaylockLaw" (127 : Nat) ({ cls := "QuaylockModel", name := "addBox", desc := "(II)I" } : Jvm.MethodName)) ∈ lw_all := lw_g (lw_at lw_m6 205 rfl) rfl
theorem q1486 : (Jvm.Cond.methodLink "QuaylockLaw" (131 : Nat) ({ cls := "QuaylockModel", name := "boxes", desc := "()I" } : Jvm.MethodName)) ∈ lw_all := lw_g (lw_at lw_m6 229 rfl) rfl
theorem q1490 : (Jvm.Cond.methodLink "QuaylockLaw" (136 : Nat) ({ cls := "QuaylockModel", name := "isInYard", desc := "(I)Z" } : Jvm.MethodName)) ∈ lw_all := lw_g (lw_at lw_m6 233 rfl) rfl
theorem q1498 : (Jvm.Cond.methodLink "QuaylockLaw" (139 : Nat) ({ cls := "QuaylockModel", name := "weight", desc := "(I)I" } : Jvm.MethodName)) ∈ lw_all := lw_g (lw_at lw_m7 1 rfl) rfl
theorem q1502 : (Jvm.Cond.methodLink "QuaylockLaw" (142 : Nat) ({ cls := "QuaylockModel", name := "stackOf", desc := "(I)I" } : Jvm.MethodName)) ∈ lw_all := lw_g (lw_at lw_m7 5 rfl) rfl
theorem q1510 : (Jvm.Cond.methodLink "QuaylockLaw" (145 : Nat) ({ cls := "QuaylockModel", name := "level", desc := "(I)I" } : Jvm.MethodName)) ∈ lw_all := lw_g (lw_at lw_m7 13 rfl) rfl
theorem q1518 : (Jvm.Cond.methodLink "QuaylockLaw" (148 : Nat) ({ cls := "QuaylockModel", name := "above", desc := "(I)I" } : Jvm.MethodName)) ∈ lw_all := lw_g (lw_at lw_m7 21 rfl) rfl
theorem q1526 : (Jvm.Cond.methodLink "QuaylockLaw" (151 : Nat) ({ cls := "QuaylockModel", name := "height", desc := "(I)I" } : Jvm.MethodName)) ∈ lw_all := lw_g (lw_at lw_m7 29 rfl) rfl
theorem q1530 : (Jvm.Cond.methodLink "QuaylockLaw" (154 : Nat) ({ cls := "QuaylockModel", name := "boxAt", desc := "(II)I" } : Jvm.MethodName)) ∈ lw_all := lw_g (lw_at lw_m7 33 rfl) rfl
theorem q1534 : (Jvm.Cond.methodLink "QuaylockLaw" (158 : Nat) ({ cls := "QuaylockModel", name := "hold", desc := "(ICI)I" } : Jvm.MethodName)) ∈ lw_all := lw_g (lw_at lw_m7 37 rfl) rfl
theorem q1542 : (Jvm.Cond.methodLink "QuaylockLaw" (161 : Nat) ({ cls := "QuaylockModel", name := "release", desc := "(I)I" } : Jvm.MethodName)) ∈ lw_all := lw_g (lw_at lw_m7 45 rfl) rfl
theorem q1546 : (Jvm.Cond.methodLink "QuaylockLaw" (164 : Nat) ({ cls := "QuaylockModel", name := "holdOf", desc := "(I)C" } : Jvm.MethodName)) ∈ lw_all := lw_g (lw_at lw_m7 49 rfl) rfl
theorem q1550 : (Jvm.Cond.methodLink "QuaylockLaw" (167 : Nat) ({ cls := "QuaylockModel", name := "heldUntil", desc := "(I)I" } : Jvm.MethodName)) ∈ lw_all := lw_g (lw_at lw_m7 53 rfl) rfl
theorem q1554 : (Jvm.Cond.methodLink "QuaylockLaw" (170 : Nat) ({ cls := "QuaylockModel", name := "pinnedAbove", desc := "(I)I" } : Jvm.MethodName)) ∈ lw_all := lw_g (lw_at lw_m7 57 rfl) rfl
theorem q1562 : (Jvm.Cond.methodLink "QuaylockLaw" (173 : Nat) ({ cls := "QuaylockModel", name := "why", desc := "(II)C" } : Jvm.MethodName)) ∈ lw_all := lw_g (lw_at lw_m7 65 rfl) rfl
theorem q1570 : (Jvm.Cond.methodLink "QuaylockLaw" (176 : Nat) ({ cls := "QuaylockModel", name := "move", desc := "(II)I" } : Jvm.MethodName)) ∈ lw_all := lw_g (lw_at lw_m7 73 rfl) rfl
theorem q1582 : (Jvm.Cond.methodLink "QuaylockLaw" (179 : Nat) ({ cls := "QuaylockModel", name := "planLength", desc := "(I)I" } : Jvm.MethodName)) ∈ lw_all := lw_g (lw_at lw_m7 85 rfl) rfl
theorem q1606 : (Jvm.Cond.methodLink "QuaylockLaw" (182 : Nat) ({ cls := "QuaylockModel", name := "planByTrying", desc := "(I)I" } : Jvm.MethodName)) ∈ lw_all := lw_g (lw_at lw_m7 109 rfl) rfl
theorem q1610 : (Jvm.Cond.methodLink "QuaylockLaw" (185 : Nat) ({ cls := "QuaylockModel", name := "planBox", desc := "(II)I" } : Jvm.MethodName)) ∈ lw_all := lw_g (lw_at lw_m7 113 rfl) rfl
theorem q1618 : (Jvm.Cond.methodLink "QuaylockLaw" (188 : Nat) ({ cls := "QuaylockModel", name := "planStack", desc := "(II)I" } : Jvm.MethodName)) ∈ lw_all := lw_g (lw_at lw_m7 121 rfl) rfl
theorem q1622 : (Jvm.Cond.methodLink "QuaylockLaw" (191 : Nat) ({ cls := "QuaylockModel", name := "dig", desc := "(I)I" } : Jvm.MethodName)) ∈ lw_all := lw_g (lw_at lw_m7 125 rfl) rfl
theorem q1630 : (Jvm.Cond.methodLink "QuaylockLaw" (195 : Nat) ({ cls := "QuaylockModel", name := "moves", desc := "()I" } : Jvm.MethodName)) ∈ lw_all := lw_g (lw_at lw_m7 133 rfl) rfl
theorem q1634 : (Jvm.Cond.methodLink "QuaylockLaw" (199 : Nat) ({ cls := "QuaylockModel", name := "book", desc := "(III)I" } : Jvm.MethodName)) ∈ lw_all := lw_g (lw_at lw_m7 137 rfl) rfl
theorem q1646 : (Jvm.Cond.methodLink "QuaylockLaw" (202 : Nat) ({ cls := "QuaylockModel", name := "cancel", desc := "(I)I" } : Jvm.MethodName)) ∈ lw_all := lw_g (lw_at lw_m7 149 rfl) rfl
theorem q1654 : (Jvm.Cond.methodLink "QuaylockLaw" (205 : Nat) ({ cls := "QuaylockModel", name := "stateOf", desc := "(I)C" } : Jvm.MethodName)) ∈ lw_all := lw_g (lw_at lw_m7 157 rfl) rfl
theorem q1658 : (Jvm.Cond.methodLink "QuaylockLaw" (208 : Nat) ({ cls := "QuaylockModel", name := "appointmentOf", desc := "(I)I" } : Jvm.MethodName)) ∈ lw_all := lw_g (lw_at lw_m7 161 rfl) rfl
theorem q1662 : (Jvm.Cond.methodLink "QuaylockLaw" (211 : Nat) ({ cls := "QuaylockModel", name := "inLane", desc := "(II)I" } : Jvm.MethodName)) ∈ lw_all := lw_g (lw_at lw_m7 165 rfl) rfl
theorem q1666 : (Jvm.Cond.methodLink "QuaylockLaw" (214 : Nat) ({ cls := "QuaylockModel", name := "firstHour", desc := "(I)I" } : Jvm.MethodName)) ∈ lw_all := lw_g (lw_at lw_m7 169 rfl) rfl
theorem q1670 : (Jvm.Cond.methodLink "QuaylockLaw" (217 : Nat) ({ cls := "QuaylockModel", name := "pass", desc := "(I)I" } : Jvm.MethodName)) ∈ lw_all := lw_g (lw_at lw_m7 173 rfl) rfl
theorem q1678 : (Jvm.Cond.methodLink "QuaylockLaw" (221 : Nat) ({ cls := "QuaylockModel", name := "now", desc := "()I" } : Jvm.MethodName)) ∈ lw_all := lw_g (lw_at lw_m7 181 rfl) rfl
theorem q1682 : (Jvm.Cond.methodLink "QuaylockLaw" (226 : Nat) ({ cls := "QuaylockModel", name := "weightLeft", desc := "()J" } : Jvm.MethodName)) ∈ lw_all := lw_g (lw_at lw_m7 185 rfl) rfl
theorem q1686 : (Jvm.Cond.methodLink "QuaylockLaw" (230 : Nat) ({ cls := "QuaylockModel", name := "doneShare", desc := "()F" } : Jvm.MethodName)) ∈ lw_all := lw_g (lw_at lw_m7 189 rfl) rfl
/-! QuaylockModel -/
set_option maxRecDepth 100000
def RX3 : String := "QuaylockModel"
def TX3 : u_T := fun k => match k with
  | 0 => ("QuaylockModel", "code", "I", false)
  | 1 => ("QuaylockModel", "now", "I", false)
  | 2 => ("QuaylockModel", "stacks", "I", false)
  | 3 => ("QuaylockModel", "reaches", "[I", true)
  | 4 => ("QuaylockModel", "boxes", "I", false)
  | 5 => ("QuaylockModel", "weights", "[I", true)
  | 6 => ("QuaylockModel", "inside", "[Z", true)
  | 7 => ("QuaylockModel", "holds", "[C", true)
  | 8 => ("QuaylockModel", "untils", "[I", true)
  | 9 => ("QuaylockModel", "heights", "[I", true)
  | 10 => ("QuaylockModel", "piles", "[I", true)
  | 11 => ("QuaylockModel", "plan", "[I", true)
  | 12 => ("QuaylockModel", "moves", "I", false)
  | 13 => ("QuaylockModel", "appointments", "I", false)
  | 14 => ("QuaylockModel", "appointed", "[I", true)
  | 15 => ("QuaylockModel", "hours", "[I", true)
  | 16 => ("QuaylockModel", "lanes", "[I", true)
  | 17 => ("QuaylockModel", "states", "[C", true)
  | _ => ("QuaylockModel", "left", "J", false)
def tyX3 : Nat → FieldType := fun k => match k with
  | 0 => .int
  | 1 => .int
  | 2 => .int
  | 3 => .array .int
  | 4 => .int
  | 5 => .array .int
  | 6 => .array .boolean
  | 7 => .array .char
  | 8 => .array .int
  | 9 => .array .int
  | 10 => .array .int
  | 11 => .array .int
  | 12 => .int
  | 13 => .int
  | 14 => .array .int
  | 15 => .array .int
  | 16 => .array .int
  | 17 => .array .char
  | _ => .long
abbrev wsX30 : List Cond := u_ws RX3 TX3 19
set_option maxRecDepth 100000 in
theorem nmX3 : ∀ a, a < 19 → ∀ b, b < 19 → a ≠ b → (TX3 a).2.1 ≠ (TX3 b).2.1 := by decide +kernel
set_option maxRecDepth 100000 in
theorem tyX3_ok : ∀ k, k < 19 → parseFieldDescriptor (TX3 k).2.2.1 = some (tyX3 k) := by decide +kernel
abbrev cX3_init : ByteArray := prog_9_method_1_code
def yX3_init : MethodName := ⟨RX3, "<init>", "()V"⟩
def dkwX3_init_4 : List UInt8 := [181, 0, 45, 177]
abbrev dktX3_init_4 : List UInt8 := dkwX3_init_4 ++ []
def dkwX3_init_3 : List UInt8 := [181, 0, 36, 42, 16, 30, 188, 10, 181, 0, 39, 42, 16, 30, 188, 10, 181, 0, 42, 42, 16, 30, 188, 5]
abbrev dktX3_init_3 : List UInt8 := dkwX3_init_3 ++ dktX3_init_4
def dkwX3_init_2 : List UInt8 := [181, 0, 27, 42, 16, 96, 188, 10, 181, 0, 30, 42, 16, 6, 188, 10, 181, 0, 33, 42, 16, 30, 188, 10]
abbrev dktX3_init_2 : List UInt8 := dkwX3_init_2 ++ dktX3_init_3
def dkwX3_init_1 : List UInt8 := [181, 0, 16, 42, 16, 20, 188, 5, 181, 0, 20, 42, 16, 20, 188, 10, 181, 0, 24, 42, 16, 24, 188, 10]
abbrev dktX3_init_1 : List UInt8 := dkwX3_init_1 ++ dktX3_init_2
def dkwX3_init_0 : List UInt8 := [42, 183, 0, 1, 42, 7, 188, 10, 181, 0, 7, 42, 16, 20, 188, 10, 181, 0, 13, 42, 16, 20, 188, 4]
abbrev dktX3_init_0 : List UInt8 := dkwX3_init_0 ++ dktX3_init_1
theorem dksX3_init_0 : cX3_init.data.toList.drop 0 = dktX3_init_0 := by decide +kernel
theorem dksX3_init_1 : cX3_init.data.toList.drop 24 = dktX3_init_1 := dk_seg dksX3_init_0 24 rfl rfl
theorem dksX3_init_2 : cX3_init.data.toList.drop 48 = dktX3_init_2 := dk_seg dksX3_init_1 24 rfl rfl
theorem dksX3_init_3 : cX3_init.data.toList.drop 72 = dktX3_init_3 := dk_seg dksX3_init_2 24 rfl rfl
theorem dksX3_init_4 : cX3_init.data.toList.drop 96 = dktX3_init_4 := dk_seg dksX3_init_3 24 rfl rfl
theorem dX3_init_0 : decode cX3_init 0 = .ok (.aload_n 0, 1) := dk_42 (dk_at dksX3_init_0 0 rfl rfl)
theorem dX3_init_1 : decode cX3_init 1 = .ok (.invokespecial 1, 3) := dk_183 0 1 (dk_at dksX3_init_0 1 rfl rfl)
theorem dX3_init_4 : decode cX3_init 4 = .ok (.aload_n 0, 1) := dk_42 (dk_at dksX3_init_0 4 rfl rfl)
theorem dX3_init_5 : decode cX3_init 5 = .ok (.iconst 4, 1) := dk_7 (dk_at dksX3_init_0 5 rfl rfl)
theorem dX3_init_6 : decode cX3_init 6 = .ok (.newarray .int, 2) := dk_188_10 (dk_at dksX3_init_0 6 rfl rfl)
theorem dX3_init_8 : decode cX3_init 8 = .ok (.putfield 7, 3) := dk_181 0 7 (dk_at dksX3_init_0 8 rfl rfl)
theorem dX3_init_11 : decode cX3_init 11 = .ok (.aload_n 0, 1) := dk_42 (dk_at dksX3_init_0 11 rfl rfl)
theorem dX3_init_12 : decode cX3_init 12 = .ok (.bipush 20, 2) := dk_16 20 (dk_at dksX3_init_0 12 rfl rfl)
theorem dX3_init_14 : decode cX3_init 14 = .ok (.newarray .int, 2) := dk_188_10 (dk_at dksX3_init_0 14 rfl rfl)
theorem dX3_init_16 : decode cX3_init 16 = .ok (.putfield 13, 3) := dk_181 0 13 (dk_at dksX3_init_0 16 rfl rfl)
theorem dX3_init_19 : decode cX3_init 19 = .ok (.aload_n 0, 1) := dk_42 (dk_at dksX3_init_0 19 rfl rfl)
theorem dX3_init_20 : decode cX3_init 20 = .ok (.bipush 20, 2) := dk_16 20 (dk_at dksX3_init_0 20 rfl rfl)
theorem dX3_init_22 : decode cX3_init 22 = .ok (.newarray .boolean, 2) := dk_188_4 (dk_at dksX3_init_0 22 rfl rfl)
theorem dX3_init_24 : decode cX3_init 24 = .ok (.putfield 16, 3) := dk_181 0 16 (dk_at dksX3_init_1 0 rfl rfl)
theorem dX3_init_27 : decode cX3_init 27 = .ok (.aload_n 0, 1) := dk_42 (dk_at dksX3_init_1 3 rfl rfl)
theorem dX3_init_28 : decode cX3_init 28 = .ok (.bipush 20, 2) := dk_16 20 (dk_at dksX3_init_1 4 rfl rfl)
theorem dX3_init_30 : decode cX3_init 30 = .ok (.newarray .char, 2) := dk_188_5 (dk_at dksX3_init_1 6 rfl rfl)
theorem dX3_init_32 : decode cX3_init 32 = .ok (.putfield 20, 3) := dk_181 0 20 (dk_at dksX3_init_1 8 rfl rfl)
theorem dX3_init_35 : decode cX3_init 35 = .ok (.aload_n 0, 1) := dk_42 (dk_at dksX3_init_1 11 rfl rfl)
theorem dX3_init_36 : decode cX3_init 36 = .ok (.bipush 20, 2) := dk_16 20 (dk_at dksX3_init_1 12 rfl rfl)
theorem dX3_init_38 : decode cX3_init 38 = .ok (.newarray .int, 2) := dk_188_10 (dk_at dksX3_init_1 14 rfl rfl)
theorem dX3_init_40 : decode cX3_init 40 = .ok (.putfield 24, 3) := dk_181 0 24 (dk_at dksX3_init_1 16 rfl rfl)
theorem dX3_init_43 : decode cX3_init 43 = .ok (.aload_n 0, 1) := dk_42 (dk_at dksX3_init_1 19 rfl rfl)
theorem dX3_init_44 : decode cX3_init 44 = .ok (.bipush 24, 2) := dk_16 24 (dk_at dksX3_init_1 20 rfl rfl)
theorem dX3_init_46 : decode cX3_init 46 = .ok (.newarray .int, 2) := dk_188_10 (dk_at dksX3_init_1 22 rfl rfl)
theorem dX3_init_48 : decode cX3_init 48 = .ok (.putfield 27, 3) := dk_181 0 27 (dk_at dksX3_init_2 0 rfl rfl)
theorem dX3_init_51 : decode cX3_init 51 = .ok (.aload_n 0, 1) := dk_42 (dk_at dksX3_init_2 3 rfl rfl)
theorem dX3_init_52 : decode cX3_init 52 = .ok (.bipush 96, 2) := dk_16 96 (dk_at dksX3_init_2 4 rfl rfl)
theorem dX3_init_54 : decode cX3_init 54 = .ok (.newarray .int, 2) := dk_188_10 (dk_at dksX3_init_2 6 rfl rfl)
theorem dX3_init_56 : decode cX3_init 56 = .ok (.putfield 30, 3) := dk_181 0 30 (dk_at dksX3_init_2 8 rfl rfl)
theorem dX3_init_59 : decode cX3_init 59 = .ok (.aload_n 0, 1) := dk_42 (dk_at dksX3_init_2 11 rfl rfl)
theorem dX3_init_60 : decode cX3_init 60 = .ok (.bipush 6, 2) := dk_16 6 (dk_at dksX3_init_2 12 rfl rfl)
theorem dX3_init_62 : decode cX3_init 62 = .ok (.newarray .int, 2) := dk_188_10 (dk_at dksX3_init_2 14 rfl rfl)
theorem dX3_init_64 : decode cX3_init 64 = .ok (.putfield 33, 3) := dk_181 0 33 (dk_at dksX3_init_2 16 rfl rfl)
theorem dX3_init_67 : decode cX3_init 67 = .ok (.aload_n 0, 1) := dk_42 (dk_at dksX3_init_2 19 rfl rfl)
theorem dX3_init_68 : decode cX3_init 68 = .ok (.bipush 30, 2) := dk_16 30 (dk_at dksX3_init_2 20 rfl rfl)
theorem dX3_init_70 : decode cX3_init 70 = .ok (.newarray .int, 2) := dk_188_10 (dk_at dksX3_init_2 22 rfl rfl)
theorem dX3_init_72 : decode cX3_init 72 = .ok (.putfield 36, 3) := dk_181 0 36 (dk_at dksX3_init_3 0 rfl rfl)
theorem dX3_init_75 : decode cX3_init 75 = .ok (.aload_n 0, 1) := dk_42 (dk_at dksX3_init_3 3 rfl rfl)
theorem dX3_init_76 : decode cX3_init 76 = .ok (.bipush 30, 2) := dk_16 30 (dk_at dksX3_init_3 4 rfl rfl)
theorem dX3_init_78 : decode cX3_init 78 = .ok (.newarray .int, 2) := dk_188_10 (dk_at dksX3_init_3 6 rfl rfl)
theorem dX3_init_80 : decode cX3_init 80 = .ok (.putfield 39, 3) := dk_181 0 39 (dk_at dksX3_init_3 8 rfl rfl)
theorem dX3_init_83 : decode cX3_init 83 = .ok (.aload_n 0, 1) := dk_42 (dk_at dksX3_init_3 11 rfl rfl)
theorem dX3_init_84 : decode cX3_init 84 = .ok (.bipush 30, 2) := dk_16 30 (dk_at dksX3_init_3 12 rfl rfl)
theorem dX3_init_86 : decode cX3_init 86 = .ok (.newarray .int, 2) := dk_188_10 (dk_at dksX3_init_3 14 rfl rfl)
theorem dX3_init_88 : decode cX3_init 88 = .ok (.putfield 42, 3) := dk_181 0 42 (dk_at dksX3_init_3 16 rfl rfl)
theorem dX3_init_91 : decode cX3_init 91 = .ok (.aload_n 0, 1) := dk_42 (dk_at dksX3_init_3 19 rfl rfl)
theorem dX3_init_92 : decode cX3_init 92 = .ok (.bipush 30, 2) := dk_16 30 (dk_at dksX3_init_3 20 rfl rfl)
theorem dX3_init_94 : decode cX3_init 94 = .ok (.newarray .char, 2) := dk_188_5 (dk_at dksX3_init_3 22 rfl rfl)
theorem dX3_init_96 : decode cX3_init 96 = .ok (.putfield 45, 3) := dk_181 0 45 (dk_at dksX3_init_4 0 rfl rfl)
theorem dX3_init_99 : decode cX3_init 99 = .ok (.return_, 1) := dk_177 (dk_at dksX3_init_4 3 rfl rfl)
abbrev cX3_thrown : ByteArray := prog_9_method_2_code
def yX3_thrown : MethodName := ⟨RX3, "thrown", "()I"⟩
theorem dX3_thrown_0 : decode cX3_thrown 0 = .ok (.aload_n 0, 1) := by decide +kernel
theorem dX3_thrown_1 : decode cX3_thrown 1 = .ok (.getfield 48, 3) := by decide +kernel
theorem dX3_thrown_4 : decode cX3_thrown 4 = .ok (.ireturn, 1) := by decide +kernel
abbrev cX3_addStack : ByteArray := prog_9_method_22_code
def yX3_addStack : MethodName := ⟨RX3, "addStack", "(I)I"⟩
def dkwX3_addStack_2 : List UInt8 := [180, 0, 59, 4, 96, 181, 0, 59, 42, 180, 0, 59, 4, 100, 172]
abbrev dktX3_addStack_2 : List UInt8 := dkwX3_addStack_2 ++ []
def dkwX3_addStack_1 : List UInt8 := [7, 160, 0, 9, 42, 5, 182, 0, 110, 172, 42, 180, 0, 7, 42, 180, 0, 59, 27, 79, 42, 89]
abbrev dktX3_addStack_1 : List UInt8 := dkwX3_addStack_1 ++ dktX3_addStack_2
def dkwX3_addStack_0 : List UInt8 := [42, 3, 181, 0, 48, 27, 4, 7, 184, 0, 55, 154, 0, 9, 42, 4, 182, 0, 110, 172, 42, 180, 0, 59]
abbrev dktX3_addStack_0 : List UInt8 := dkwX3_addStack_0 ++ dktX3_addStack_1
theorem dksX3_addStack_0 : cX3_addStack.data.toList.drop 0 = dktX3_addStack_0 := by decide +kernel
theorem dksX3_addStack_1 : cX3_addStack.data.toList.drop 24 = dktX3_addStack_1 := dk_seg dksX3_addStack_0 24 rfl rfl
theorem dksX3_addStack_2 : cX3_addStack.data.toList.drop 46 = dktX3_addStack_2 := dk_seg dksX3_addStack_1 22 rfl rfl
theorem dX3_addStack_0 : decode cX3_addStack 0 = .ok (.aload_n 0, 1) := dk_42 (dk_at dksX3_addStack_0 0 rfl rfl)
theorem dX3_addStack_1 : decode cX3_addStack 1 = .ok (.iconst 0, 1) := dk_3 (dk_at dksX3_addStack_0 1 rfl rfl)
theorem dX3_addStack_2 : decode cX3_addStack 2 = .ok (.putfield 48, 3) := dk_181 0 48 (dk_at dksX3_addStack_0 2 rfl rfl)
theorem dX3_addStack_5 : decode cX3_addStack 5 = .ok (.iload_n 1, 1) := dk_27 (dk_at dksX3_addStack_0 5 rfl rfl)
theorem dX3_addStack_6 : decode cX3_addStack 6 = .ok (.iconst 1, 1) := dk_4 (dk_at dksX3_addStack_0 6 rfl rfl)
theorem dX3_addStack_7 : decode cX3_addStack 7 = .ok (.iconst 4, 1) := dk_7 (dk_at dksX3_addStack_0 7 rfl rfl)
theorem dX3_addStack_8 : decode cX3_addStack 8 = .ok (.invokestatic 55, 3) := dk_184 0 55 (dk_at dksX3_addStack_0 8 rfl rfl)
theorem dX3_addStack_11 : decode cX3_addStack 11 = .ok (.ifCond .ne 9, 3) := dk_154 0 9 (dk_at dksX3_addStack_0 11 rfl rfl)
theorem dX3_addStack_14 : decode cX3_addStack 14 = .ok (.aload_n 0, 1) := dk_42 (dk_at dksX3_addStack_0 14 rfl rfl)
theorem dX3_addStack_15 : decode cX3_addStack 15 = .ok (.iconst 1, 1) := dk_4 (dk_at dksX3_addStack_0 15 rfl rfl)
theorem dX3_addStack_16 : decode cX3_addStack 16 = .ok (.invokevirtual 110, 3) := dk_182 0 110 (dk_at dksX3_addStack_0 16 rfl rfl)
theorem dX3_addStack_19 : decode cX3_addStack 19 = .ok (.ireturn, 1) := dk_172 (dk_at dksX3_addStack_0 19 rfl rfl)
theorem dX3_addStack_20 : decode cX3_addStack 20 = .ok (.aload_n 0, 1) := dk_42 (dk_at dksX3_addStack_0 20 rfl rfl)
theorem dX3_addStack_21 : decode cX3_addStack 21 = .ok (.getfield 59, 3) := dk_180 0 59 (dk_at dksX3_addStack_0 21 rfl rfl)
theorem dX3_addStack_24 : decode cX3_addStack 24 = .ok (.iconst 4, 1) := dk_7 (dk_at dksX3_addStack_1 0 rfl rfl)
theorem dX3_addStack_25 : decode cX3_addStack 25 = .ok (.if_icmp .ne 9, 3) := dk_160 0 9 (dk_at dksX3_addStack_1 1 rfl rfl)
theorem dX3_addStack_28 : decode cX3_addStack 28 = .ok (.aload_n 0, 1) := dk_42 (dk_at dksX3_addStack_1 4 rfl rfl)
theorem dX3_addStack_29 : decode cX3_addStack 29 = .ok (.iconst 2, 1) := dk_5 (dk_at dksX3_addStack_1 5 rfl rfl)
theorem dX3_addStack_30 : decode cX3_addStack 30 = .ok (.invokevirtual 110, 3) := dk_182 0 110 (dk_at dksX3_addStack_1 6 rfl rfl)
theorem dX3_addStack_33 : decode cX3_addStack 33 = .ok (.ireturn, 1) := dk_172 (dk_at dksX3_addStack_1 9 rfl rfl)
theorem dX3_addStack_34 : decode cX3_addStack 34 = .ok (.aload_n 0, 1) := dk_42 (dk_at dksX3_addStack_1 10 rfl rfl)
theorem dX3_addStack_35 : decode cX3_addStack 35 = .ok (.getfield 7, 3) := dk_180 0 7 (dk_at dksX3_addStack_1 11 rfl rfl)
theorem dX3_addStack_38 : decode cX3_addStack 38 = .ok (.aload_n 0, 1) := dk_42 (dk_at dksX3_addStack_1 14 rfl rfl)
theorem dX3_addStack_39 : decode cX3_addStack 39 = .ok (.getfield 59, 3) := dk_180 0 59 (dk_at dksX3_addStack_1 15 rfl rfl)
theorem dX3_addStack_42 : decode cX3_addStack 42 = .ok (.iload_n 1, 1) := dk_27 (dk_at dksX3_addStack_1 18 rfl rfl)
theorem dX3_addStack_43 : decode cX3_addStack 43 = .ok (.iastore, 1) := dk_79 (dk_at dksX3_addStack_1 19 rfl rfl)
theorem dX3_addStack_44 : decode cX3_addStack 44 = .ok (.aload_n 0, 1) := dk_42 (dk_at dksX3_addStack_1 20 rfl rfl)
theorem dX3_addStack_45 : decode cX3_addStack 45 = .ok (.dup, 1) := dk_89 (dk_at dksX3_addStack_1 21 rfl rfl)
theorem dX3_addStack_46 : decode cX3_addStack 46 = .ok (.getfield 59, 3) := dk_180 0 59 (dk_at dksX3_addStack_2 0 rfl rfl)
theorem dX3_addStack_49 : decode cX3_addStack 49 = .ok (.iconst 1, 1) := dk_4 (dk_at dksX3_addStack_2 3 rfl rfl)
theorem dX3_addStack_50 : decode cX3_addStack 50 = .ok (.iadd, 1) := dk_96 (dk_at dksX3_addStack_2 4 rfl rfl)
theorem dX3_addStack_51 : decode cX3_addStack 51 = .ok (.putfield 59, 3) := dk_181 0 59 (dk_at dksX3_addStack_2 5 rfl rfl)
theorem dX3_addStack_54 : decode cX3_addStack 54 = .ok (.aload_n 0, 1) := dk_42 (dk_at dksX3_addStack_2 8 rfl rfl)
theorem dX3_addStack_55 : decode cX3_addStack 55 = .ok (.getfield 59, 3) := dk_180 0 59 (dk_at dksX3_addStack_2 9 rfl rfl)
theorem dX3_addStack_58 : decode cX3_addStack 58 = .ok (.iconst 1, 1) := dk_4 (dk_at dksX3_addStack_2 12 rfl rfl)
theorem dX3_addStack_59 : decode cX3_addStack 59 = .ok (.isub, 1) := dk_100 (dk_at dksX3_addStack_2 13 rfl rfl)
theorem dX3_addStack_60 : decode cX3_addStack 60 = .ok (.ireturn, 1) := dk_172 (dk_at dksX3_addStack_2 14 rfl rfl)
abbrev cX3_in : ByteArray := prog_9_method_3_code
def yX3_in : MethodName := ⟨RX3, "in", "(III)Z"⟩
def dkwX3_in_0 : List UInt8 := [26, 27, 161, 0, 12, 26, 28, 163, 0, 7, 4, 167, 0, 4, 3, 172]
abbrev dktX3_in_0 : List UInt8 := dkwX3_in_0 ++ []
theorem dksX3_in_0 : cX3_in.data.toList.drop 0 = dktX3_in_0 := by decide +kernel
theorem dX3_in_0 : decode cX3_in 0 = .ok (.iload_n 0, 1) := dk_26 (dk_at dksX3_in_0 0 rfl rfl)
theorem dX3_in_1 : decode cX3_in 1 = .ok (.iload_n 1, 1) := dk_27 (dk_at dksX3_in_0 1 rfl rfl)
theorem dX3_in_2 : decode cX3_in 2 = .ok (.if_icmp .lt 12, 3) := dk_161 0 12 (dk_at dksX3_in_0 2 rfl rfl)
theorem dX3_in_5 : decode cX3_in 5 = .ok (.iload_n 0, 1) := dk_26 (dk_at dksX3_in_0 5 rfl rfl)
theorem dX3_in_6 : decode cX3_in 6 = .ok (.iload_n 2, 1) := dk_28 (dk_at dksX3_in_0 6 rfl rfl)
theorem dX3_in_7 : decode cX3_in 7 = .ok (.if_icmp .gt 7, 3) := dk_163 0 7 (dk_at dksX3_in_0 7 rfl rfl)
theorem dX3_in_10 : decode cX3_in 10 = .ok (.iconst 1, 1) := dk_4 (dk_at dksX3_in_0 10 rfl rfl)
theorem dX3_in_11 : decode cX3_in 11 = .ok (.goto 4, 3) := dk_167 0 4 (dk_at dksX3_in_0 11 rfl rfl)
theorem dX3_in_14 : decode cX3_in 14 = .ok (.iconst 0, 1) := dk_3 (dk_at dksX3_in_0 14 rfl rfl)
theorem dX3_in_15 : decode cX3_in 15 = .ok (.ireturn, 1) := dk_172 (dk_at dksX3_in_0 15 rfl rfl)
abbrev cX3_fails : ByteArray := prog_9_method_4_code
def yX3_fails : MethodName := ⟨RX3, "fails", "(I)I"⟩
def dkwX3_fails_0 : List UInt8 := [42, 27, 181, 0, 48, 3, 172]
abbrev dktX3_fails_0 : List UInt8 := dkwX3_fails_0 ++ []
theorem dksX3_fails_0 : cX3_fails.data.toList.drop 0 = dktX3_fails_0 := by decide +kernel
theorem dX3_fails_0 : decode cX3_fails 0 = .ok (.aload_n 0, 1) := dk_42 (dk_at dksX3_fails_0 0 rfl rfl)
theorem dX3_fails_1 : decode cX3_fails 1 = .ok (.iload_n 1, 1) := dk_27 (dk_at dksX3_fails_0 1 rfl rfl)
theorem dX3_fails_2 : decode cX3_fails 2 = .ok (.putfield 48, 3) := dk_181 0 48 (dk_at dksX3_fails_0 2 rfl rfl)
theorem dX3_fails_5 : decode cX3_fails 5 = .ok (.iconst 0, 1) := dk_3 (dk_at dksX3_fails_0 5 rfl rfl)
theorem dX3_fails_6 : decode cX3_fails 6 = .ok (.ireturn, 1) := dk_172 (dk_at dksX3_fails_0 6 rfl rfl)
abbrev cX3_addBox : ByteArray := prog_9_method_24_code
def yX3_addBox : MethodName := ⟨RX3, "addBox", "(II)I"⟩
def dkwX3_addBox_5 : List UInt8 := [180, 0, 52, 4, 96, 181, 0, 52, 42, 180, 0, 52, 4, 100, 172]
abbrev dktX3_addBox_5 : List UInt8 := dkwX3_addBox_5 ++ []
def dkwX3_addBox_4 : List UInt8 := [42, 180, 0, 20, 42, 180, 0, 52, 16, 45, 85, 42, 3, 28, 42, 180, 0, 52, 182, 0, 80, 42, 89]
abbrev dktX3_addBox_4 : List UInt8 := dkwX3_addBox_4 ++ dktX3_addBox_5
def dkwX3_addBox_3 : List UInt8 := [182, 0, 110, 172, 42, 180, 0, 13, 42, 180, 0, 52, 27, 79, 42, 180, 0, 16, 42, 180, 0, 52, 4, 84]
abbrev dktX3_addBox_3 : List UInt8 := dkwX3_addBox_3 ++ dktX3_addBox_4
def dkwX3_addBox_2 : List UInt8 := [182, 0, 110, 172, 42, 182, 0, 116, 16, 8, 159, 0, 12, 42, 180, 0, 52, 16, 20, 160, 0, 9, 42, 7]
abbrev dktX3_addBox_2 : List UInt8 := dkwX3_addBox_2 ++ dktX3_addBox_3
def dkwX3_addBox_1 : List UInt8 := [184, 0, 55, 154, 0, 9, 42, 5, 182, 0, 110, 172, 42, 3, 28, 27, 182, 0, 77, 154, 0, 9, 42, 6]
abbrev dktX3_addBox_1 : List UInt8 := dkwX3_addBox_1 ++ dktX3_addBox_2
def dkwX3_addBox_0 : List UInt8 := [42, 3, 181, 0, 48, 42, 28, 182, 0, 113, 154, 0, 9, 42, 4, 182, 0, 110, 172, 27, 4, 16, 30]
abbrev dktX3_addBox_0 : List UInt8 := dkwX3_addBox_0 ++ dktX3_addBox_1
theorem dksX3_addBox_0 : cX3_addBox.data.toList.drop 0 = dktX3_addBox_0 := by decide +kernel
theorem dksX3_addBox_1 : cX3_addBox.data.toList.drop 23 = dktX3_addBox_1 := dk_seg dksX3_addBox_0 23 rfl rfl
theorem dksX3_addBox_2 : cX3_addBox.data.toList.drop 47 = dktX3_addBox_2 := dk_seg dksX3_addBox_1 24 rfl rfl
theorem dksX3_addBox_3 : cX3_addBox.data.toList.drop 71 = dktX3_addBox_3 := dk_seg dksX3_addBox_2 24 rfl rfl
theorem dksX3_addBox_4 : cX3_addBox.data.toList.drop 95 = dktX3_addBox_4 := dk_seg dksX3_addBox_3 24 rfl rfl
theorem dksX3_addBox_5 : cX3_addBox.data.toList.drop 118 = dktX3_addBox_5 := dk_seg dksX3_addBox_4 23 rfl rfl
theorem dX3_addBox_0 : decode cX3_addBox 0 = .ok (.aload_n 0, 1) := dk_42 (dk_at dksX3_addBox_0 0 rfl rfl)
theorem dX3_addBox_1 : decode cX3_addBox 1 = .ok (.iconst 0, 1) := dk_3 (dk_at dksX3_addBox_0 1 rfl rfl)
theorem dX3_addBox_2 : decode cX3_addBox 2 = .ok (.putfield 48, 3) := dk_181 0 48 (dk_at dksX3_addBox_0 2 rfl rfl)
theorem dX3_addBox_5 : decode cX3_addBox 5 = .ok (.aload_n 0, 1) := dk_42 (dk_at dksX3_addBox_0 5 rfl rfl)
theorem dX3_addBox_6 : decode cX3_addBox 6 = .ok (.iload_n 2, 1) := dk_28 (dk_at dksX3_addBox_0 6 rfl rfl)
theorem dX3_addBox_7 : decode cX3_addBox 7 = .ok (.invokevirtual 113, 3) := dk_182 0 113 (dk_at dksX3_addBox_0 7 rfl rfl)
theorem dX3_addBox_10 : decode cX3_addBox 10 = .ok (.ifCond .ne 9, 3) := dk_154 0 9 (dk_at dksX3_addBox_0 10 rfl rfl)
theorem dX3_addBox_13 : decode cX3_addBox 13 = .ok (.aload_n 0, 1) := dk_42 (dk_at dksX3_addBox_0 13 rfl rfl)
theorem dX3_addBox_14 : decode cX3_addBox 14 = .ok (.iconst 1, 1) := dk_4 (dk_at dksX3_addBox_0 14 rfl rfl)
theorem dX3_addBox_15 : decode cX3_addBox 15 = .ok (.invokevirtual 110, 3) := dk_182 0 110 (dk_at dksX3_addBox_0 15 rfl rfl)
theorem dX3_addBox_18 : decode cX3_addBox 18 = .ok (.ireturn, 1) := dk_172 (dk_at dksX3_addBox_0 18 rfl rfl)
theorem dX3_addBox_19 : decode cX3_addBox 19 = .ok (.iload_n 1, 1) := dk_27 (dk_at dksX3_addBox_0 19 rfl rfl)
theorem dX3_addBox_20 : decode cX3_addBox 20 = .ok (.iconst 1, 1) := dk_4 (dk_at dksX3_addBox_0 20 rfl rfl)
theorem dX3_addBox_21 : decode cX3_addBox 21 = .ok (.bipush 30, 2) := dk_16 30 (dk_at dksX3_addBox_0 21 rfl rfl)
theorem dX3_addBox_23 : decode cX3_addBox 23 = .ok (.invokestatic 55, 3) := dk_184 0 55 (dk_at dksX3_addBox_1 0 rfl rfl)
theorem dX3_addBox_26 : decode cX3_addBox 26 = .ok (.ifCond .ne 9, 3) := dk_154 0 9 (dk_at dksX3_addBox_1 3 rfl rfl)
theorem dX3_addBox_29 : decode cX3_addBox 29 = .ok (.aload_n 0, 1) := dk_42 (dk_at dksX3_addBox_1 6 rfl rfl)
theorem dX3_addBox_30 : decode cX3_addBox 30 = .ok (.iconst 2, 1) := dk_5 (dk_at dksX3_addBox_1 7 rfl rfl)
theorem dX3_addBox_31 : decode cX3_addBox 31 = .ok (.invokevirtual 110, 3) := dk_182 0 110 (dk_at dksX3_addBox_1 8 rfl rfl)
theorem dX3_addBox_34 : decode cX3_addBox 34 = .ok (.ireturn, 1) := dk_172 (dk_at dksX3_addBox_1 11 rfl rfl)
theorem dX3_addBox_35 : decode cX3_addBox 35 = .ok (.aload_n 0, 1) := dk_42 (dk_at dksX3_addBox_1 12 rfl rfl)
theorem dX3_addBox_36 : decode cX3_addBox 36 = .ok (.iconst 0, 1) := dk_3 (dk_at dksX3_addBox_1 13 rfl rfl)
theorem dX3_addBox_37 : decode cX3_addBox 37 = .ok (.iload_n 2, 1) := dk_28 (dk_at dksX3_addBox_1 14 rfl rfl)
theorem dX3_addBox_38 : decode cX3_addBox 38 = .ok (.iload_n 1, 1) := dk_27 (dk_at dksX3_addBox_1 15 rfl rfl)
theorem dX3_addBox_39 : decode cX3_addBox 39 = .ok (.invokevirtual 77, 3) := dk_182 0 77 (dk_at dksX3_addBox_1 16 rfl rfl)
theorem dX3_addBox_42 : decode cX3_addBox 42 = .ok (.ifCond .ne 9, 3) := dk_154 0 9 (dk_at dksX3_addBox_1 19 rfl rfl)
theorem dX3_addBox_45 : decode cX3_addBox 45 = .ok (.aload_n 0, 1) := dk_42 (dk_at dksX3_addBox_1 22 rfl rfl)
theorem dX3_addBox_46 : decode cX3_addBox 46 = .ok (.iconst 3, 1) := dk_6 (dk_at dksX3_addBox_1 23 rfl rfl)
theorem dX3_addBox_47 : decode cX3_addBox 47 = .ok (.invokevirtual 110, 3) := dk_182 0 110 (dk_at dksX3_addBox_2 0 rfl rfl)
theorem dX3_addBox_50 : decode cX3_addBox 50 = .ok (.ireturn, 1) := dk_172 (dk_at dksX3_addBox_2 3 rfl rfl)
theorem dX3_addBox_51 : decode cX3_addBox 51 = .ok (.aload_n 0, 1) := dk_42 (dk_at dksX3_addBox_2 4 rfl rfl)
theorem dX3_addBox_52 : decode cX3_addBox 52 = .ok (.invokevirtual 116, 3) := dk_182 0 116 (dk_at dksX3_addBox_2 5 rfl rfl)
theorem dX3_addBox_55 : decode cX3_addBox 55 = .ok (.bipush 8, 2) := dk_16 8 (dk_at dksX3_addBox_2 8 rfl rfl)
theorem dX3_addBox_57 : decode cX3_addBox 57 = .ok (.if_icmp .eq 12, 3) := dk_159 0 12 (dk_at dksX3_addBox_2 10 rfl rfl)
theorem dX3_addBox_60 : decode cX3_addBox 60 = .ok (.aload_n 0, 1) := dk_42 (dk_at dksX3_addBox_2 13 rfl rfl)
theorem dX3_addBox_61 : decode cX3_addBox 61 = .ok (.getfield 52, 3) := dk_180 0 52 (dk_at dksX3_addBox_2 14 rfl rfl)
theorem dX3_addBox_64 : decode cX3_addBox 64 = .ok (.bipush 20, 2) := dk_16 20 (dk_at dksX3_addBox_2 17 rfl rfl)
theorem dX3_addBox_66 : decode cX3_addBox 66 = .ok (.if_icmp .ne 9, 3) := dk_160 0 9 (dk_at dksX3_addBox_2 19 rfl rfl)
theorem dX3_addBox_69 : decode cX3_addBox 69 = .ok (.aload_n 0, 1) := dk_42 (dk_at dksX3_addBox_2 22 rfl rfl)
theorem dX3_addBox_70 : decode cX3_addBox 70 = .ok (.iconst 4, 1) := dk_7 (dk_at dksX3_addBox_2 23 rfl rfl)
theorem dX3_addBox_71 : decode cX3_addBox 71 = .ok (.invokevirtual 110, 3) := dk_182 0 110 (dk_at dksX3_addBox_3 0 rfl rfl)
theorem dX3_addBox_74 : decode cX3_addBox 74 = .ok (.ireturn, 1) := dk_172 (dk_at dksX3_addBox_3 3 rfl rfl)
theorem dX3_addBox_75 : decode cX3_addBox 75 = .ok (.aload_n 0, 1) := dk_42 (dk_at dksX3_addBox_3 4 rfl rfl)
theorem dX3_addBox_76 : decode cX3_addBox 76 = .ok (.getfield 13, 3) := dk_180 0 13 (dk_at dksX3_addBox_3 5 rfl rfl)
theorem dX3_addBox_79 : decode cX3_addBox 79 = .ok (.aload_n 0, 1) := dk_42 (dk_at dksX3_addBox_3 8 rfl rfl)
theorem dX3_addBox_80 : decode cX3_addBox 80 = .ok (.getfield 52, 3) := dk_180 0 52 (dk_at dksX3_addBox_3 9 rfl rfl)
theorem dX3_addBox_83 : decode cX3_addBox 83 = .ok (.iload_n 1, 1) := dk_27 (dk_at dksX3_addBox_3 12 rfl rfl)
theorem dX3_addBox_84 : decode cX3_addBox 84 = .ok (.iastore, 1) := dk_79 (dk_at dksX3_addBox_3 13 rfl rfl)
theorem dX3_addBox_85 : decode cX3_addBox 85 = .ok (.aload_n 0, 1) := dk_42 (dk_at dksX3_addBox_3 14 rfl rfl)
theorem dX3_addBox_86 : decode cX3_addBox 86 = .ok (.getfield 16, 3) := dk_180 0 16 (dk_at dksX3_addBox_3 15 rfl rfl)
theorem dX3_addBox_89 : decode cX3_addBox 89 = .ok (.aload_n 0, 1) := dk_42 (dk_at dksX3_addBox_3 18 rfl rfl)
theorem dX3_addBox_90 : decode cX3_addBox 90 = .ok (.getfield 52, 3) := dk_180 0 52 (dk_at dksX3_addBox_3 19 rfl rfl)
theorem dX3_addBox_93 : decode cX3_addBox 93 = .ok (.iconst 1, 1) := dk_4 (dk_at dksX3_addBox_3 22 rfl rfl)
theorem dX3_addBox_94 : decode cX3_addBox 94 = .ok (.bastore, 1) := dk_84 (dk_at dksX3_addBox_3 23 rfl rfl)
theorem dX3_addBox_95 : decode cX3_addBox 95 = .ok (.aload_n 0, 1) := dk_42 (dk_at dksX3_addBox_4 0 rfl rfl)
theorem dX3_addBox_96 : decode cX3_addBox 96 = .ok (.getfield 20, 3) := dk_180 0 20 (dk_at dksX3_addBox_4 1 rfl rfl)
theorem dX3_addBox_99 : decode cX3_addBox 99 = .ok (.aload_n 0, 1) := dk_42 (dk_at dksX3_addBox_4 4 rfl rfl)
theorem dX3_addBox_100 : decode cX3_addBox 100 = .ok (.getfield 52, 3) := dk_180 0 52 (dk_at dksX3_addBox_4 5 rfl rfl)
theorem dX3_addBox_103 : decode cX3_addBox 103 = .ok (.bipush 45, 2) := dk_16 45 (dk_at dksX3_addBox_4 8 rfl rfl)
theorem dX3_addBox_105 : decode cX3_addBox 105 = .ok (.castore, 1) := dk_85 (dk_at dksX3_addBox_4 10 rfl rfl)
theorem dX3_addBox_106 : decode cX3_addBox 106 = .ok (.aload_n 0, 1) := dk_42 (dk_at dksX3_addBox_4 11 rfl rfl)
theorem dX3_addBox_107 : decode cX3_addBox 107 = .ok (.iconst 0, 1) := dk_3 (dk_at dksX3_addBox_4 12 rfl rfl)
theorem dX3_addBox_108 : decode cX3_addBox 108 = .ok (.iload_n 2, 1) := dk_28 (dk_at dksX3_addBox_4 13 rfl rfl)
theorem dX3_addBox_109 : decode cX3_addBox 109 = .ok (.aload_n 0, 1) := dk_42 (dk_at dksX3_addBox_4 14 rfl rfl)
theorem dX3_addBox_110 : decode cX3_addBox 110 = .ok (.getfield 52, 3) := dk_180 0 52 (dk_at dksX3_addBox_4 15 rfl rfl)
theorem dX3_addBox_113 : decode cX3_addBox 113 = .ok (.invokevirtual 80, 3) := dk_182 0 80 (dk_at dksX3_addBox_4 18 rfl rfl)
theorem dX3_addBox_116 : decode cX3_addBox 116 = .ok (.aload_n 0, 1) := dk_42 (dk_at dksX3_addBox_4 21 rfl rfl)
theorem dX3_addBox_117 : decode cX3_addBox 117 = .ok (.dup, 1) := dk_89 (dk_at dksX3_addBox_4 22 rfl rfl)
theorem dX3_addBox_118 : decode cX3_addBox 118 = .ok (.getfield 52, 3) := dk_180 0 52 (dk_at dksX3_addBox_5 0 rfl rfl)
theorem dX3_addBox_121 : decode cX3_addBox 121 = .ok (.iconst 1, 1) := dk_4 (dk_at dksX3_addBox_5 3 rfl rfl)
theorem dX3_addBox_122 : decode cX3_addBox 122 = .ok (.iadd, 1) := dk_96 (dk_at dksX3_addBox_5 4 rfl rfl)
theorem dX3_addBox_123 : decode cX3_addBox 123 = .ok (.putfield 52, 3) := dk_181 0 52 (dk_at dksX3_addBox_5 5 rfl rfl)
theorem dX3_addBox_126 : decode cX3_addBox 126 = .ok (.aload_n 0, 1) := dk_42 (dk_at dksX3_addBox_5 8 rfl rfl)
theorem dX3_addBox_127 : decode cX3_addBox 127 = .ok (.getfield 52, 3) := dk_180 0 52 (dk_at dksX3_addBox_5 9 rfl rfl)
theorem dX3_addBox_130 : decode cX3_addBox 130 = .ok (.iconst 1, 1) := dk_4 (dk_at dksX3_addBox_5 12 rfl rfl)
theorem dX3_addBox_131 : decode cX3_addBox 131 = .ok (.isub, 1) := dk_100 (dk_at dksX3_addBox_5 13 rfl rfl)
theorem dX3_addBox_132 : decode cX3_addBox 132 = .ok (.ireturn, 1) := dk_172 (dk_at dksX3_addBox_5 14 rfl rfl)
abbrev cX3_isStack : ByteArray := prog_9_method_6_code
def yX3_isStack : MethodName := ⟨RX3, "isStack", "(I)Z"⟩
def dkwX3_isStack_0 : List UInt8 := [27, 3, 42, 180, 0, 59, 4, 100, 184, 0, 55, 172]
abbrev dktX3_isStack_0 : List UInt8 := dkwX3_isStack_0 ++ []
theorem dksX3_isStack_0 : cX3_isStack.data.toList.drop 0 = dktX3_isStack_0 := by decide +kernel
theorem dX3_isStack_0 : decode cX3_isStack 0 = .ok (.iload_n 1, 1) := dk_27 (dk_at dksX3_isStack_0 0 rfl rfl)
theorem dX3_isStack_1 : decode cX3_isStack 1 = .ok (.iconst 0, 1) := dk_3 (dk_at dksX3_isStack_0 1 rfl rfl)
theorem dX3_isStack_2 : decode cX3_isStack 2 = .ok (.aload_n 0, 1) := dk_42 (dk_at dksX3_isStack_0 2 rfl rfl)
theorem dX3_isStack_3 : decode cX3_isStack 3 = .ok (.getfield 59, 3) := dk_180 0 59 (dk_at dksX3_isStack_0 3 rfl rfl)
theorem dX3_isStack_6 : decode cX3_isStack 6 = .ok (.iconst 1, 1) := dk_4 (dk_at dksX3_isStack_0 6 rfl rfl)
theorem dX3_isStack_7 : decode cX3_isStack 7 = .ok (.isub, 1) := dk_100 (dk_at dksX3_isStack_0 7 rfl rfl)
theorem dX3_isStack_8 : decode cX3_isStack 8 = .ok (.invokestatic 55, 3) := dk_184 0 55 (dk_at dksX3_isStack_0 8 rfl rfl)
theorem dX3_isStack_11 : decode cX3_isStack 11 = .ok (.ireturn, 1) := dk_172 (dk_at dksX3_isStack_0 11 rfl rfl)
abbrev cX3_takes : ByteArray := prog_9_method_12_code
def yX3_takes : MethodName := ⟨RX3, "takes", "(III)Z"⟩
def dkwX3_takes_2 : List UInt8 := [167, 0, 4, 3, 172]
abbrev dktX3_takes_2 : List UInt8 := dkwX3_takes_2 ++ []
def dkwX3_takes_1 : List UInt8 := [27, 104, 28, 96, 46, 153, 0, 18, 42, 180, 0, 13, 42, 27, 28, 182, 0, 66, 46, 29, 161, 0, 7, 4]
abbrev dktX3_takes_1 : List UInt8 := dkwX3_takes_1 ++ dktX3_takes_2
def dkwX3_takes_0 : List UInt8 := [42, 180, 0, 27, 7, 27, 104, 28, 96, 46, 42, 180, 0, 7, 28, 46, 162, 0, 35, 42, 180, 0, 27, 7]
abbrev dktX3_takes_0 : List UInt8 := dkwX3_takes_0 ++ dktX3_takes_1
theorem dksX3_takes_0 : cX3_takes.data.toList.drop 0 = dktX3_takes_0 := by decide +kernel
theorem dksX3_takes_1 : cX3_takes.data.toList.drop 24 = dktX3_takes_1 := dk_seg dksX3_takes_0 24 rfl rfl
theorem dksX3_takes_2 : cX3_takes.data.toList.drop 48 = dktX3_takes_2 := dk_seg dksX3_takes_1 24 rfl rfl
theorem dX3_takes_0 : decode cX3_takes 0 = .ok (.aload_n 0, 1) := dk_42 (dk_at dksX3_takes_0 0 rfl rfl)
theorem dX3_takes_1 : decode cX3_takes 1 = .ok (.getfield 27, 3) := dk_180 0 27 (dk_at dksX3_takes_0 1 rfl rfl)
theorem dX3_takes_4 : decode cX3_takes 4 = .ok (.iconst 4, 1) := dk_7 (dk_at dksX3_takes_0 4 rfl rfl)
theorem dX3_takes_5 : decode cX3_takes 5 = .ok (.iload_n 1, 1) := dk_27 (dk_at dksX3_takes_0 5 rfl rfl)
theorem dX3_takes_6 : decode cX3_takes 6 = .ok (.imul, 1) := dk_104 (dk_at dksX3_takes_0 6 rfl rfl)
theorem dX3_takes_7 : decode cX3_takes 7 = .ok (.iload_n 2, 1) := dk_28 (dk_at dksX3_takes_0 7 rfl rfl)
theorem dX3_takes_8 : decode cX3_takes 8 = .ok (.iadd, 1) := dk_96 (dk_at dksX3_takes_0 8 rfl rfl)
theorem dX3_takes_9 : decode cX3_takes 9 = .ok (.iaload, 1) := dk_46 (dk_at dksX3_takes_0 9 rfl rfl)
theorem dX3_takes_10 : decode cX3_takes 10 = .ok (.aload_n 0, 1) := dk_42 (dk_at dksX3_takes_0 10 rfl rfl)
theorem dX3_takes_11 : decode cX3_takes 11 = .ok (.getfield 7, 3) := dk_180 0 7 (dk_at dksX3_takes_0 11 rfl rfl)
theorem dX3_takes_14 : decode cX3_takes 14 = .ok (.iload_n 2, 1) := dk_28 (dk_at dksX3_takes_0 14 rfl rfl)
theorem dX3_takes_15 : decode cX3_takes 15 = .ok (.iaload, 1) := dk_46 (dk_at dksX3_takes_0 15 rfl rfl)
theorem dX3_takes_16 : decode cX3_takes 16 = .ok (.if_icmp .ge 35, 3) := dk_162 0 35 (dk_at dksX3_takes_0 16 rfl rfl)
theorem dX3_takes_19 : decode cX3_takes 19 = .ok (.aload_n 0, 1) := dk_42 (dk_at dksX3_takes_0 19 rfl rfl)
theorem dX3_takes_20 : decode cX3_takes 20 = .ok (.getfield 27, 3) := dk_180 0 27 (dk_at dksX3_takes_0 20 rfl rfl)
theorem dX3_takes_23 : decode cX3_takes 23 = .ok (.iconst 4, 1) := dk_7 (dk_at dksX3_takes_0 23 rfl rfl)
theorem dX3_takes_24 : decode cX3_takes 24 = .ok (.iload_n 1, 1) := dk_27 (dk_at dksX3_takes_1 0 rfl rfl)
theorem dX3_takes_25 : decode cX3_takes 25 = .ok (.imul, 1) := dk_104 (dk_at dksX3_takes_1 1 rfl rfl)
theorem dX3_takes_26 : decode cX3_takes 26 = .ok (.iload_n 2, 1) := dk_28 (dk_at dksX3_takes_1 2 rfl rfl)
theorem dX3_takes_27 : decode cX3_takes 27 = .ok (.iadd, 1) := dk_96 (dk_at dksX3_takes_1 3 rfl rfl)
theorem dX3_takes_28 : decode cX3_takes 28 = .ok (.iaload, 1) := dk_46 (dk_at dksX3_takes_1 4 rfl rfl)
theorem dX3_takes_29 : decode cX3_takes 29 = .ok (.ifCond .eq 18, 3) := dk_153 0 18 (dk_at dksX3_takes_1 5 rfl rfl)
theorem dX3_takes_32 : decode cX3_takes 32 = .ok (.aload_n 0, 1) := dk_42 (dk_at dksX3_takes_1 8 rfl rfl)
theorem dX3_takes_33 : decode cX3_takes 33 = .ok (.getfield 13, 3) := dk_180 0 13 (dk_at dksX3_takes_1 9 rfl rfl)
theorem dX3_takes_36 : decode cX3_takes 36 = .ok (.aload_n 0, 1) := dk_42 (dk_at dksX3_takes_1 12 rfl rfl)
theorem dX3_takes_37 : decode cX3_takes 37 = .ok (.iload_n 1, 1) := dk_27 (dk_at dksX3_takes_1 13 rfl rfl)
theorem dX3_takes_38 : decode cX3_takes 38 = .ok (.iload_n 2, 1) := dk_28 (dk_at dksX3_takes_1 14 rfl rfl)
theorem dX3_takes_39 : decode cX3_takes 39 = .ok (.invokevirtual 66, 3) := dk_182 0 66 (dk_at dksX3_takes_1 15 rfl rfl)
theorem dX3_takes_42 : decode cX3_takes 42 = .ok (.iaload, 1) := dk_46 (dk_at dksX3_takes_1 18 rfl rfl)
theorem dX3_takes_43 : decode cX3_takes 43 = .ok (.iload_n 3, 1) := dk_29 (dk_at dksX3_takes_1 19 rfl rfl)
theorem dX3_takes_44 : decode cX3_takes 44 = .ok (.if_icmp .lt 7, 3) := dk_161 0 7 (dk_at dksX3_takes_1 20 rfl rfl)
theorem dX3_takes_47 : decode cX3_takes 47 = .ok (.iconst 1, 1) := dk_4 (dk_at dksX3_takes_1 23 rfl rfl)
theorem dX3_takes_48 : decode cX3_takes 48 = .ok (.goto 4, 3) := dk_167 0 4 (dk_at dksX3_takes_2 0 rfl rfl)
theorem dX3_takes_51 : decode cX3_takes 51 = .ok (.iconst 0, 1) := dk_3 (dk_at dksX3_takes_2 3 rfl rfl)
theorem dX3_takes_52 : decode cX3_takes 52 = .ok (.ireturn, 1) := dk_172 (dk_at dksX3_takes_2 4 rfl rfl)
abbrev cX3_topOf : ByteArray := prog_9_method_10_code
def yX3_topOf : MethodName := ⟨RX3, "topOf", "(II)I"⟩
def dkwX3_topOf_1 : List UInt8 := [16, 16, 27, 104, 7, 28, 104, 96, 29, 96, 4, 100, 46, 172]
abbrev dktX3_topOf_1 : List UInt8 := dkwX3_topOf_1 ++ []
def dkwX3_topOf_0 : List UInt8 := [42, 180, 0, 27, 7, 27, 104, 28, 96, 46, 62, 29, 154, 0, 7, 2, 167, 0, 20, 42, 180, 0, 30]
abbrev dktX3_topOf_0 : List UInt8 := dkwX3_topOf_0 ++ dktX3_topOf_1
theorem dksX3_topOf_0 : cX3_topOf.data.toList.drop 0 = dktX3_topOf_0 := by decide +kernel
theorem dksX3_topOf_1 : cX3_topOf.data.toList.drop 23 = dktX3_topOf_1 := dk_seg dksX3_topOf_0 23 rfl rfl
theorem dX3_topOf_0 : decode cX3_topOf 0 = .ok (.aload_n 0, 1) := dk_42 (dk_at dksX3_topOf_0 0 rfl rfl)
theorem dX3_topOf_1 : decode cX3_topOf 1 = .ok (.getfield 27, 3) := dk_180 0 27 (dk_at dksX3_topOf_0 1 rfl rfl)
theorem dX3_topOf_4 : decode cX3_topOf 4 = .ok (.iconst 4, 1) := dk_7 (dk_at dksX3_topOf_0 4 rfl rfl)
theorem dX3_topOf_5 : decode cX3_topOf 5 = .ok (.iload_n 1, 1) := dk_27 (dk_at dksX3_topOf_0 5 rfl rfl)
theorem dX3_topOf_6 : decode cX3_topOf 6 = .ok (.imul, 1) := dk_104 (dk_at dksX3_topOf_0 6 rfl rfl)
theorem dX3_topOf_7 : decode cX3_topOf 7 = .ok (.iload_n 2, 1) := dk_28 (dk_at dksX3_topOf_0 7 rfl rfl)
theorem dX3_topOf_8 : decode cX3_topOf 8 = .ok (.iadd, 1) := dk_96 (dk_at dksX3_topOf_0 8 rfl rfl)
theorem dX3_topOf_9 : decode cX3_topOf 9 = .ok (.iaload, 1) := dk_46 (dk_at dksX3_topOf_0 9 rfl rfl)
theorem dX3_topOf_10 : decode cX3_topOf 10 = .ok (.istore_n 3, 1) := dk_62 (dk_at dksX3_topOf_0 10 rfl rfl)
theorem dX3_topOf_11 : decode cX3_topOf 11 = .ok (.iload_n 3, 1) := dk_29 (dk_at dksX3_topOf_0 11 rfl rfl)
theorem dX3_topOf_12 : decode cX3_topOf 12 = .ok (.ifCond .ne 7, 3) := dk_154 0 7 (dk_at dksX3_topOf_0 12 rfl rfl)
theorem dX3_topOf_15 : decode cX3_topOf 15 = .ok (.iconst (-1), 1) := dk_2 (dk_at dksX3_topOf_0 15 rfl rfl)
theorem dX3_topOf_16 : decode cX3_topOf 16 = .ok (.goto 20, 3) := dk_167 0 20 (dk_at dksX3_topOf_0 16 rfl rfl)
theorem dX3_topOf_19 : decode cX3_topOf 19 = .ok (.aload_n 0, 1) := dk_42 (dk_at dksX3_topOf_0 19 rfl rfl)
theorem dX3_topOf_20 : decode cX3_topOf 20 = .ok (.getfield 30, 3) := dk_180 0 30 (dk_at dksX3_topOf_0 20 rfl rfl)
theorem dX3_topOf_23 : decode cX3_topOf 23 = .ok (.bipush 16, 2) := dk_16 16 (dk_at dksX3_topOf_1 0 rfl rfl)
theorem dX3_topOf_25 : decode cX3_topOf 25 = .ok (.iload_n 1, 1) := dk_27 (dk_at dksX3_topOf_1 2 rfl rfl)
theorem dX3_topOf_26 : decode cX3_topOf 26 = .ok (.imul, 1) := dk_104 (dk_at dksX3_topOf_1 3 rfl rfl)
theorem dX3_topOf_27 : decode cX3_topOf 27 = .ok (.iconst 4, 1) := dk_7 (dk_at dksX3_topOf_1 4 rfl rfl)
theorem dX3_topOf_28 : decode cX3_topOf 28 = .ok (.iload_n 2, 1) := dk_28 (dk_at dksX3_topOf_1 5 rfl rfl)
theorem dX3_topOf_29 : decode cX3_topOf 29 = .ok (.imul, 1) := dk_104 (dk_at dksX3_topOf_1 6 rfl rfl)
theorem dX3_topOf_30 : decode cX3_topOf 30 = .ok (.iadd, 1) := dk_96 (dk_at dksX3_topOf_1 7 rfl rfl)
theorem dX3_topOf_31 : decode cX3_topOf 31 = .ok (.iload_n 3, 1) := dk_29 (dk_at dksX3_topOf_1 8 rfl rfl)
theorem dX3_topOf_32 : decode cX3_topOf 32 = .ok (.iadd, 1) := dk_96 (dk_at dksX3_topOf_1 9 rfl rfl)
theorem dX3_topOf_33 : decode cX3_topOf 33 = .ok (.iconst 1, 1) := dk_4 (dk_at dksX3_topOf_1 10 rfl rfl)
theorem dX3_topOf_34 : decode cX3_topOf 34 = .ok (.isub, 1) := dk_100 (dk_at dksX3_topOf_1 11 rfl rfl)
theorem dX3_topOf_35 : decode cX3_topOf 35 = .ok (.iaload, 1) := dk_46 (dk_at dksX3_topOf_1 12 rfl rfl)
theorem dX3_topOf_36 : decode cX3_topOf 36 = .ok (.ireturn, 1) := dk_172 (dk_at dksX3_topOf_1 13 rfl rfl)
abbrev cX3_insideNow : ByteArray := prog_9_method_23_code
def yX3_insideNow : MethodName := ⟨RX3, "insideNow", "()I"⟩
def dkwX3_insideNow_1 : List UInt8 := [167, 0, 4, 3, 96, 60, 132, 2, 1, 167, 255, 228, 27, 172]
abbrev dktX3_insideNow_1 : List UInt8 := dkwX3_insideNow_1 ++ []
def dkwX3_insideNow_0 : List UInt8 := [3, 60, 3, 61, 28, 42, 180, 0, 52, 162, 0, 26, 27, 42, 180, 0, 16, 28, 51, 153, 0, 7, 4]
abbrev dktX3_insideNow_0 : List UInt8 := dkwX3_insideNow_0 ++ dktX3_insideNow_1
theorem dksX3_insideNow_0 : cX3_insideNow.data.toList.drop 0 = dktX3_insideNow_0 := by decide +kernel
theorem dksX3_insideNow_1 : cX3_insideNow.data.toList.drop 23 = dktX3_insideNow_1 := dk_seg dksX3_insideNow_0 23 rfl rfl
theorem dX3_insideNow_0 : decode cX3_insideNow 0 = .ok (.iconst 0, 1) := dk_3 (dk_at dksX3_insideNow_0 0 rfl rfl)
theorem dX3_insideNow_1 : decode cX3_insideNow 1 = .ok (.istore_n 1, 1) := dk_60 (dk_at dksX3_insideNow_0 1 rfl rfl)
theorem dX3_insideNow_2 : decode cX3_insideNow 2 = .ok (.iconst 0, 1) := dk_3 (dk_at dksX3_insideNow_0 2 rfl rfl)
theorem dX3_insideNow_3 : decode cX3_insideNow 3 = .ok (.istore_n 2, 1) := dk_61 (dk_at dksX3_insideNow_0 3 rfl rfl)
theorem dX3_insideNow_4 : decode cX3_insideNow 4 = .ok (.iload_n 2, 1) := dk_28 (dk_at dksX3_insideNow_0 4 rfl rfl)
theorem dX3_insideNow_5 : decode cX3_insideNow 5 = .ok (.aload_n 0, 1) := dk_42 (dk_at dksX3_insideNow_0 5 rfl rfl)
theorem dX3_insideNow_6 : decode cX3_insideNow 6 = .ok (.getfield 52, 3) := dk_180 0 52 (dk_at dksX3_insideNow_0 6 rfl rfl)
theorem dX3_insideNow_9 : decode cX3_insideNow 9 = .ok (.if_icmp .ge 26, 3) := dk_162 0 26 (dk_at dksX3_insideNow_0 9 rfl rfl)
theorem dX3_insideNow_12 : decode cX3_insideNow 12 = .ok (.iload_n 1, 1) := dk_27 (dk_at dksX3_insideNow_0 12 rfl rfl)
theorem dX3_insideNow_13 : decode cX3_insideNow 13 = .ok (.aload_n 0, 1) := dk_42 (dk_at dksX3_insideNow_0 13 rfl rfl)
theorem dX3_insideNow_14 : decode cX3_insideNow 14 = .ok (.getfield 16, 3) := dk_180 0 16 (dk_at dksX3_insideNow_0 14 rfl rfl)
theorem dX3_insideNow_17 : decode cX3_insideNow 17 = .ok (.iload_n 2, 1) := dk_28 (dk_at dksX3_insideNow_0 17 rfl rfl)
theorem dX3_insideNow_18 : decode cX3_insideNow 18 = .ok (.baload, 1) := dk_51 (dk_at dksX3_insideNow_0 18 rfl rfl)
theorem dX3_insideNow_19 : decode cX3_insideNow 19 = .ok (.ifCond .eq 7, 3) := dk_153 0 7 (dk_at dksX3_insideNow_0 19 rfl rfl)
theorem dX3_insideNow_22 : decode cX3_insideNow 22 = .ok (.iconst 1, 1) := dk_4 (dk_at dksX3_insideNow_0 22 rfl rfl)
theorem dX3_insideNow_23 : decode cX3_insideNow 23 = .ok (.goto 4, 3) := dk_167 0 4 (dk_at dksX3_insideNow_1 0 rfl rfl)
theorem dX3_insideNow_26 : decode cX3_insideNow 26 = .ok (.iconst 0, 1) := dk_3 (dk_at dksX3_insideNow_1 3 rfl rfl)
theorem dX3_insideNow_27 : decode cX3_insideNow 27 = .ok (.iadd, 1) := dk_96 (dk_at dksX3_insideNow_1 4 rfl rfl)
theorem dX3_insideNow_28 : decode cX3_insideNow 28 = .ok (.istore_n 1, 1) := dk_60 (dk_at dksX3_insideNow_1 5 rfl rfl)
theorem dX3_insideNow_29 : decode cX3_insideNow 29 = .ok (.iinc 2 1, 3) := dk_132 2 1 (dk_at dksX3_insideNow_1 6 rfl rfl)
theorem dX3_insideNow_32 : decode cX3_insideNow 32 = .ok (.goto (-28), 3) := dk_167 255 228 (dk_at dksX3_insideNow_1 9 rfl rfl)
theorem dX3_insideNow_35 : decode cX3_insideNow 35 = .ok (.iload_n 1, 1) := dk_27 (dk_at dksX3_insideNow_1 12 rfl rfl)
theorem dX3_insideNow_36 : decode cX3_insideNow 36 = .ok (.ireturn, 1) := dk_172 (dk_at dksX3_insideNow_1 13 rfl rfl)
abbrev cX3_lays : ByteArray := prog_9_method_13_code
def yX3_lays : MethodName := ⟨RX3, "lays", "(III)V"⟩
def dkwX3_lays_1 : List UInt8 := [79, 42, 180, 0, 27, 7, 27, 104, 28, 96, 92, 46, 4, 96, 79, 177]
abbrev dktX3_lays_1 : List UInt8 := dkwX3_lays_1 ++ []
def dkwX3_lays_0 : List UInt8 := [42, 180, 0, 30, 16, 16, 27, 104, 7, 28, 104, 96, 42, 180, 0, 27, 7, 27, 104, 28, 96, 46, 96, 29]
abbrev dktX3_lays_0 : List UInt8 := dkwX3_lays_0 ++ dktX3_lays_1
theorem dksX3_lays_0 : cX3_lays.data.toList.drop 0 = dktX3_lays_0 := by decide +kernel
theorem dksX3_lays_1 : cX3_lays.data.toList.drop 24 = dktX3_lays_1 := dk_seg dksX3_lays_0 24 rfl rfl
theorem dX3_lays_0 : decode cX3_lays 0 = .ok (.aload_n 0, 1) := dk_42 (dk_at dksX3_lays_0 0 rfl rfl)
theorem dX3_lays_1 : decode cX3_lays 1 = .ok (.getfield 30, 3) := dk_180 0 30 (dk_at dksX3_lays_0 1 rfl rfl)
theorem dX3_lays_4 : decode cX3_lays 4 = .ok (.bipush 16, 2) := dk_16 16 (dk_at dksX3_lays_0 4 rfl rfl)
theorem dX3_lays_6 : decode cX3_lays 6 = .ok (.iload_n 1, 1) := dk_27 (dk_at dksX3_lays_0 6 rfl rfl)
theorem dX3_lays_7 : decode cX3_lays 7 = .ok (.imul, 1) := dk_104 (dk_at dksX3_lays_0 7 rfl rfl)
theorem dX3_lays_8 : decode cX3_lays 8 = .ok (.iconst 4, 1) := dk_7 (dk_at dksX3_lays_0 8 rfl rfl)
theorem dX3_lays_9 : decode cX3_lays 9 = .ok (.iload_n 2, 1) := dk_28 (dk_at dksX3_lays_0 9 rfl rfl)
theorem dX3_lays_10 : decode cX3_lays 10 = .ok (.imul, 1) := dk_104 (dk_at dksX3_lays_0 10 rfl rfl)
theorem dX3_lays_11 : decode cX3_lays 11 = .ok (.iadd, 1) := dk_96 (dk_at dksX3_lays_0 11 rfl rfl)
theorem dX3_lays_12 : decode cX3_lays 12 = .ok (.aload_n 0, 1) := dk_42 (dk_at dksX3_lays_0 12 rfl rfl)
theorem dX3_lays_13 : decode cX3_lays 13 = .ok (.getfield 27, 3) := dk_180 0 27 (dk_at dksX3_lays_0 13 rfl rfl)
theorem dX3_lays_16 : decode cX3_lays 16 = .ok (.iconst 4, 1) := dk_7 (dk_at dksX3_lays_0 16 rfl rfl)
theorem dX3_lays_17 : decode cX3_lays 17 = .ok (.iload_n 1, 1) := dk_27 (dk_at dksX3_lays_0 17 rfl rfl)
theorem dX3_lays_18 : decode cX3_lays 18 = .ok (.imul, 1) := dk_104 (dk_at dksX3_lays_0 18 rfl rfl)
theorem dX3_lays_19 : decode cX3_lays 19 = .ok (.iload_n 2, 1) := dk_28 (dk_at dksX3_lays_0 19 rfl rfl)
theorem dX3_lays_20 : decode cX3_lays 20 = .ok (.iadd, 1) := dk_96 (dk_at dksX3_lays_0 20 rfl rfl)
theorem dX3_lays_21 : decode cX3_lays 21 = .ok (.iaload, 1) := dk_46 (dk_at dksX3_lays_0 21 rfl rfl)
theorem dX3_lays_22 : decode cX3_lays 22 = .ok (.iadd, 1) := dk_96 (dk_at dksX3_lays_0 22 rfl rfl)
theorem dX3_lays_23 : decode cX3_lays 23 = .ok (.iload_n 3, 1) := dk_29 (dk_at dksX3_lays_0 23 rfl rfl)
theorem dX3_lays_24 : decode cX3_lays 24 = .ok (.iastore, 1) := dk_79 (dk_at dksX3_lays_1 0 rfl rfl)
theorem dX3_lays_25 : decode cX3_lays 25 = .ok (.aload_n 0, 1) := dk_42 (dk_at dksX3_lays_1 1 rfl rfl)
theorem dX3_lays_26 : decode cX3_lays 26 = .ok (.getfield 27, 3) := dk_180 0 27 (dk_at dksX3_lays_1 2 rfl rfl)
theorem dX3_lays_29 : decode cX3_lays 29 = .ok (.iconst 4, 1) := dk_7 (dk_at dksX3_lays_1 5 rfl rfl)
theorem dX3_lays_30 : decode cX3_lays 30 = .ok (.iload_n 1, 1) := dk_27 (dk_at dksX3_lays_1 6 rfl rfl)
theorem dX3_lays_31 : decode cX3_lays 31 = .ok (.imul, 1) := dk_104 (dk_at dksX3_lays_1 7 rfl rfl)
theorem dX3_lays_32 : decode cX3_lays 32 = .ok (.iload_n 2, 1) := dk_28 (dk_at dksX3_lays_1 8 rfl rfl)
theorem dX3_lays_33 : decode cX3_lays 33 = .ok (.iadd, 1) := dk_96 (dk_at dksX3_lays_1 9 rfl rfl)
theorem dX3_lays_34 : decode cX3_lays 34 = .ok (.dup2, 1) := dk_92 (dk_at dksX3_lays_1 10 rfl rfl)
theorem dX3_lays_35 : decode cX3_lays 35 = .ok (.iaload, 1) := dk_46 (dk_at dksX3_lays_1 11 rfl rfl)
theorem dX3_lays_36 : decode cX3_lays 36 = .ok (.iconst 1, 1) := dk_4 (dk_at dksX3_lays_1 12 rfl rfl)
theorem dX3_lays_37 : decode cX3_lays 37 = .ok (.iadd, 1) := dk_96 (dk_at dksX3_lays_1 13 rfl rfl)
theorem dX3_lays_38 : decode cX3_lays 38 = .ok (.iastore, 1) := dk_79 (dk_at dksX3_lays_1 14 rfl rfl)
theorem dX3_lays_39 : decode cX3_lays 39 = .ok (.return_, 1) := dk_177 (dk_at dksX3_lays_1 15 rfl rfl)
abbrev cX3_boxes : ByteArray := prog_9_method_25_code
def yX3_boxes : MethodName := ⟨RX3, "boxes", "()I"⟩
def dkwX3_boxes_0 : List UInt8 := [42, 3, 181, 0, 48, 42, 182, 0, 116, 172]
abbrev dktX3_boxes_0 : List UInt8 := dkwX3_boxes_0 ++ []
theorem dksX3_boxes_0 : cX3_boxes.data.toList.drop 0 = dktX3_boxes_0 := by decide +kernel
theorem dX3_boxes_0 : decode cX3_boxes 0 = .ok (.aload_n 0, 1) := dk_42 (dk_at dksX3_boxes_0 0 rfl rfl)
theorem dX3_boxes_1 : decode cX3_boxes 1 = .ok (.iconst 0, 1) := dk_3 (dk_at dksX3_boxes_0 1 rfl rfl)
theorem dX3_boxes_2 : decode cX3_boxes 2 = .ok (.putfield 48, 3) := dk_181 0 48 (dk_at dksX3_boxes_0 2 rfl rfl)
theorem dX3_boxes_5 : decode cX3_boxes 5 = .ok (.aload_n 0, 1) := dk_42 (dk_at dksX3_boxes_0 5 rfl rfl)
theorem dX3_boxes_6 : decode cX3_boxes 6 = .ok (.invokevirtual 116, 3) := dk_182 0 116 (dk_at dksX3_boxes_0 6 rfl rfl)
theorem dX3_boxes_9 : decode cX3_boxes 9 = .ok (.ireturn, 1) := dk_172 (dk_at dksX3_boxes_0 9 rfl rfl)
abbrev cX3_isInYard : ByteArray := prog_9_method_26_code
def yX3_isInYard : MethodName := ⟨RX3, "isInYard", "(I)Z"⟩
def dkwX3_isInYard_0 : List UInt8 := [42, 3, 181, 0, 48, 42, 27, 182, 0, 120, 172]
abbrev dktX3_isInYard_0 : List UInt8 := dkwX3_isInYard_0 ++ []
theorem dksX3_isInYard_0 : cX3_isInYard.data.toList.drop 0 = dktX3_isInYard_0 := by decide +kernel
theorem dX3_isInYard_0 : decode cX3_isInYard 0 = .ok (.aload_n 0, 1) := dk_42 (dk_at dksX3_isInYard_0 0 rfl rfl)
theorem dX3_isInYard_1 : decode cX3_isInYard 1 = .ok (.iconst 0, 1) := dk_3 (dk_at dksX3_isInYard_0 1 rfl rfl)
theorem dX3_isInYard_2 : decode cX3_isInYard 2 = .ok (.putfield 48, 3) := dk_181 0 48 (dk_at dksX3_isInYard_0 2 rfl rfl)
theorem dX3_isInYard_5 : decode cX3_isInYard 5 = .ok (.aload_n 0, 1) := dk_42 (dk_at dksX3_isInYard_0 5 rfl rfl)
theorem dX3_isInYard_6 : decode cX3_isInYard 6 = .ok (.iload_n 1, 1) := dk_27 (dk_at dksX3_isInYard_0 6 rfl rfl)
theorem dX3_isInYard_7 : decode cX3_isInYard 7 = .ok (.invokevirtual 120, 3) := dk_182 0 120 (dk_at dksX3_isInYard_0 7 rfl rfl)
theorem dX3_isInYard_10 : decode cX3_isInYard 10 = .ok (.ireturn, 1) := dk_172 (dk_at dksX3_isInYard_0 10 rfl rfl)
abbrev cX3_isBox : ByteArray := prog_9_method_5_code
def yX3_isBox : MethodName := ⟨RX3, "isBox", "(I)Z"⟩
def dkwX3_isBox_1 : List UInt8 := [167, 0, 4, 3, 172]
abbrev dktX3_isBox_1 : List UInt8 := dkwX3_isBox_1 ++ []
def dkwX3_isBox_0 : List UInt8 := [27, 3, 42, 180, 0, 52, 4, 100, 184, 0, 55, 153, 0, 16, 42, 180, 0, 16, 27, 51, 153, 0, 7, 4]
abbrev dktX3_isBox_0 : List UInt8 := dkwX3_isBox_0 ++ dktX3_isBox_1
theorem dksX3_isBox_0 : cX3_isBox.data.toList.drop 0 = dktX3_isBox_0 := by decide +kernel
theorem dksX3_isBox_1 : cX3_isBox.data.toList.drop 24 = dktX3_isBox_1 := dk_seg dksX3_isBox_0 24 rfl rfl
theorem dX3_isBox_0 : decode cX3_isBox 0 = .ok (.iload_n 1, 1) := dk_27 (dk_at dksX3_isBox_0 0 rfl rfl)
theorem dX3_isBox_1 : decode cX3_isBox 1 = .ok (.iconst 0, 1) := dk_3 (dk_at dksX3_isBox_0 1 rfl rfl)
theorem dX3_isBox_2 : decode cX3_isBox 2 = .ok (.aload_n 0, 1) := dk_42 (dk_at dksX3_isBox_0 2 rfl rfl)
theorem dX3_isBox_3 : decode cX3_isBox 3 = .ok (.getfield 52, 3) := dk_180 0 52 (dk_at dksX3_isBox_0 3 rfl rfl)
theorem dX3_isBox_6 : decode cX3_isBox 6 = .ok (.iconst 1, 1) := dk_4 (dk_at dksX3_isBox_0 6 rfl rfl)
theorem dX3_isBox_7 : decode cX3_isBox 7 = .ok (.isub, 1) := dk_100 (dk_at dksX3_isBox_0 7 rfl rfl)
theorem dX3_isBox_8 : decode cX3_isBox 8 = .ok (.invokestatic 55, 3) := dk_184 0 55 (dk_at dksX3_isBox_0 8 rfl rfl)
theorem dX3_isBox_11 : decode cX3_isBox 11 = .ok (.ifCond .eq 16, 3) := dk_153 0 16 (dk_at dksX3_isBox_0 11 rfl rfl)
theorem dX3_isBox_14 : decode cX3_isBox 14 = .ok (.aload_n 0, 1) := dk_42 (dk_at dksX3_isBox_0 14 rfl rfl)
theorem dX3_isBox_15 : decode cX3_isBox 15 = .ok (.getfield 16, 3) := dk_180 0 16 (dk_at dksX3_isBox_0 15 rfl rfl)
theorem dX3_isBox_18 : decode cX3_isBox 18 = .ok (.iload_n 1, 1) := dk_27 (dk_at dksX3_isBox_0 18 rfl rfl)
theorem dX3_isBox_19 : decode cX3_isBox 19 = .ok (.baload, 1) := dk_51 (dk_at dksX3_isBox_0 19 rfl rfl)
theorem dX3_isBox_20 : decode cX3_isBox 20 = .ok (.ifCond .eq 7, 3) := dk_153 0 7 (dk_at dksX3_isBox_0 20 rfl rfl)
theorem dX3_isBox_23 : decode cX3_isBox 23 = .ok (.iconst 1, 1) := dk_4 (dk_at dksX3_isBox_0 23 rfl rfl)
theorem dX3_isBox_24 : decode cX3_isBox 24 = .ok (.goto 4, 3) := dk_167 0 4 (dk_at dksX3_isBox_1 0 rfl rfl)
theorem dX3_isBox_27 : decode cX3_isBox 27 = .ok (.iconst 0, 1) := dk_3 (dk_at dksX3_isBox_1 3 rfl rfl)
theorem dX3_isBox_28 : decode cX3_isBox 28 = .ok (.ireturn, 1) := dk_172 (dk_at dksX3_isBox_1 4 rfl rfl)
abbrev cX3_weight : ByteArray := prog_9_method_27_code
def yX3_weight : MethodName := ⟨RX3, "weight", "(I)I"⟩
def dkwX3_weight_1 : List UInt8 := [182, 0, 110, 172]
abbrev dktX3_weight_1 : List UInt8 := dkwX3_weight_1 ++ []
def dkwX3_weight_0 : List UInt8 := [42, 3, 181, 0, 48, 42, 27, 182, 0, 120, 153, 0, 12, 42, 180, 0, 13, 27, 46, 167, 0, 8, 42, 4]
abbrev dktX3_weight_0 : List UInt8 := dkwX3_weight_0 ++ dktX3_weight_1
theorem dksX3_weight_0 : cX3_weight.data.toList.drop 0 = dktX3_weight_0 := by decide +kernel
theorem dksX3_weight_1 : cX3_weight.data.toList.drop 24 = dktX3_weight_1 := dk_seg dksX3_weight_0 24 rfl rfl
theorem dX3_weight_0 : decode cX3_weight 0 = .ok (.aload_n 0, 1) := dk_42 (dk_at dksX3_weight_0 0 rfl rfl)
theorem dX3_weight_1 : decode cX3_weight 1 = .ok (.iconst 0, 1) := dk_3 (dk_at dksX3_weight_0 1 rfl rfl)
theorem dX3_weight_2 : decode cX3_weight 2 = .ok (.putfield 48, 3) := dk_181 0 48 (dk_at dksX3_weight_0 2 rfl rfl)
theorem dX3_weight_5 : decode cX3_weight 5 = .ok (.aload_n 0, 1) := dk_42 (dk_at dksX3_weight_0 5 rfl rfl)
theorem dX3_weight_6 : decode cX3_weight 6 = .ok (.iload_n 1, 1) := dk_27 (dk_at dksX3_weight_0 6 rfl rfl)
theorem dX3_weight_7 : decode cX3_weight 7 = .ok (.invokevirtual 120, 3) := dk_182 0 120 (dk_at dksX3_weight_0 7 rfl rfl)
theorem dX3_weight_10 : decode cX3_weight 10 = .ok (.ifCond .eq 12, 3) := dk_153 0 12 (dk_at dksX3_weight_0 10 rfl rfl)
theorem dX3_weight_13 : decode cX3_weight 13 = .ok (.aload_n 0, 1) := dk_42 (dk_at dksX3_weight_0 13 rfl rfl)
theorem dX3_weight_14 : decode cX3_weight 14 = .ok (.getfield 13, 3) := dk_180 0 13 (dk_at dksX3_weight_0 14 rfl rfl)
theorem dX3_weight_17 : decode cX3_weight 17 = .ok (.iload_n 1, 1) := dk_27 (dk_at dksX3_weight_0 17 rfl rfl)
theorem dX3_weight_18 : decode cX3_weight 18 = .ok (.iaload, 1) := dk_46 (dk_at dksX3_weight_0 18 rfl rfl)
theorem dX3_weight_19 : decode cX3_weight 19 = .ok (.goto 8, 3) := dk_167 0 8 (dk_at dksX3_weight_0 19 rfl rfl)
theorem dX3_weight_22 : decode cX3_weight 22 = .ok (.aload_n 0, 1) := dk_42 (dk_at dksX3_weight_0 22 rfl rfl)
theorem dX3_weight_23 : decode cX3_weight 23 = .ok (.iconst 1, 1) := dk_4 (dk_at dksX3_weight_0 23 rfl rfl)
theorem dX3_weight_24 : decode cX3_weight 24 = .ok (.invokevirtual 110, 3) := dk_182 0 110 (dk_at dksX3_weight_1 0 rfl rfl)
theorem dX3_weight_27 : decode cX3_weight 27 = .ok (.ireturn, 1) := dk_172 (dk_at dksX3_weight_1 3 rfl rfl)
abbrev cX3_stackOf : ByteArray := prog_9_method_28_code
def yX3_stackOf : MethodName := ⟨RX3, "stackOf", "(I)I"⟩
def dkwX3_stackOf_1 : List UInt8 := [182, 0, 110, 172]
abbrev dktX3_stackOf_1 : List UInt8 := dkwX3_stackOf_1 ++ []
def dkwX3_stackOf_0 : List UInt8 := [42, 3, 181, 0, 48, 42, 27, 182, 0, 120, 153, 0, 12, 42, 3, 27, 182, 0, 62, 167, 0, 8, 42, 4]
abbrev dktX3_stackOf_0 : List UInt8 := dkwX3_stackOf_0 ++ dktX3_stackOf_1
theorem dksX3_stackOf_0 : cX3_stackOf.data.toList.drop 0 = dktX3_stackOf_0 := by decide +kernel
theorem dksX3_stackOf_1 : cX3_stackOf.data.toList.drop 24 = dktX3_stackOf_1 := dk_seg dksX3_stackOf_0 24 rfl rfl
theorem dX3_stackOf_0 : decode cX3_stackOf 0 = .ok (.aload_n 0, 1) := dk_42 (dk_at dksX3_stackOf_0 0 rfl rfl)
theorem dX3_stackOf_1 : decode cX3_stackOf 1 = .ok (.iconst 0, 1) := dk_3 (dk_at dksX3_stackOf_0 1 rfl rfl)
theorem dX3_stackOf_2 : decode cX3_stackOf 2 = .ok (.putfield 48, 3) := dk_181 0 48 (dk_at dksX3_stackOf_0 2 rfl rfl)
theorem dX3_stackOf_5 : decode cX3_stackOf 5 = .ok (.aload_n 0, 1) := dk_42 (dk_at dksX3_stackOf_0 5 rfl rfl)
theorem dX3_stackOf_6 : decode cX3_stackOf 6 = .ok (.iload_n 1, 1) := dk_27 (dk_at dksX3_stackOf_0 6 rfl rfl)
theorem dX3_stackOf_7 : decode cX3_stackOf 7 = .ok (.invokevirtual 120, 3) := dk_182 0 120 (dk_at dksX3_stackOf_0 7 rfl rfl)
theorem dX3_stackOf_10 : decode cX3_stackOf 10 = .ok (.ifCond .eq 12, 3) := dk_153 0 12 (dk_at dksX3_stackOf_0 10 rfl rfl)
theorem dX3_stackOf_13 : decode cX3_stackOf 13 = .ok (.aload_n 0, 1) := dk_42 (dk_at dksX3_stackOf_0 13 rfl rfl)
theorem dX3_stackOf_14 : decode cX3_stackOf 14 = .ok (.iconst 0, 1) := dk_3 (dk_at dksX3_stackOf_0 14 rfl rfl)
theorem dX3_stackOf_15 : decode cX3_stackOf 15 = .ok (.iload_n 1, 1) := dk_27 (dk_at dksX3_stackOf_0 15 rfl rfl)
theorem dX3_stackOf_16 : decode cX3_stackOf 16 = .ok (.invokevirtual 62, 3) := dk_182 0 62 (dk_at dksX3_stackOf_0 16 rfl rfl)
theorem dX3_stackOf_19 : decode cX3_stackOf 19 = .ok (.goto 8, 3) := dk_167 0 8 (dk_at dksX3_stackOf_0 19 rfl rfl)
theorem dX3_stackOf_22 : decode cX3_stackOf 22 = .ok (.aload_n 0, 1) := dk_42 (dk_at dksX3_stackOf_0 22 rfl rfl)
theorem dX3_stackOf_23 : decode cX3_stackOf 23 = .ok (.iconst 1, 1) := dk_4 (dk_at dksX3_stackOf_0 23 rfl rfl)
theorem dX3_stackOf_24 : decode cX3_stackOf 24 = .ok (.invokevirtual 110, 3) := dk_182 0 110 (dk_at dksX3_stackOf_1 0 rfl rfl)
theorem dX3_stackOf_27 : decode cX3_stackOf 27 = .ok (.ireturn, 1) := dk_172 (dk_at dksX3_stackOf_1 3 rfl rfl)
abbrev cX3_placeOf : ByteArray := prog_9_method_8_code
def yX3_placeOf : MethodName := ⟨RX3, "placeOf", "(II)I"⟩
def dkwX3_placeOf_2 : List UInt8 := [29, 172, 132, 4, 1, 167, 255, 216, 132, 3, 1, 167, 255, 199, 2, 172]
abbrev dktX3_placeOf_2 : List UInt8 := dkwX3_placeOf_2 ++ []
def dkwX3_placeOf_1 : List UInt8 := [46, 162, 0, 31, 42, 180, 0, 30, 16, 16, 27, 104, 7, 29, 104, 96, 21, 4, 96, 46, 28, 160, 0, 5]
abbrev dktX3_placeOf_1 : List UInt8 := dkwX3_placeOf_1 ++ dktX3_placeOf_2
def dkwX3_placeOf_0 : List UInt8 := [3, 62, 29, 42, 180, 0, 59, 162, 0, 55, 3, 54, 4, 21, 4, 42, 180, 0, 27, 7, 27, 104, 29, 96]
abbrev dktX3_placeOf_0 : List UInt8 := dkwX3_placeOf_0 ++ dktX3_placeOf_1
theorem dksX3_placeOf_0 : cX3_placeOf.data.toList.drop 0 = dktX3_placeOf_0 := by decide +kernel
theorem dksX3_placeOf_1 : cX3_placeOf.data.toList.drop 24 = dktX3_placeOf_1 := dk_seg dksX3_placeOf_0 24 rfl rfl
theorem dksX3_placeOf_2 : cX3_placeOf.data.toList.drop 48 = dktX3_placeOf_2 := dk_seg dksX3_placeOf_1 24 rfl rfl
theorem dX3_placeOf_0 : decode cX3_placeOf 0 = .ok (.iconst 0, 1) := dk_3 (dk_at dksX3_placeOf_0 0 rfl rfl)
theorem dX3_placeOf_1 : decode cX3_placeOf 1 = .ok (.istore_n 3, 1) := dk_62 (dk_at dksX3_placeOf_0 1 rfl rfl)
theorem dX3_placeOf_2 : decode cX3_placeOf 2 = .ok (.iload_n 3, 1) := dk_29 (dk_at dksX3_placeOf_0 2 rfl rfl)
theorem dX3_placeOf_3 : decode cX3_placeOf 3 = .ok (.aload_n 0, 1) := dk_42 (dk_at dksX3_placeOf_0 3 rfl rfl)
theorem dX3_placeOf_4 : decode cX3_placeOf 4 = .ok (.getfield 59, 3) := dk_180 0 59 (dk_at dksX3_placeOf_0 4 rfl rfl)
theorem dX3_placeOf_7 : decode cX3_placeOf 7 = .ok (.if_icmp .ge 55, 3) := dk_162 0 55 (dk_at dksX3_placeOf_0 7 rfl rfl)
theorem dX3_placeOf_10 : decode cX3_placeOf 10 = .ok (.iconst 0, 1) := dk_3 (dk_at dksX3_placeOf_0 10 rfl rfl)
theorem dX3_placeOf_11 : decode cX3_placeOf 11 = .ok (.istore 4, 2) := dk_54 4 (dk_at dksX3_placeOf_0 11 rfl rfl)
theorem dX3_placeOf_13 : decode cX3_placeOf 13 = .ok (.iload 4, 2) := dk_21 4 (dk_at dksX3_placeOf_0 13 rfl rfl)
theorem dX3_placeOf_15 : decode cX3_placeOf 15 = .ok (.aload_n 0, 1) := dk_42 (dk_at dksX3_placeOf_0 15 rfl rfl)
theorem dX3_placeOf_16 : decode cX3_placeOf 16 = .ok (.getfield 27, 3) := dk_180 0 27 (dk_at dksX3_placeOf_0 16 rfl rfl)
theorem dX3_placeOf_19 : decode cX3_placeOf 19 = .ok (.iconst 4, 1) := dk_7 (dk_at dksX3_placeOf_0 19 rfl rfl)
theorem dX3_placeOf_20 : decode cX3_placeOf 20 = .ok (.iload_n 1, 1) := dk_27 (dk_at dksX3_placeOf_0 20 rfl rfl)
theorem dX3_placeOf_21 : decode cX3_placeOf 21 = .ok (.imul, 1) := dk_104 (dk_at dksX3_placeOf_0 21 rfl rfl)
theorem dX3_placeOf_22 : decode cX3_placeOf 22 = .ok (.iload_n 3, 1) := dk_29 (dk_at dksX3_placeOf_0 22 rfl rfl)
theorem dX3_placeOf_23 : decode cX3_placeOf 23 = .ok (.iadd, 1) := dk_96 (dk_at dksX3_placeOf_0 23 rfl rfl)
theorem dX3_placeOf_24 : decode cX3_placeOf 24 = .ok (.iaload, 1) := dk_46 (dk_at dksX3_placeOf_1 0 rfl rfl)
theorem dX3_placeOf_25 : decode cX3_placeOf 25 = .ok (.if_icmp .ge 31, 3) := dk_162 0 31 (dk_at dksX3_placeOf_1 1 rfl rfl)
theorem dX3_placeOf_28 : decode cX3_placeOf 28 = .ok (.aload_n 0, 1) := dk_42 (dk_at dksX3_placeOf_1 4 rfl rfl)
theorem dX3_placeOf_29 : decode cX3_placeOf 29 = .ok (.getfield 30, 3) := dk_180 0 30 (dk_at dksX3_placeOf_1 5 rfl rfl)
theorem dX3_placeOf_32 : decode cX3_placeOf 32 = .ok (.bipush 16, 2) := dk_16 16 (dk_at dksX3_placeOf_1 8 rfl rfl)
theorem dX3_placeOf_34 : decode cX3_placeOf 34 = .ok (.iload_n 1, 1) := dk_27 (dk_at dksX3_placeOf_1 10 rfl rfl)
theorem dX3_placeOf_35 : decode cX3_placeOf 35 = .ok (.imul, 1) := dk_104 (dk_at dksX3_placeOf_1 11 rfl rfl)
theorem dX3_placeOf_36 : decode cX3_placeOf 36 = .ok (.iconst 4, 1) := dk_7 (dk_at dksX3_placeOf_1 12 rfl rfl)
theorem dX3_placeOf_37 : decode cX3_placeOf 37 = .ok (.iload_n 3, 1) := dk_29 (dk_at dksX3_placeOf_1 13 rfl rfl)
theorem dX3_placeOf_38 : decode cX3_placeOf 38 = .ok (.imul, 1) := dk_104 (dk_at dksX3_placeOf_1 14 rfl rfl)
theorem dX3_placeOf_39 : decode cX3_placeOf 39 = .ok (.iadd, 1) := dk_96 (dk_at dksX3_placeOf_1 15 rfl rfl)
theorem dX3_placeOf_40 : decode cX3_placeOf 40 = .ok (.iload 4, 2) := dk_21 4 (dk_at dksX3_placeOf_1 16 rfl rfl)
theorem dX3_placeOf_42 : decode cX3_placeOf 42 = .ok (.iadd, 1) := dk_96 (dk_at dksX3_placeOf_1 18 rfl rfl)
theorem dX3_placeOf_43 : decode cX3_placeOf 43 = .ok (.iaload, 1) := dk_46 (dk_at dksX3_placeOf_1 19 rfl rfl)
theorem dX3_placeOf_44 : decode cX3_placeOf 44 = .ok (.iload_n 2, 1) := dk_28 (dk_at dksX3_placeOf_1 20 rfl rfl)
theorem dX3_placeOf_45 : decode cX3_placeOf 45 = .ok (.if_icmp .ne 5, 3) := dk_160 0 5 (dk_at dksX3_placeOf_1 21 rfl rfl)
theorem dX3_placeOf_48 : decode cX3_placeOf 48 = .ok (.iload_n 3, 1) := dk_29 (dk_at dksX3_placeOf_2 0 rfl rfl)
theorem dX3_placeOf_49 : decode cX3_placeOf 49 = .ok (.ireturn, 1) := dk_172 (dk_at dksX3_placeOf_2 1 rfl rfl)
theorem dX3_placeOf_50 : decode cX3_placeOf 50 = .ok (.iinc 4 1, 3) := dk_132 4 1 (dk_at dksX3_placeOf_2 2 rfl rfl)
theorem dX3_placeOf_53 : decode cX3_placeOf 53 = .ok (.goto (-40), 3) := dk_167 255 216 (dk_at dksX3_placeOf_2 5 rfl rfl)
theorem dX3_placeOf_56 : decode cX3_placeOf 56 = .ok (.iinc 3 1, 3) := dk_132 3 1 (dk_at dksX3_placeOf_2 8 rfl rfl)
theorem dX3_placeOf_59 : decode cX3_placeOf 59 = .ok (.goto (-57), 3) := dk_167 255 199 (dk_at dksX3_placeOf_2 11 rfl rfl)
theorem dX3_placeOf_62 : decode cX3_placeOf 62 = .ok (.iconst (-1), 1) := dk_2 (dk_at dksX3_placeOf_2 14 rfl rfl)
theorem dX3_placeOf_63 : decode cX3_placeOf 63 = .ok (.ireturn, 1) := dk_172 (dk_at dksX3_placeOf_2 15 rfl rfl)
abbrev cX3_level : ByteArray := prog_9_method_29_code
def yX3_level : MethodName := ⟨RX3, "level", "(I)I"⟩
def dkwX3_level_1 : List UInt8 := [182, 0, 110, 172]
abbrev dktX3_level_1 : List UInt8 := dkwX3_level_1 ++ []
def dkwX3_level_0 : List UInt8 := [42, 3, 181, 0, 48, 42, 27, 182, 0, 120, 153, 0, 12, 42, 3, 27, 182, 0, 98, 167, 0, 8, 42, 4]
abbrev dktX3_level_0 : List UInt8 := dkwX3_level_0 ++ dktX3_level_1
theorem dksX3_level_0 : cX3_level.data.toList.drop 0 = dktX3_level_0 := by decide +kernel
theorem dksX3_level_1 : cX3_level.data.toList.drop 24 = dktX3_level_1 := dk_seg dksX3_level_0 24 rfl rfl
theorem dX3_level_0 : decode cX3_level 0 = .ok (.aload_n 0, 1) := dk_42 (dk_at dksX3_level_0 0 rfl rfl)
theorem dX3_level_1 : decode cX3_level 1 = .ok (.iconst 0, 1) := dk_3 (dk_at dksX3_level_0 1 rfl rfl)
theorem dX3_level_2 : decode cX3_level 2 = .ok (.putfield 48, 3) := dk_181 0 48 (dk_at dksX3_level_0 2 rfl rfl)
theorem dX3_level_5 : decode cX3_level 5 = .ok (.aload_n 0, 1) := dk_42 (dk_at dksX3_level_0 5 rfl rfl)
theorem dX3_level_6 : decode cX3_level 6 = .ok (.iload_n 1, 1) := dk_27 (dk_at dksX3_level_0 6 rfl rfl)
theorem dX3_level_7 : decode cX3_level 7 = .ok (.invokevirtual 120, 3) := dk_182 0 120 (dk_at dksX3_level_0 7 rfl rfl)
theorem dX3_level_10 : decode cX3_level 10 = .ok (.ifCond .eq 12, 3) := dk_153 0 12 (dk_at dksX3_level_0 10 rfl rfl)
theorem dX3_level_13 : decode cX3_level 13 = .ok (.aload_n 0, 1) := dk_42 (dk_at dksX3_level_0 13 rfl rfl)
theorem dX3_level_14 : decode cX3_level 14 = .ok (.iconst 0, 1) := dk_3 (dk_at dksX3_level_0 14 rfl rfl)
theorem dX3_level_15 : decode cX3_level 15 = .ok (.iload_n 1, 1) := dk_27 (dk_at dksX3_level_0 15 rfl rfl)
theorem dX3_level_16 : decode cX3_level 16 = .ok (.invokevirtual 98, 3) := dk_182 0 98 (dk_at dksX3_level_0 16 rfl rfl)
theorem dX3_level_19 : decode cX3_level 19 = .ok (.goto 8, 3) := dk_167 0 8 (dk_at dksX3_level_0 19 rfl rfl)
theorem dX3_level_22 : decode cX3_level 22 = .ok (.aload_n 0, 1) := dk_42 (dk_at dksX3_level_0 22 rfl rfl)
theorem dX3_level_23 : decode cX3_level 23 = .ok (.iconst 1, 1) := dk_4 (dk_at dksX3_level_0 23 rfl rfl)
theorem dX3_level_24 : decode cX3_level 24 = .ok (.invokevirtual 110, 3) := dk_182 0 110 (dk_at dksX3_level_1 0 rfl rfl)
theorem dX3_level_27 : decode cX3_level 27 = .ok (.ireturn, 1) := dk_172 (dk_at dksX3_level_1 3 rfl rfl)
abbrev cX3_levelOf : ByteArray := prog_9_method_9_code
def yX3_levelOf : MethodName := ⟨RX3, "levelOf", "(II)I"⟩
def dkwX3_levelOf_1 : List UInt8 := [96, 46, 28, 159, 0, 9, 132, 4, 1, 167, 255, 233, 21, 4, 172]
abbrev dktX3_levelOf_1 : List UInt8 := dkwX3_levelOf_1 ++ []
def dkwX3_levelOf_0 : List UInt8 := [42, 27, 28, 182, 0, 62, 62, 3, 54, 4, 42, 180, 0, 30, 16, 16, 27, 104, 7, 29, 104, 96, 21, 4]
abbrev dktX3_levelOf_0 : List UInt8 := dkwX3_levelOf_0 ++ dktX3_levelOf_1
theorem dksX3_levelOf_0 : cX3_levelOf.data.toList.drop 0 = dktX3_levelOf_0 := by decide +kernel
theorem dksX3_levelOf_1 : cX3_levelOf.data.toList.drop 24 = dktX3_levelOf_1 := dk_seg dksX3_levelOf_0 24 rfl rfl
theorem dX3_levelOf_0 : decode cX3_levelOf 0 = .ok (.aload_n 0, 1) := dk_42 (dk_at dksX3_levelOf_0 0 rfl rfl)
theorem dX3_levelOf_1 : decode cX3_levelOf 1 = .ok (.iload_n 1, 1) := dk_27 (dk_at dksX3_levelOf_0 1 rfl rfl)
theorem dX3_levelOf_2 : decode cX3_levelOf 2 = .ok (.iload_n 2, 1) := dk_28 (dk_at dksX3_levelOf_0 2 rfl rfl)
theorem dX3_levelOf_3 : decode cX3_levelOf 3 = .ok (.invokevirtual 62, 3) := dk_182 0 62 (dk_at dksX3_levelOf_0 3 rfl rfl)
theorem dX3_levelOf_6 : decode cX3_levelOf 6 = .ok (.istore_n 3, 1) := dk_62 (dk_at dksX3_levelOf_0 6 rfl rfl)
theorem dX3_levelOf_7 : decode cX3_levelOf 7 = .ok (.iconst 0, 1) := dk_3 (dk_at dksX3_levelOf_0 7 rfl rfl)
theorem dX3_levelOf_8 : decode cX3_levelOf 8 = .ok (.istore 4, 2) := dk_54 4 (dk_at dksX3_levelOf_0 8 rfl rfl)
theorem dX3_levelOf_10 : decode cX3_levelOf 10 = .ok (.aload_n 0, 1) := dk_42 (dk_at dksX3_levelOf_0 10 rfl rfl)
theorem dX3_levelOf_11 : decode cX3_levelOf 11 = .ok (.getfield 30, 3) := dk_180 0 30 (dk_at dksX3_levelOf_0 11 rfl rfl)
theorem dX3_levelOf_14 : decode cX3_levelOf 14 = .ok (.bipush 16, 2) := dk_16 16 (dk_at dksX3_levelOf_0 14 rfl rfl)
theorem dX3_levelOf_16 : decode cX3_levelOf 16 = .ok (.iload_n 1, 1) := dk_27 (dk_at dksX3_levelOf_0 16 rfl rfl)
theorem dX3_levelOf_17 : decode cX3_levelOf 17 = .ok (.imul, 1) := dk_104 (dk_at dksX3_levelOf_0 17 rfl rfl)
theorem dX3_levelOf_18 : decode cX3_levelOf 18 = .ok (.iconst 4, 1) := dk_7 (dk_at dksX3_levelOf_0 18 rfl rfl)
theorem dX3_levelOf_19 : decode cX3_levelOf 19 = .ok (.iload_n 3, 1) := dk_29 (dk_at dksX3_levelOf_0 19 rfl rfl)
theorem dX3_levelOf_20 : decode cX3_levelOf 20 = .ok (.imul, 1) := dk_104 (dk_at dksX3_levelOf_0 20 rfl rfl)
theorem dX3_levelOf_21 : decode cX3_levelOf 21 = .ok (.iadd, 1) := dk_96 (dk_at dksX3_levelOf_0 21 rfl rfl)
theorem dX3_levelOf_22 : decode cX3_levelOf 22 = .ok (.iload 4, 2) := dk_21 4 (dk_at dksX3_levelOf_0 22 rfl rfl)
theorem dX3_levelOf_24 : decode cX3_levelOf 24 = .ok (.iadd, 1) := dk_96 (dk_at dksX3_levelOf_1 0 rfl rfl)
theorem dX3_levelOf_25 : decode cX3_levelOf 25 = .ok (.iaload, 1) := dk_46 (dk_at dksX3_levelOf_1 1 rfl rfl)
theorem dX3_levelOf_26 : decode cX3_levelOf 26 = .ok (.iload_n 2, 1) := dk_28 (dk_at dksX3_levelOf_1 2 rfl rfl)
theorem dX3_levelOf_27 : decode cX3_levelOf 27 = .ok (.if_icmp .eq 9, 3) := dk_159 0 9 (dk_at dksX3_levelOf_1 3 rfl rfl)
theorem dX3_levelOf_30 : decode cX3_levelOf 30 = .ok (.iinc 4 1, 3) := dk_132 4 1 (dk_at dksX3_levelOf_1 6 rfl rfl)
theorem dX3_levelOf_33 : decode cX3_levelOf 33 = .ok (.goto (-23), 3) := dk_167 255 233 (dk_at dksX3_levelOf_1 9 rfl rfl)
theorem dX3_levelOf_36 : decode cX3_levelOf 36 = .ok (.iload 4, 2) := dk_21 4 (dk_at dksX3_levelOf_1 12 rfl rfl)
theorem dX3_levelOf_38 : decode cX3_levelOf 38 = .ok (.ireturn, 1) := dk_172 (dk_at dksX3_levelOf_1 14 rfl rfl)
abbrev cX3_above : ByteArray := prog_9_method_30_code
def yX3_above : MethodName := ⟨RX3, "above", "(I)I"⟩
def dkwX3_above_1 : List UInt8 := [182, 0, 110, 172]
abbrev dktX3_above_1 : List UInt8 := dkwX3_above_1 ++ []
def dkwX3_above_0 : List UInt8 := [42, 3, 181, 0, 48, 42, 27, 182, 0, 120, 153, 0, 11, 42, 27, 182, 0, 101, 167, 0, 8, 42, 4]
abbrev dktX3_above_0 : List UInt8 := dkwX3_above_0 ++ dktX3_above_1
theorem dksX3_above_0 : cX3_above.data.toList.drop 0 = dktX3_above_0 := by decide +kernel
theorem dksX3_above_1 : cX3_above.data.toList.drop 23 = dktX3_above_1 := dk_seg dksX3_above_0 23 rfl rfl
theorem dX3_above_0 : decode cX3_above 0 = .ok (.aload_n 0, 1) := dk_42 (dk_at dksX3_above_0 0 rfl rfl)
theorem dX3_above_1 : decode cX3_above 1 = .ok (.iconst 0, 1) := dk_3 (dk_at dksX3_above_0 1 rfl rfl)
theorem dX3_above_2 : decode cX3_above 2 = .ok (.putfield 48, 3) := dk_181 0 48 (dk_at dksX3_above_0 2 rfl rfl)
theorem dX3_above_5 : decode cX3_above 5 = .ok (.aload_n 0, 1) := dk_42 (dk_at dksX3_above_0 5 rfl rfl)
theorem dX3_above_6 : decode cX3_above 6 = .ok (.iload_n 1, 1) := dk_27 (dk_at dksX3_above_0 6 rfl rfl)
theorem dX3_above_7 : decode cX3_above 7 = .ok (.invokevirtual 120, 3) := dk_182 0 120 (dk_at dksX3_above_0 7 rfl rfl)
theorem dX3_above_10 : decode cX3_above 10 = .ok (.ifCond .eq 11, 3) := dk_153 0 11 (dk_at dksX3_above_0 10 rfl rfl)
theorem dX3_above_13 : decode cX3_above 13 = .ok (.aload_n 0, 1) := dk_42 (dk_at dksX3_above_0 13 rfl rfl)
theorem dX3_above_14 : decode cX3_above 14 = .ok (.iload_n 1, 1) := dk_27 (dk_at dksX3_above_0 14 rfl rfl)
theorem dX3_above_15 : decode cX3_above 15 = .ok (.invokevirtual 101, 3) := dk_182 0 101 (dk_at dksX3_above_0 15 rfl rfl)
theorem dX3_above_18 : decode cX3_above 18 = .ok (.goto 8, 3) := dk_167 0 8 (dk_at dksX3_above_0 18 rfl rfl)
theorem dX3_above_21 : decode cX3_above 21 = .ok (.aload_n 0, 1) := dk_42 (dk_at dksX3_above_0 21 rfl rfl)
theorem dX3_above_22 : decode cX3_above 22 = .ok (.iconst 1, 1) := dk_4 (dk_at dksX3_above_0 22 rfl rfl)
theorem dX3_above_23 : decode cX3_above 23 = .ok (.invokevirtual 110, 3) := dk_182 0 110 (dk_at dksX3_above_1 0 rfl rfl)
theorem dX3_above_26 : decode cX3_above 26 = .ok (.ireturn, 1) := dk_172 (dk_at dksX3_above_1 3 rfl rfl)
abbrev cX3_aboveOf : ByteArray := prog_9_method_19_code
def yX3_aboveOf : MethodName := ⟨RX3, "aboveOf", "(I)I"⟩
def dkwX3_aboveOf_0 : List UInt8 := [42, 180, 0, 27, 42, 3, 27, 182, 0, 62, 46, 42, 3, 27, 182, 0, 98, 100, 4, 100, 172]
abbrev dktX3_aboveOf_0 : List UInt8 := dkwX3_aboveOf_0 ++ []
theorem dksX3_aboveOf_0 : cX3_aboveOf.data.toList.drop 0 = dktX3_aboveOf_0 := by decide +kernel
theorem dX3_aboveOf_0 : decode cX3_aboveOf 0 = .ok (.aload_n 0, 1) := dk_42 (dk_at dksX3_aboveOf_0 0 rfl rfl)
theorem dX3_aboveOf_1 : decode cX3_aboveOf 1 = .ok (.getfield 27, 3) := dk_180 0 27 (dk_at dksX3_aboveOf_0 1 rfl rfl)
theorem dX3_aboveOf_4 : decode cX3_aboveOf 4 = .ok (.aload_n 0, 1) := dk_42 (dk_at dksX3_aboveOf_0 4 rfl rfl)
theorem dX3_aboveOf_5 : decode cX3_aboveOf 5 = .ok (.iconst 0, 1) := dk_3 (dk_at dksX3_aboveOf_0 5 rfl rfl)
theorem dX3_aboveOf_6 : decode cX3_aboveOf 6 = .ok (.iload_n 1, 1) := dk_27 (dk_at dksX3_aboveOf_0 6 rfl rfl)
theorem dX3_aboveOf_7 : decode cX3_aboveOf 7 = .ok (.invokevirtual 62, 3) := dk_182 0 62 (dk_at dksX3_aboveOf_0 7 rfl rfl)
theorem dX3_aboveOf_10 : decode cX3_aboveOf 10 = .ok (.iaload, 1) := dk_46 (dk_at dksX3_aboveOf_0 10 rfl rfl)
theorem dX3_aboveOf_11 : decode cX3_aboveOf 11 = .ok (.aload_n 0, 1) := dk_42 (dk_at dksX3_aboveOf_0 11 rfl rfl)
theorem dX3_aboveOf_12 : decode cX3_aboveOf 12 = .ok (.iconst 0, 1) := dk_3 (dk_at dksX3_aboveOf_0 12 rfl rfl)
theorem dX3_aboveOf_13 : decode cX3_aboveOf 13 = .ok (.iload_n 1, 1) := dk_27 (dk_at dksX3_aboveOf_0 13 rfl rfl)
theorem dX3_aboveOf_14 : decode cX3_aboveOf 14 = .ok (.invokevirtual 98, 3) := dk_182 0 98 (dk_at dksX3_aboveOf_0 14 rfl rfl)
theorem dX3_aboveOf_17 : decode cX3_aboveOf 17 = .ok (.isub, 1) := dk_100 (dk_at dksX3_aboveOf_0 17 rfl rfl)
theorem dX3_aboveOf_18 : decode cX3_aboveOf 18 = .ok (.iconst 1, 1) := dk_4 (dk_at dksX3_aboveOf_0 18 rfl rfl)
theorem dX3_aboveOf_19 : decode cX3_aboveOf 19 = .ok (.isub, 1) := dk_100 (dk_at dksX3_aboveOf_0 19 rfl rfl)
theorem dX3_aboveOf_20 : decode cX3_aboveOf 20 = .ok (.ireturn, 1) := dk_172 (dk_at dksX3_aboveOf_0 20 rfl rfl)
abbrev cX3_height : ByteArray := prog_9_method_31_code
def yX3_height : MethodName := ⟨RX3, "height", "(I)I"⟩
def dkwX3_height_1 : List UInt8 := [182, 0, 110, 172]
abbrev dktX3_height_1 : List UInt8 := dkwX3_height_1 ++ []
def dkwX3_height_0 : List UInt8 := [42, 3, 181, 0, 48, 42, 27, 182, 0, 113, 153, 0, 12, 42, 180, 0, 27, 27, 46, 167, 0, 8, 42, 4]
abbrev dktX3_height_0 : List UInt8 := dkwX3_height_0 ++ dktX3_height_1
theorem dksX3_height_0 : cX3_height.data.toList.drop 0 = dktX3_height_0 := by decide +kernel
theorem dksX3_height_1 : cX3_height.data.toList.drop 24 = dktX3_height_1 := dk_seg dksX3_height_0 24 rfl rfl
theorem dX3_height_0 : decode cX3_height 0 = .ok (.aload_n 0, 1) := dk_42 (dk_at dksX3_height_0 0 rfl rfl)
theorem dX3_height_1 : decode cX3_height 1 = .ok (.iconst 0, 1) := dk_3 (dk_at dksX3_height_0 1 rfl rfl)
theorem dX3_height_2 : decode cX3_height 2 = .ok (.putfield 48, 3) := dk_181 0 48 (dk_at dksX3_height_0 2 rfl rfl)
theorem dX3_height_5 : decode cX3_height 5 = .ok (.aload_n 0, 1) := dk_42 (dk_at dksX3_height_0 5 rfl rfl)
theorem dX3_height_6 : decode cX3_height 6 = .ok (.iload_n 1, 1) := dk_27 (dk_at dksX3_height_0 6 rfl rfl)
theorem dX3_height_7 : decode cX3_height 7 = .ok (.invokevirtual 113, 3) := dk_182 0 113 (dk_at dksX3_height_0 7 rfl rfl)
theorem dX3_height_10 : decode cX3_height 10 = .ok (.ifCond .eq 12, 3) := dk_153 0 12 (dk_at dksX3_height_0 10 rfl rfl)
theorem dX3_height_13 : decode cX3_height 13 = .ok (.aload_n 0, 1) := dk_42 (dk_at dksX3_height_0 13 rfl rfl)
theorem dX3_height_14 : decode cX3_height 14 = .ok (.getfield 27, 3) := dk_180 0 27 (dk_at dksX3_height_0 14 rfl rfl)
theorem dX3_height_17 : decode cX3_height 17 = .ok (.iload_n 1, 1) := dk_27 (dk_at dksX3_height_0 17 rfl rfl)
theorem dX3_height_18 : decode cX3_height 18 = .ok (.iaload, 1) := dk_46 (dk_at dksX3_height_0 18 rfl rfl)
theorem dX3_height_19 : decode cX3_height 19 = .ok (.goto 8, 3) := dk_167 0 8 (dk_at dksX3_height_0 19 rfl rfl)
theorem dX3_height_22 : decode cX3_height 22 = .ok (.aload_n 0, 1) := dk_42 (dk_at dksX3_height_0 22 rfl rfl)
theorem dX3_height_23 : decode cX3_height 23 = .ok (.iconst 1, 1) := dk_4 (dk_at dksX3_height_0 23 rfl rfl)
theorem dX3_height_24 : decode cX3_height 24 = .ok (.invokevirtual 110, 3) := dk_182 0 110 (dk_at dksX3_height_1 0 rfl rfl)
theorem dX3_height_27 : decode cX3_height 27 = .ok (.ireturn, 1) := dk_172 (dk_at dksX3_height_1 3 rfl rfl)
abbrev cX3_boxAt : ByteArray := prog_9_method_32_code
def yX3_boxAt : MethodName := ⟨RX3, "boxAt", "(II)I"⟩
def dkwX3_boxAt_2 : List UInt8 := [167, 0, 8, 42, 5, 182, 0, 110, 172]
abbrev dktX3_boxAt_2 : List UInt8 := dkwX3_boxAt_2 ++ []
def dkwX3_boxAt_1 : List UInt8 := [180, 0, 27, 27, 46, 4, 100, 184, 0, 55, 153, 0, 16, 42, 180, 0, 30, 7, 27, 104, 28, 96, 46]
abbrev dktX3_boxAt_1 : List UInt8 := dkwX3_boxAt_1 ++ dktX3_boxAt_2
def dkwX3_boxAt_0 : List UInt8 := [42, 3, 181, 0, 48, 42, 27, 182, 0, 113, 154, 0, 9, 42, 4, 182, 0, 110, 172, 28, 3, 42]
abbrev dktX3_boxAt_0 : List UInt8 := dkwX3_boxAt_0 ++ dktX3_boxAt_1
theorem dksX3_boxAt_0 : cX3_boxAt.data.toList.drop 0 = dktX3_boxAt_0 := by decide +kernel
theorem dksX3_boxAt_1 : cX3_boxAt.data.toList.drop 22 = dktX3_boxAt_1 := dk_seg dksX3_boxAt_0 22 rfl rfl
theorem dksX3_boxAt_2 : cX3_boxAt.data.toList.drop 45 = dktX3_boxAt_2 := dk_seg dksX3_boxAt_1 23 rfl rfl
theorem dX3_boxAt_0 : decode cX3_boxAt 0 = .ok (.aload_n 0, 1) := dk_42 (dk_at dksX3_boxAt_0 0 rfl rfl)
theorem dX3_boxAt_1 : decode cX3_boxAt 1 = .ok (.iconst 0, 1) := dk_3 (dk_at dksX3_boxAt_0 1 rfl rfl)
theorem dX3_boxAt_2 : decode cX3_boxAt 2 = .ok (.putfield 48, 3) := dk_181 0 48 (dk_at dksX3_boxAt_0 2 rfl rfl)
theorem dX3_boxAt_5 : decode cX3_boxAt 5 = .ok (.aload_n 0, 1) := dk_42 (dk_at dksX3_boxAt_0 5 rfl rfl)
theorem dX3_boxAt_6 : decode cX3_boxAt 6 = .ok (.iload_n 1, 1) := dk_27 (dk_at dksX3_boxAt_0 6 rfl rfl)
theorem dX3_boxAt_7 : decode cX3_boxAt 7 = .ok (.invokevirtual 113, 3) := dk_182 0 113 (dk_at dksX3_boxAt_0 7 rfl rfl)
theorem dX3_boxAt_10 : decode cX3_boxAt 10 = .ok (.ifCond .ne 9, 3) := dk_154 0 9 (dk_at dksX3_boxAt_0 10 rfl rfl)
theorem dX3_boxAt_13 : decode cX3_boxAt 13 = .ok (.aload_n 0, 1) := dk_42 (dk_at dksX3_boxAt_0 13 rfl rfl)
theorem dX3_boxAt_14 : decode cX3_boxAt 14 = .ok (.iconst 1, 1) := dk_4 (dk_at dksX3_boxAt_0 14 rfl rfl)
theorem dX3_boxAt_15 : decode cX3_boxAt 15 = .ok (.invokevirtual 110, 3) := dk_182 0 110 (dk_at dksX3_boxAt_0 15 rfl rfl)
theorem dX3_boxAt_18 : decode cX3_boxAt 18 = .ok (.ireturn, 1) := dk_172 (dk_at dksX3_boxAt_0 18 rfl rfl)
theorem dX3_boxAt_19 : decode cX3_boxAt 19 = .ok (.iload_n 2, 1) := dk_28 (dk_at dksX3_boxAt_0 19 rfl rfl)
theorem dX3_boxAt_20 : decode cX3_boxAt 20 = .ok (.iconst 0, 1) := dk_3 (dk_at dksX3_boxAt_0 20 rfl rfl)
theorem dX3_boxAt_21 : decode cX3_boxAt 21 = .ok (.aload_n 0, 1) := dk_42 (dk_at dksX3_boxAt_0 21 rfl rfl)
theorem dX3_boxAt_22 : decode cX3_boxAt 22 = .ok (.getfield 27, 3) := dk_180 0 27 (dk_at dksX3_boxAt_1 0 rfl rfl)
theorem dX3_boxAt_25 : decode cX3_boxAt 25 = .ok (.iload_n 1, 1) := dk_27 (dk_at dksX3_boxAt_1 3 rfl rfl)
theorem dX3_boxAt_26 : decode cX3_boxAt 26 = .ok (.iaload, 1) := dk_46 (dk_at dksX3_boxAt_1 4 rfl rfl)
theorem dX3_boxAt_27 : decode cX3_boxAt 27 = .ok (.iconst 1, 1) := dk_4 (dk_at dksX3_boxAt_1 5 rfl rfl)
theorem dX3_boxAt_28 : decode cX3_boxAt 28 = .ok (.isub, 1) := dk_100 (dk_at dksX3_boxAt_1 6 rfl rfl)
theorem dX3_boxAt_29 : decode cX3_boxAt 29 = .ok (.invokestatic 55, 3) := dk_184 0 55 (dk_at dksX3_boxAt_1 7 rfl rfl)
theorem dX3_boxAt_32 : decode cX3_boxAt 32 = .ok (.ifCond .eq 16, 3) := dk_153 0 16 (dk_at dksX3_boxAt_1 10 rfl rfl)
theorem dX3_boxAt_35 : decode cX3_boxAt 35 = .ok (.aload_n 0, 1) := dk_42 (dk_at dksX3_boxAt_1 13 rfl rfl)
theorem dX3_boxAt_36 : decode cX3_boxAt 36 = .ok (.getfield 30, 3) := dk_180 0 30 (dk_at dksX3_boxAt_1 14 rfl rfl)
theorem dX3_boxAt_39 : decode cX3_boxAt 39 = .ok (.iconst 4, 1) := dk_7 (dk_at dksX3_boxAt_1 17 rfl rfl)
theorem dX3_boxAt_40 : decode cX3_boxAt 40 = .ok (.iload_n 1, 1) := dk_27 (dk_at dksX3_boxAt_1 18 rfl rfl)
theorem dX3_boxAt_41 : decode cX3_boxAt 41 = .ok (.imul, 1) := dk_104 (dk_at dksX3_boxAt_1 19 rfl rfl)
theorem dX3_boxAt_42 : decode cX3_boxAt 42 = .ok (.iload_n 2, 1) := dk_28 (dk_at dksX3_boxAt_1 20 rfl rfl)
theorem dX3_boxAt_43 : decode cX3_boxAt 43 = .ok (.iadd, 1) := dk_96 (dk_at dksX3_boxAt_1 21 rfl rfl)
theorem dX3_boxAt_44 : decode cX3_boxAt 44 = .ok (.iaload, 1) := dk_46 (dk_at dksX3_boxAt_1 22 rfl rfl)
theorem dX3_boxAt_45 : decode cX3_boxAt 45 = .ok (.goto 8, 3) := dk_167 0 8 (dk_at dksX3_boxAt_2 0 rfl rfl)
theorem dX3_boxAt_48 : decode cX3_boxAt 48 = .ok (.aload_n 0, 1) := dk_42 (dk_at dksX3_boxAt_2 3 rfl rfl)
theorem dX3_boxAt_49 : decode cX3_boxAt 49 = .ok (.iconst 2, 1) := dk_5 (dk_at dksX3_boxAt_2 4 rfl rfl)
theorem dX3_boxAt_50 : decode cX3_boxAt 50 = .ok (.invokevirtual 110, 3) := dk_182 0 110 (dk_at dksX3_boxAt_2 5 rfl rfl)
theorem dX3_boxAt_53 : decode cX3_boxAt 53 = .ok (.ireturn, 1) := dk_172 (dk_at dksX3_boxAt_2 8 rfl rfl)
abbrev cX3_hold : ByteArray := prog_9_method_34_code
def yX3_hold : MethodName := ⟨RX3, "hold", "(ICI)I"⟩
def dkwX3_hold_4 : List UInt8 := [172, 42, 180, 0, 45, 21, 4, 16, 103, 85, 4, 172]
abbrev dktX3_hold_4 : List UInt8 := dkwX3_hold_4 ++ []
def dkwX3_hold_3 : List UInt8 := [27, 182, 0, 129, 54, 4, 21, 4, 2, 159, 0, 14, 42, 180, 0, 39, 21, 4, 46, 29, 161, 0, 5, 3]
abbrev dktX3_hold_3 : List UInt8 := dkwX3_hold_3 ++ dktX3_hold_4
def dkwX3_hold_2 : List UInt8 := [154, 0, 9, 42, 5, 182, 0, 110, 172, 42, 180, 0, 20, 27, 28, 85, 42, 180, 0, 24, 27, 29, 79, 42]
abbrev dktX3_hold_2 : List UInt8 := dkwX3_hold_2 ++ dktX3_hold_3
def dkwX3_hold_1 : List UInt8 := [159, 0, 9, 28, 16, 108, 160, 0, 19, 29, 42, 180, 0, 126, 4, 96, 17, 3, 232, 184, 0, 55]
abbrev dktX3_hold_1 : List UInt8 := dkwX3_hold_1 ++ dktX3_hold_2
def dkwX3_hold_0 : List UInt8 := [42, 3, 181, 0, 48, 42, 27, 182, 0, 120, 154, 0, 9, 42, 4, 182, 0, 110, 172, 28, 16, 112]
abbrev dktX3_hold_0 : List UInt8 := dkwX3_hold_0 ++ dktX3_hold_1
theorem dksX3_hold_0 : cX3_hold.data.toList.drop 0 = dktX3_hold_0 := by decide +kernel
theorem dksX3_hold_1 : cX3_hold.data.toList.drop 22 = dktX3_hold_1 := dk_seg dksX3_hold_0 22 rfl rfl
theorem dksX3_hold_2 : cX3_hold.data.toList.drop 44 = dktX3_hold_2 := dk_seg dksX3_hold_1 22 rfl rfl
theorem dksX3_hold_3 : cX3_hold.data.toList.drop 68 = dktX3_hold_3 := dk_seg dksX3_hold_2 24 rfl rfl
theorem dksX3_hold_4 : cX3_hold.data.toList.drop 92 = dktX3_hold_4 := dk_seg dksX3_hold_3 24 rfl rfl
theorem dX3_hold_0 : decode cX3_hold 0 = .ok (.aload_n 0, 1) := dk_42 (dk_at dksX3_hold_0 0 rfl rfl)
theorem dX3_hold_1 : decode cX3_hold 1 = .ok (.iconst 0, 1) := dk_3 (dk_at dksX3_hold_0 1 rfl rfl)
theorem dX3_hold_2 : decode cX3_hold 2 = .ok (.putfield 48, 3) := dk_181 0 48 (dk_at dksX3_hold_0 2 rfl rfl)
theorem dX3_hold_5 : decode cX3_hold 5 = .ok (.aload_n 0, 1) := dk_42 (dk_at dksX3_hold_0 5 rfl rfl)
theorem dX3_hold_6 : decode cX3_hold 6 = .ok (.iload_n 1, 1) := dk_27 (dk_at dksX3_hold_0 6 rfl rfl)
theorem dX3_hold_7 : decode cX3_hold 7 = .ok (.invokevirtual 120, 3) := dk_182 0 120 (dk_at dksX3_hold_0 7 rfl rfl)
theorem dX3_hold_10 : decode cX3_hold 10 = .ok (.ifCond .ne 9, 3) := dk_154 0 9 (dk_at dksX3_hold_0 10 rfl rfl)
theorem dX3_hold_13 : decode cX3_hold 13 = .ok (.aload_n 0, 1) := dk_42 (dk_at dksX3_hold_0 13 rfl rfl)
theorem dX3_hold_14 : decode cX3_hold 14 = .ok (.iconst 1, 1) := dk_4 (dk_at dksX3_hold_0 14 rfl rfl)
theorem dX3_hold_15 : decode cX3_hold 15 = .ok (.invokevirtual 110, 3) := dk_182 0 110 (dk_at dksX3_hold_0 15 rfl rfl)
theorem dX3_hold_18 : decode cX3_hold 18 = .ok (.ireturn, 1) := dk_172 (dk_at dksX3_hold_0 18 rfl rfl)
theorem dX3_hold_19 : decode cX3_hold 19 = .ok (.iload_n 2, 1) := dk_28 (dk_at dksX3_hold_0 19 rfl rfl)
theorem dX3_hold_20 : decode cX3_hold 20 = .ok (.bipush 112, 2) := dk_16 112 (dk_at dksX3_hold_0 20 rfl rfl)
theorem dX3_hold_22 : decode cX3_hold 22 = .ok (.if_icmp .eq 9, 3) := dk_159 0 9 (dk_at dksX3_hold_1 0 rfl rfl)
theorem dX3_hold_25 : decode cX3_hold 25 = .ok (.iload_n 2, 1) := dk_28 (dk_at dksX3_hold_1 3 rfl rfl)
theorem dX3_hold_26 : decode cX3_hold 26 = .ok (.bipush 108, 2) := dk_16 108 (dk_at dksX3_hold_1 4 rfl rfl)
theorem dX3_hold_28 : decode cX3_hold 28 = .ok (.if_icmp .ne 19, 3) := dk_160 0 19 (dk_at dksX3_hold_1 6 rfl rfl)
theorem dX3_hold_31 : decode cX3_hold 31 = .ok (.iload_n 3, 1) := dk_29 (dk_at dksX3_hold_1 9 rfl rfl)
theorem dX3_hold_32 : decode cX3_hold 32 = .ok (.aload_n 0, 1) := dk_42 (dk_at dksX3_hold_1 10 rfl rfl)
theorem dX3_hold_33 : decode cX3_hold 33 = .ok (.getfield 126, 3) := dk_180 0 126 (dk_at dksX3_hold_1 11 rfl rfl)
theorem dX3_hold_36 : decode cX3_hold 36 = .ok (.iconst 1, 1) := dk_4 (dk_at dksX3_hold_1 14 rfl rfl)
theorem dX3_hold_37 : decode cX3_hold 37 = .ok (.iadd, 1) := dk_96 (dk_at dksX3_hold_1 15 rfl rfl)
theorem dX3_hold_38 : decode cX3_hold 38 = .ok (.sipush 1000, 3) := dk_17 3 232 (dk_at dksX3_hold_1 16 rfl rfl)
theorem dX3_hold_41 : decode cX3_hold 41 = .ok (.invokestatic 55, 3) := dk_184 0 55 (dk_at dksX3_hold_1 19 rfl rfl)
theorem dX3_hold_44 : decode cX3_hold 44 = .ok (.ifCond .ne 9, 3) := dk_154 0 9 (dk_at dksX3_hold_2 0 rfl rfl)
theorem dX3_hold_47 : decode cX3_hold 47 = .ok (.aload_n 0, 1) := dk_42 (dk_at dksX3_hold_2 3 rfl rfl)
theorem dX3_hold_48 : decode cX3_hold 48 = .ok (.iconst 2, 1) := dk_5 (dk_at dksX3_hold_2 4 rfl rfl)
theorem dX3_hold_49 : decode cX3_hold 49 = .ok (.invokevirtual 110, 3) := dk_182 0 110 (dk_at dksX3_hold_2 5 rfl rfl)
theorem dX3_hold_52 : decode cX3_hold 52 = .ok (.ireturn, 1) := dk_172 (dk_at dksX3_hold_2 8 rfl rfl)
theorem dX3_hold_53 : decode cX3_hold 53 = .ok (.aload_n 0, 1) := dk_42 (dk_at dksX3_hold_2 9 rfl rfl)
theorem dX3_hold_54 : decode cX3_hold 54 = .ok (.getfield 20, 3) := dk_180 0 20 (dk_at dksX3_hold_2 10 rfl rfl)
theorem dX3_hold_57 : decode cX3_hold 57 = .ok (.iload_n 1, 1) := dk_27 (dk_at dksX3_hold_2 13 rfl rfl)
theorem dX3_hold_58 : decode cX3_hold 58 = .ok (.iload_n 2, 1) := dk_28 (dk_at dksX3_hold_2 14 rfl rfl)
theorem dX3_hold_59 : decode cX3_hold 59 = .ok (.castore, 1) := dk_85 (dk_at dksX3_hold_2 15 rfl rfl)
theorem dX3_hold_60 : decode cX3_hold 60 = .ok (.aload_n 0, 1) := dk_42 (dk_at dksX3_hold_2 16 rfl rfl)
theorem dX3_hold_61 : decode cX3_hold 61 = .ok (.getfield 24, 3) := dk_180 0 24 (dk_at dksX3_hold_2 17 rfl rfl)
theorem dX3_hold_64 : decode cX3_hold 64 = .ok (.iload_n 1, 1) := dk_27 (dk_at dksX3_hold_2 20 rfl rfl)
theorem dX3_hold_65 : decode cX3_hold 65 = .ok (.iload_n 3, 1) := dk_29 (dk_at dksX3_hold_2 21 rfl rfl)
theorem dX3_hold_66 : decode cX3_hold 66 = .ok (.iastore, 1) := dk_79 (dk_at dksX3_hold_2 22 rfl rfl)
theorem dX3_hold_67 : decode cX3_hold 67 = .ok (.aload_n 0, 1) := dk_42 (dk_at dksX3_hold_2 23 rfl rfl)
theorem dX3_hold_68 : decode cX3_hold 68 = .ok (.iload_n 1, 1) := dk_27 (dk_at dksX3_hold_3 0 rfl rfl)
theorem dX3_hold_69 : decode cX3_hold 69 = .ok (.invokevirtual 129, 3) := dk_182 0 129 (dk_at dksX3_hold_3 1 rfl rfl)
theorem dX3_hold_72 : decode cX3_hold 72 = .ok (.istore 4, 2) := dk_54 4 (dk_at dksX3_hold_3 4 rfl rfl)
theorem dX3_hold_74 : decode cX3_hold 74 = .ok (.iload 4, 2) := dk_21 4 (dk_at dksX3_hold_3 6 rfl rfl)
theorem dX3_hold_76 : decode cX3_hold 76 = .ok (.iconst (-1), 1) := dk_2 (dk_at dksX3_hold_3 8 rfl rfl)
theorem dX3_hold_77 : decode cX3_hold 77 = .ok (.if_icmp .eq 14, 3) := dk_159 0 14 (dk_at dksX3_hold_3 9 rfl rfl)
theorem dX3_hold_80 : decode cX3_hold 80 = .ok (.aload_n 0, 1) := dk_42 (dk_at dksX3_hold_3 12 rfl rfl)
theorem dX3_hold_81 : decode cX3_hold 81 = .ok (.getfield 39, 3) := dk_180 0 39 (dk_at dksX3_hold_3 13 rfl rfl)
theorem dX3_hold_84 : decode cX3_hold 84 = .ok (.iload 4, 2) := dk_21 4 (dk_at dksX3_hold_3 16 rfl rfl)
theorem dX3_hold_86 : decode cX3_hold 86 = .ok (.iaload, 1) := dk_46 (dk_at dksX3_hold_3 18 rfl rfl)
theorem dX3_hold_87 : decode cX3_hold 87 = .ok (.iload_n 3, 1) := dk_29 (dk_at dksX3_hold_3 19 rfl rfl)
theorem dX3_hold_88 : decode cX3_hold 88 = .ok (.if_icmp .lt 5, 3) := dk_161 0 5 (dk_at dksX3_hold_3 20 rfl rfl)
theorem dX3_hold_91 : decode cX3_hold 91 = .ok (.iconst 0, 1) := dk_3 (dk_at dksX3_hold_3 23 rfl rfl)
theorem dX3_hold_92 : decode cX3_hold 92 = .ok (.ireturn, 1) := dk_172 (dk_at dksX3_hold_4 0 rfl rfl)
theorem dX3_hold_93 : decode cX3_hold 93 = .ok (.aload_n 0, 1) := dk_42 (dk_at dksX3_hold_4 1 rfl rfl)
theorem dX3_hold_94 : decode cX3_hold 94 = .ok (.getfield 45, 3) := dk_180 0 45 (dk_at dksX3_hold_4 2 rfl rfl)
theorem dX3_hold_97 : decode cX3_hold 97 = .ok (.iload 4, 2) := dk_21 4 (dk_at dksX3_hold_4 5 rfl rfl)
theorem dX3_hold_99 : decode cX3_hold 99 = .ok (.bipush 103, 2) := dk_16 103 (dk_at dksX3_hold_4 7 rfl rfl)
theorem dX3_hold_101 : decode cX3_hold 101 = .ok (.castore, 1) := dk_85 (dk_at dksX3_hold_4 9 rfl rfl)
theorem dX3_hold_102 : decode cX3_hold 102 = .ok (.iconst 1, 1) := dk_4 (dk_at dksX3_hold_4 10 rfl rfl)
theorem dX3_hold_103 : decode cX3_hold 103 = .ok (.ireturn, 1) := dk_172 (dk_at dksX3_hold_4 11 rfl rfl)
abbrev cX3_appointmentIn : ByteArray := prog_9_method_33_code
def yX3_appointmentIn : MethodName := ⟨RX3, "appointmentIn", "(I)I"⟩
def dkwX3_appointmentIn_1 : List UInt8 := [28, 52, 16, 98, 160, 0, 5, 28, 172, 132, 2, 1, 167, 255, 222, 2, 172]
abbrev dktX3_appointmentIn_1 : List UInt8 := dkwX3_appointmentIn_1 ++ []
def dkwX3_appointmentIn_0 : List UInt8 := [3, 61, 28, 42, 180, 0, 123, 162, 0, 32, 42, 180, 0, 36, 28, 46, 27, 160, 0, 16, 42, 180, 0, 45]
abbrev dktX3_appointmentIn_0 : List UInt8 := dkwX3_appointmentIn_0 ++ dktX3_appointmentIn_1
theorem dksX3_appointmentIn_0 : cX3_appointmentIn.data.toList.drop 0 = dktX3_appointmentIn_0 := by decide +kernel
theorem dksX3_appointmentIn_1 : cX3_appointmentIn.data.toList.drop 24 = dktX3_appointmentIn_1 := dk_seg dksX3_appointmentIn_0 24 rfl rfl
theorem dX3_appointmentIn_0 : decode cX3_appointmentIn 0 = .ok (.iconst 0, 1) := dk_3 (dk_at dksX3_appointmentIn_0 0 rfl rfl)
theorem dX3_appointmentIn_1 : decode cX3_appointmentIn 1 = .ok (.istore_n 2, 1) := dk_61 (dk_at dksX3_appointmentIn_0 1 rfl rfl)
theorem dX3_appointmentIn_2 : decode cX3_appointmentIn 2 = .ok (.iload_n 2, 1) := dk_28 (dk_at dksX3_appointmentIn_0 2 rfl rfl)
theorem dX3_appointmentIn_3 : decode cX3_appointmentIn 3 = .ok (.aload_n 0, 1) := dk_42 (dk_at dksX3_appointmentIn_0 3 rfl rfl)
theorem dX3_appointmentIn_4 : decode cX3_appointmentIn 4 = .ok (.getfield 123, 3) := dk_180 0 123 (dk_at dksX3_appointmentIn_0 4 rfl rfl)
theorem dX3_appointmentIn_7 : decode cX3_appointmentIn 7 = .ok (.if_icmp .ge 32, 3) := dk_162 0 32 (dk_at dksX3_appointmentIn_0 7 rfl rfl)
theorem dX3_appointmentIn_10 : decode cX3_appointmentIn 10 = .ok (.aload_n 0, 1) := dk_42 (dk_at dksX3_appointmentIn_0 10 rfl rfl)
theorem dX3_appointmentIn_11 : decode cX3_appointmentIn 11 = .ok (.getfield 36, 3) := dk_180 0 36 (dk_at dksX3_appointmentIn_0 11 rfl rfl)
theorem dX3_appointmentIn_14 : decode cX3_appointmentIn 14 = .ok (.iload_n 2, 1) := dk_28 (dk_at dksX3_appointmentIn_0 14 rfl rfl)
theorem dX3_appointmentIn_15 : decode cX3_appointmentIn 15 = .ok (.iaload, 1) := dk_46 (dk_at dksX3_appointmentIn_0 15 rfl rfl)
theorem dX3_appointmentIn_16 : decode cX3_appointmentIn 16 = .ok (.iload_n 1, 1) := dk_27 (dk_at dksX3_appointmentIn_0 16 rfl rfl)
theorem dX3_appointmentIn_17 : decode cX3_appointmentIn 17 = .ok (.if_icmp .ne 16, 3) := dk_160 0 16 (dk_at dksX3_appointmentIn_0 17 rfl rfl)
theorem dX3_appointmentIn_20 : decode cX3_appointmentIn 20 = .ok (.aload_n 0, 1) := dk_42 (dk_at dksX3_appointmentIn_0 20 rfl rfl)
theorem dX3_appointmentIn_21 : decode cX3_appointmentIn 21 = .ok (.getfield 45, 3) := dk_180 0 45 (dk_at dksX3_appointmentIn_0 21 rfl rfl)
theorem dX3_appointmentIn_24 : decode cX3_appointmentIn 24 = .ok (.iload_n 2, 1) := dk_28 (dk_at dksX3_appointmentIn_1 0 rfl rfl)
theorem dX3_appointmentIn_25 : decode cX3_appointmentIn 25 = .ok (.caload, 1) := dk_52 (dk_at dksX3_appointmentIn_1 1 rfl rfl)
theorem dX3_appointmentIn_26 : decode cX3_appointmentIn 26 = .ok (.bipush 98, 2) := dk_16 98 (dk_at dksX3_appointmentIn_1 2 rfl rfl)
theorem dX3_appointmentIn_28 : decode cX3_appointmentIn 28 = .ok (.if_icmp .ne 5, 3) := dk_160 0 5 (dk_at dksX3_appointmentIn_1 4 rfl rfl)
theorem dX3_appointmentIn_31 : decode cX3_appointmentIn 31 = .ok (.iload_n 2, 1) := dk_28 (dk_at dksX3_appointmentIn_1 7 rfl rfl)
theorem dX3_appointmentIn_32 : decode cX3_appointmentIn 32 = .ok (.ireturn, 1) := dk_172 (dk_at dksX3_appointmentIn_1 8 rfl rfl)
theorem dX3_appointmentIn_33 : decode cX3_appointmentIn 33 = .ok (.iinc 2 1, 3) := dk_132 2 1 (dk_at dksX3_appointmentIn_1 9 rfl rfl)
theorem dX3_appointmentIn_36 : decode cX3_appointmentIn 36 = .ok (.goto (-34), 3) := dk_167 255 222 (dk_at dksX3_appointmentIn_1 12 rfl rfl)
theorem dX3_appointmentIn_39 : decode cX3_appointmentIn 39 = .ok (.iconst (-1), 1) := dk_2 (dk_at dksX3_appointmentIn_1 15 rfl rfl)
theorem dX3_appointmentIn_40 : decode cX3_appointmentIn 40 = .ok (.ireturn, 1) := dk_172 (dk_at dksX3_appointmentIn_1 16 rfl rfl)
abbrev cX3_release : ByteArray := prog_9_method_35_code
def yX3_release : MethodName := ⟨RX3, "release", "(I)I"⟩
def dkwX3_release_2 : List UInt8 := [27, 46, 172]
abbrev dktX3_release_2 : List UInt8 := dkwX3_release_2 ++ []
def dkwX3_release_1 : List UInt8 := [52, 16, 45, 160, 0, 9, 42, 5, 182, 0, 110, 172, 42, 180, 0, 20, 27, 16, 45, 85, 42, 180, 0, 24]
abbrev dktX3_release_1 : List UInt8 := dkwX3_release_1 ++ dktX3_release_2
def dkwX3_release_0 : List UInt8 := [42, 3, 181, 0, 48, 42, 27, 182, 0, 120, 154, 0, 9, 42, 4, 182, 0, 110, 172, 42, 180, 0, 20, 27]
abbrev dktX3_release_0 : List UInt8 := dkwX3_release_0 ++ dktX3_release_1
theorem dksX3_release_0 : cX3_release.data.toList.drop 0 = dktX3_release_0 := by decide +kernel
theorem dksX3_release_1 : cX3_release.data.toList.drop 24 = dktX3_release_1 := dk_seg dksX3_release_0 24 rfl rfl
theorem dksX3_release_2 : cX3_release.data.toList.drop 48 = dktX3_release_2 := dk_seg dksX3_release_1 24 rfl rfl
theorem dX3_release_0 : decode cX3_release 0 = .ok (.aload_n 0, 1) := dk_42 (dk_at dksX3_release_0 0 rfl rfl)
theorem dX3_release_1 : decode cX3_release 1 = .ok (.iconst 0, 1) := dk_3 (dk_at dksX3_release_0 1 rfl rfl)
theorem dX3_release_2 : decode cX3_release 2 = .ok (.putfield 48, 3) := dk_181 0 48 (dk_at dksX3_release_0 2 rfl rfl)
theorem dX3_release_5 : decode cX3_release 5 = .ok (.aload_n 0, 1) := dk_42 (dk_at dksX3_release_0 5 rfl rfl)
theorem dX3_release_6 : decode cX3_release 6 = .ok (.iload_n 1, 1) := dk_27 (dk_at dksX3_release_0 6 rfl rfl)
theorem dX3_release_7 : decode cX3_release 7 = .ok (.invokevirtual 120, 3) := dk_182 0 120 (dk_at dksX3_release_0 7 rfl rfl)
theorem dX3_release_10 : decode cX3_release 10 = .ok (.ifCond .ne 9, 3) := dk_154 0 9 (dk_at dksX3_release_0 10 rfl rfl)
theorem dX3_release_13 : decode cX3_release 13 = .ok (.aload_n 0, 1) := dk_42 (dk_at dksX3_release_0 13 rfl rfl)
theorem dX3_release_14 : decode cX3_release 14 = .ok (.iconst 1, 1) := dk_4 (dk_at dksX3_release_0 14 rfl rfl)
theorem dX3_release_15 : decode cX3_release 15 = .ok (.invokevirtual 110, 3) := dk_182 0 110 (dk_at dksX3_release_0 15 rfl rfl)
theorem dX3_release_18 : decode cX3_release 18 = .ok (.ireturn, 1) := dk_172 (dk_at dksX3_release_0 18 rfl rfl)
theorem dX3_release_19 : decode cX3_release 19 = .ok (.aload_n 0, 1) := dk_42 (dk_at dksX3_release_0 19 rfl rfl)
theorem dX3_release_20 : decode cX3_release 20 = .ok (.getfield 20, 3) := dk_180 0 20 (dk_at dksX3_release_0 20 rfl rfl)
theorem dX3_release_23 : decode cX3_release 23 = .ok (.iload_n 1, 1) := dk_27 (dk_at dksX3_release_0 23 rfl rfl)
theorem dX3_release_24 : decode cX3_release 24 = .ok (.caload, 1) := dk_52 (dk_at dksX3_release_1 0 rfl rfl)
theorem dX3_release_25 : decode cX3_release 25 = .ok (.bipush 45, 2) := dk_16 45 (dk_at dksX3_release_1 1 rfl rfl)
theorem dX3_release_27 : decode cX3_release 27 = .ok (.if_icmp .ne 9, 3) := dk_160 0 9 (dk_at dksX3_release_1 3 rfl rfl)
theorem dX3_release_30 : decode cX3_release 30 = .ok (.aload_n 0, 1) := dk_42 (dk_at dksX3_release_1 6 rfl rfl)
theorem dX3_release_31 : decode cX3_release 31 = .ok (.iconst 2, 1) := dk_5 (dk_at dksX3_release_1 7 rfl rfl)
theorem dX3_release_32 : decode cX3_release 32 = .ok (.invokevirtual 110, 3) := dk_182 0 110 (dk_at dksX3_release_1 8 rfl rfl)
theorem dX3_release_35 : decode cX3_release 35 = .ok (.ireturn, 1) := dk_172 (dk_at dksX3_release_1 11 rfl rfl)
theorem dX3_release_36 : decode cX3_release 36 = .ok (.aload_n 0, 1) := dk_42 (dk_at dksX3_release_1 12 rfl rfl)
theorem dX3_release_37 : decode cX3_release 37 = .ok (.getfield 20, 3) := dk_180 0 20 (dk_at dksX3_release_1 13 rfl rfl)
theorem dX3_release_40 : decode cX3_release 40 = .ok (.iload_n 1, 1) := dk_27 (dk_at dksX3_release_1 16 rfl rfl)
theorem dX3_release_41 : decode cX3_release 41 = .ok (.bipush 45, 2) := dk_16 45 (dk_at dksX3_release_1 17 rfl rfl)
theorem dX3_release_43 : decode cX3_release 43 = .ok (.castore, 1) := dk_85 (dk_at dksX3_release_1 19 rfl rfl)
theorem dX3_release_44 : decode cX3_release 44 = .ok (.aload_n 0, 1) := dk_42 (dk_at dksX3_release_1 20 rfl rfl)
theorem dX3_release_45 : decode cX3_release 45 = .ok (.getfield 24, 3) := dk_180 0 24 (dk_at dksX3_release_1 21 rfl rfl)
theorem dX3_release_48 : decode cX3_release 48 = .ok (.iload_n 1, 1) := dk_27 (dk_at dksX3_release_2 0 rfl rfl)
theorem dX3_release_49 : decode cX3_release 49 = .ok (.iaload, 1) := dk_46 (dk_at dksX3_release_2 1 rfl rfl)
theorem dX3_release_50 : decode cX3_release 50 = .ok (.ireturn, 1) := dk_172 (dk_at dksX3_release_2 2 rfl rfl)
abbrev cX3_holdOf : ByteArray := prog_9_method_36_code
def yX3_holdOf : MethodName := ⟨RX3, "holdOf", "(I)C"⟩
def dkwX3_holdOf_1 : List UInt8 := [3, 167, 0, 9, 42, 180, 0, 20, 27, 52, 172]
abbrev dktX3_holdOf_1 : List UInt8 := dkwX3_holdOf_1 ++ []
def dkwX3_holdOf_0 : List UInt8 := [42, 42, 27, 182, 0, 120, 153, 0, 7, 3, 167, 0, 4, 4, 181, 0, 48, 42, 180, 0, 48, 158, 0, 7]
abbrev dktX3_holdOf_0 : List UInt8 := dkwX3_holdOf_0 ++ dktX3_holdOf_1
theorem dksX3_holdOf_0 : cX3_holdOf.data.toList.drop 0 = dktX3_holdOf_0 := by decide +kernel
theorem dksX3_holdOf_1 : cX3_holdOf.data.toList.drop 24 = dktX3_holdOf_1 := dk_seg dksX3_holdOf_0 24 rfl rfl
theorem dX3_holdOf_0 : decode cX3_holdOf 0 = .ok (.aload_n 0, 1) := dk_42 (dk_at dksX3_holdOf_0 0 rfl rfl)
theorem dX3_holdOf_1 : decode cX3_holdOf 1 = .ok (.aload_n 0, 1) := dk_42 (dk_at dksX3_holdOf_0 1 rfl rfl)
theorem dX3_holdOf_2 : decode cX3_holdOf 2 = .ok (.iload_n 1, 1) := dk_27 (dk_at dksX3_holdOf_0 2 rfl rfl)
theorem dX3_holdOf_3 : decode cX3_holdOf 3 = .ok (.invokevirtual 120, 3) := dk_182 0 120 (dk_at dksX3_holdOf_0 3 rfl rfl)
theorem dX3_holdOf_6 : decode cX3_holdOf 6 = .ok (.ifCond .eq 7, 3) := dk_153 0 7 (dk_at dksX3_holdOf_0 6 rfl rfl)
theorem dX3_holdOf_9 : decode cX3_holdOf 9 = .ok (.iconst 0, 1) := dk_3 (dk_at dksX3_holdOf_0 9 rfl rfl)
theorem dX3_holdOf_10 : decode cX3_holdOf 10 = .ok (.goto 4, 3) := dk_167 0 4 (dk_at dksX3_holdOf_0 10 rfl rfl)
theorem dX3_holdOf_13 : decode cX3_holdOf 13 = .ok (.iconst 1, 1) := dk_4 (dk_at dksX3_holdOf_0 13 rfl rfl)
theorem dX3_holdOf_14 : decode cX3_holdOf 14 = .ok (.putfield 48, 3) := dk_181 0 48 (dk_at dksX3_holdOf_0 14 rfl rfl)
theorem dX3_holdOf_17 : decode cX3_holdOf 17 = .ok (.aload_n 0, 1) := dk_42 (dk_at dksX3_holdOf_0 17 rfl rfl)
theorem dX3_holdOf_18 : decode cX3_holdOf 18 = .ok (.getfield 48, 3) := dk_180 0 48 (dk_at dksX3_holdOf_0 18 rfl rfl)
theorem dX3_holdOf_21 : decode cX3_holdOf 21 = .ok (.ifCond .le 7, 3) := dk_158 0 7 (dk_at dksX3_holdOf_0 21 rfl rfl)
theorem dX3_holdOf_24 : decode cX3_holdOf 24 = .ok (.iconst 0, 1) := dk_3 (dk_at dksX3_holdOf_1 0 rfl rfl)
theorem dX3_holdOf_25 : decode cX3_holdOf 25 = .ok (.goto 9, 3) := dk_167 0 9 (dk_at dksX3_holdOf_1 1 rfl rfl)
theorem dX3_holdOf_28 : decode cX3_holdOf 28 = .ok (.aload_n 0, 1) := dk_42 (dk_at dksX3_holdOf_1 4 rfl rfl)
theorem dX3_holdOf_29 : decode cX3_holdOf 29 = .ok (.getfield 20, 3) := dk_180 0 20 (dk_at dksX3_holdOf_1 5 rfl rfl)
theorem dX3_holdOf_32 : decode cX3_holdOf 32 = .ok (.iload_n 1, 1) := dk_27 (dk_at dksX3_holdOf_1 8 rfl rfl)
theorem dX3_holdOf_33 : decode cX3_holdOf 33 = .ok (.caload, 1) := dk_52 (dk_at dksX3_holdOf_1 9 rfl rfl)
theorem dX3_holdOf_34 : decode cX3_holdOf 34 = .ok (.ireturn, 1) := dk_172 (dk_at dksX3_holdOf_1 10 rfl rfl)
abbrev cX3_heldUntil : ByteArray := prog_9_method_37_code
def yX3_heldUntil : MethodName := ⟨RX3, "heldUntil", "(I)I"⟩
def dkwX3_heldUntil_1 : List UInt8 := [52, 16, 45, 160, 0, 11, 42, 5, 182, 0, 110, 167, 0, 9, 42, 180, 0, 24, 27, 46, 172]
abbrev dktX3_heldUntil_1 : List UInt8 := dkwX3_heldUntil_1 ++ []
def dkwX3_heldUntil_0 : List UInt8 := [42, 3, 181, 0, 48, 42, 27, 182, 0, 120, 154, 0, 9, 42, 4, 182, 0, 110, 172, 42, 180, 0, 20, 27]
abbrev dktX3_heldUntil_0 : List UInt8 := dkwX3_heldUntil_0 ++ dktX3_heldUntil_1
theorem dksX3_heldUntil_0 : cX3_heldUntil.data.toList.drop 0 = dktX3_heldUntil_0 := by decide +kernel
theorem dksX3_heldUntil_1 : cX3_heldUntil.data.toList.drop 24 = dktX3_heldUntil_1 := dk_seg dksX3_heldUntil_0 24 rfl rfl
theorem dX3_heldUntil_0 : decode cX3_heldUntil 0 = .ok (.aload_n 0, 1) := dk_42 (dk_at dksX3_heldUntil_0 0 rfl rfl)
theorem dX3_heldUntil_1 : decode cX3_heldUntil 1 = .ok (.iconst 0, 1) := dk_3 (dk_at dksX3_heldUntil_0 1 rfl rfl)
theorem dX3_heldUntil_2 : decode cX3_heldUntil 2 = .ok (.putfield 48, 3) := dk_181 0 48 (dk_at dksX3_heldUntil_0 2 rfl rfl)
theorem dX3_heldUntil_5 : decode cX3_heldUntil 5 = .ok (.aload_n 0, 1) := dk_42 (dk_at dksX3_heldUntil_0 5 rfl rfl)
theorem dX3_heldUntil_6 : decode cX3_heldUntil 6 = .ok (.iload_n 1, 1) := dk_27 (dk_at dksX3_heldUntil_0 6 rfl rfl)
theorem dX3_heldUntil_7 : decode cX3_heldUntil 7 = .ok (.invokevirtual 120, 3) := dk_182 0 120 (dk_at dksX3_heldUntil_0 7 rfl rfl)
theorem dX3_heldUntil_10 : decode cX3_heldUntil 10 = .ok (.ifCond .ne 9, 3) := dk_154 0 9 (dk_at dksX3_heldUntil_0 10 rfl rfl)
theorem dX3_heldUntil_13 : decode cX3_heldUntil 13 = .ok (.aload_n 0, 1) := dk_42 (dk_at dksX3_heldUntil_0 13 rfl rfl)
theorem dX3_heldUntil_14 : decode cX3_heldUntil 14 = .ok (.iconst 1, 1) := dk_4 (dk_at dksX3_heldUntil_0 14 rfl rfl)
theorem dX3_heldUntil_15 : decode cX3_heldUntil 15 = .ok (.invokevirtual 110, 3) := dk_182 0 110 (dk_at dksX3_heldUntil_0 15 rfl rfl)
theorem dX3_heldUntil_18 : decode cX3_heldUntil 18 = .ok (.ireturn, 1) := dk_172 (dk_at dksX3_heldUntil_0 18 rfl rfl)
theorem dX3_heldUntil_19 : decode cX3_heldUntil 19 = .ok (.aload_n 0, 1) := dk_42 (dk_at dksX3_heldUntil_0 19 rfl rfl)
theorem dX3_heldUntil_20 : decode cX3_heldUntil 20 = .ok (.getfield 20, 3) := dk_180 0 20 (dk_at dksX3_heldUntil_0 20 rfl rfl)
theorem dX3_heldUntil_23 : decode cX3_heldUntil 23 = .ok (.iload_n 1, 1) := dk_27 (dk_at dksX3_heldUntil_0 23 rfl rfl)
theorem dX3_heldUntil_24 : decode cX3_heldUntil 24 = .ok (.caload, 1) := dk_52 (dk_at dksX3_heldUntil_1 0 rfl rfl)
theorem dX3_heldUntil_25 : decode cX3_heldUntil 25 = .ok (.bipush 45, 2) := dk_16 45 (dk_at dksX3_heldUntil_1 1 rfl rfl)
theorem dX3_heldUntil_27 : decode cX3_heldUntil 27 = .ok (.if_icmp .ne 11, 3) := dk_160 0 11 (dk_at dksX3_heldUntil_1 3 rfl rfl)
theorem dX3_heldUntil_30 : decode cX3_heldUntil 30 = .ok (.aload_n 0, 1) := dk_42 (dk_at dksX3_heldUntil_1 6 rfl rfl)
theorem dX3_heldUntil_31 : decode cX3_heldUntil 31 = .ok (.iconst 2, 1) := dk_5 (dk_at dksX3_heldUntil_1 7 rfl rfl)
theorem dX3_heldUntil_32 : decode cX3_heldUntil 32 = .ok (.invokevirtual 110, 3) := dk_182 0 110 (dk_at dksX3_heldUntil_1 8 rfl rfl)
theorem dX3_heldUntil_35 : decode cX3_heldUntil 35 = .ok (.goto 9, 3) := dk_167 0 9 (dk_at dksX3_heldUntil_1 11 rfl rfl)
theorem dX3_heldUntil_38 : decode cX3_heldUntil 38 = .ok (.aload_n 0, 1) := dk_42 (dk_at dksX3_heldUntil_1 14 rfl rfl)
theorem dX3_heldUntil_39 : decode cX3_heldUntil 39 = .ok (.getfield 24, 3) := dk_180 0 24 (dk_at dksX3_heldUntil_1 15 rfl rfl)
theorem dX3_heldUntil_42 : decode cX3_heldUntil 42 = .ok (.iload_n 1, 1) := dk_27 (dk_at dksX3_heldUntil_1 18 rfl rfl)
theorem dX3_heldUntil_43 : decode cX3_heldUntil 43 = .ok (.iaload, 1) := dk_46 (dk_at dksX3_heldUntil_1 19 rfl rfl)
theorem dX3_heldUntil_44 : decode cX3_heldUntil 44 = .ok (.ireturn, 1) := dk_172 (dk_at dksX3_heldUntil_1 20 rfl rfl)
abbrev cX3_pinnedAbove : ByteArray := prog_9_method_38_code
def yX3_pinnedAbove : MethodName := ⟨RX3, "pinnedAbove", "(I)I"⟩
def dkwX3_pinnedAbove_3 : List UInt8 := [167, 0, 4, 3, 96, 62, 132, 4, 1, 167, 255, 216, 29, 172]
abbrev dktX3_pinnedAbove_3 : List UInt8 := dkwX3_pinnedAbove_3 ++ []
def dkwX3_pinnedAbove_2 : List UInt8 := [162, 0, 35, 29, 42, 42, 180, 0, 30, 7, 28, 104, 21, 4, 96, 46, 182, 0, 73, 153, 0, 7, 4]
abbrev dktX3_pinnedAbove_2 : List UInt8 := dkwX3_pinnedAbove_2 ++ dktX3_pinnedAbove_3
def dkwX3_pinnedAbove_1 : List UInt8 := [182, 0, 62, 61, 3, 62, 42, 3, 27, 182, 0, 98, 4, 96, 54, 4, 21, 4, 42, 180, 0, 27, 28, 46]
abbrev dktX3_pinnedAbove_1 : List UInt8 := dkwX3_pinnedAbove_1 ++ dktX3_pinnedAbove_2
def dkwX3_pinnedAbove_0 : List UInt8 := [42, 3, 181, 0, 48, 42, 27, 182, 0, 120, 154, 0, 9, 42, 4, 182, 0, 110, 172, 42, 3, 27]
abbrev dktX3_pinnedAbove_0 : List UInt8 := dkwX3_pinnedAbove_0 ++ dktX3_pinnedAbove_1
theorem dksX3_pinnedAbove_0 : cX3_pinnedAbove.data.toList.drop 0 = dktX3_pinnedAbove_0 := by decide +kernel
theorem dksX3_pinnedAbove_1 : cX3_pinnedAbove.data.toList.drop 22 = dktX3_pinnedAbove_1 := dk_seg dksX3_pinnedAbove_0 22 rfl rfl
theorem dksX3_pinnedAbove_2 : cX3_pinnedAbove.data.toList.drop 46 = dktX3_pinnedAbove_2 := dk_seg dksX3_pinnedAbove_1 24 rfl rfl
theorem dksX3_pinnedAbove_3 : cX3_pinnedAbove.data.toList.drop 69 = dktX3_pinnedAbove_3 := dk_seg dksX3_pinnedAbove_2 23 rfl rfl
theorem dX3_pinnedAbove_0 : decode cX3_pinnedAbove 0 = .ok (.aload_n 0, 1) := dk_42 (dk_at dksX3_pinnedAbove_0 0 rfl rfl)
theorem dX3_pinnedAbove_1 : decode cX3_pinnedAbove 1 = .ok (.iconst 0, 1) := dk_3 (dk_at dksX3_pinnedAbove_0 1 rfl rfl)
theorem dX3_pinnedAbove_2 : decode cX3_pinnedAbove 2 = .ok (.putfield 48, 3) := dk_181 0 48 (dk_at dksX3_pinnedAbove_0 2 rfl rfl)
theorem dX3_pinnedAbove_5 : decode cX3_pinnedAbove 5 = .ok (.aload_n 0, 1) := dk_42 (dk_at dksX3_pinnedAbove_0 5 rfl rfl)
theorem dX3_pinnedAbove_6 : decode cX3_pinnedAbove 6 = .ok (.iload_n 1, 1) := dk_27 (dk_at dksX3_pinnedAbove_0 6 rfl rfl)
theorem dX3_pinnedAbove_7 : decode cX3_pinnedAbove 7 = .ok (.invokevirtual 120, 3) := dk_182 0 120 (dk_at dksX3_pinnedAbove_0 7 rfl rfl)
theorem dX3_pinnedAbove_10 : decode cX3_pinnedAbove 10 = .ok (.ifCond .ne 9, 3) := dk_154 0 9 (dk_at dksX3_pinnedAbove_0 10 rfl rfl)
theorem dX3_pinnedAbove_13 : decode cX3_pinnedAbove 13 = .ok (.aload_n 0, 1) := dk_42 (dk_at dksX3_pinnedAbove_0 13 rfl rfl)
theorem dX3_pinnedAbove_14 : decode cX3_pinnedAbove 14 = .ok (.iconst 1, 1) := dk_4 (dk_at dksX3_pinnedAbove_0 14 rfl rfl)
theorem dX3_pinnedAbove_15 : decode cX3_pinnedAbove 15 = .ok (.invokevirtual 110, 3) := dk_182 0 110 (dk_at dksX3_pinnedAbove_0 15 rfl rfl)
theorem dX3_pinnedAbove_18 : decode cX3_pinnedAbove 18 = .ok (.ireturn, 1) := dk_172 (dk_at dksX3_pinnedAbove_0 18 rfl rfl)
theorem dX3_pinnedAbove_19 : decode cX3_pinnedAbove 19 = .ok (.aload_n 0, 1) := dk_42 (dk_at dksX3_pinnedAbove_0 19 rfl rfl)
theorem dX3_pinnedAbove_20 : decode cX3_pinnedAbove 20 = .ok (.iconst 0, 1) := dk_3 (dk_at dksX3_pinnedAbove_0 20 rfl rfl)
theorem dX3_pinnedAbove_21 : decode cX3_pinnedAbove 21 = .ok (.iload_n 1, 1) := dk_27 (dk_at dksX3_pinnedAbove_0 21 rfl rfl)
theorem dX3_pinnedAbove_22 : decode cX3_pinnedAbove 22 = .ok (.invokevirtual 62, 3) := dk_182 0 62 (dk_at dksX3_pinnedAbove_1 0 rfl rfl)
theorem dX3_pinnedAbove_25 : decode cX3_pinnedAbove 25 = .ok (.istore_n 2, 1) := dk_61 (dk_at dksX3_pinnedAbove_1 3 rfl rfl)
theorem dX3_pinnedAbove_26 : decode cX3_pinnedAbove 26 = .ok (.iconst 0, 1) := dk_3 (dk_at dksX3_pinnedAbove_1 4 rfl rfl)
theorem dX3_pinnedAbove_27 : decode cX3_pinnedAbove 27 = .ok (.istore_n 3, 1) := dk_62 (dk_at dksX3_pinnedAbove_1 5 rfl rfl)
theorem dX3_pinnedAbove_28 : decode cX3_pinnedAbove 28 = .ok (.aload_n 0, 1) := dk_42 (dk_at dksX3_pinnedAbove_1 6 rfl rfl)
theorem dX3_pinnedAbove_29 : decode cX3_pinnedAbove 29 = .ok (.iconst 0, 1) := dk_3 (dk_at dksX3_pinnedAbove_1 7 rfl rfl)
theorem dX3_pinnedAbove_30 : decode cX3_pinnedAbove 30 = .ok (.iload_n 1, 1) := dk_27 (dk_at dksX3_pinnedAbove_1 8 rfl rfl)
theorem dX3_pinnedAbove_31 : decode cX3_pinnedAbove 31 = .ok (.invokevirtual 98, 3) := dk_182 0 98 (dk_at dksX3_pinnedAbove_1 9 rfl rfl)
theorem dX3_pinnedAbove_34 : decode cX3_pinnedAbove 34 = .ok (.iconst 1, 1) := dk_4 (dk_at dksX3_pinnedAbove_1 12 rfl rfl)
theorem dX3_pinnedAbove_35 : decode cX3_pinnedAbove 35 = .ok (.iadd, 1) := dk_96 (dk_at dksX3_pinnedAbove_1 13 rfl rfl)
theorem dX3_pinnedAbove_36 : decode cX3_pinnedAbove 36 = .ok (.istore 4, 2) := dk_54 4 (dk_at dksX3_pinnedAbove_1 14 rfl rfl)
theorem dX3_pinnedAbove_38 : decode cX3_pinnedAbove 38 = .ok (.iload 4, 2) := dk_21 4 (dk_at dksX3_pinnedAbove_1 16 rfl rfl)
theorem dX3_pinnedAbove_40 : decode cX3_pinnedAbove 40 = .ok (.aload_n 0, 1) := dk_42 (dk_at dksX3_pinnedAbove_1 18 rfl rfl)
theorem dX3_pinnedAbove_41 : decode cX3_pinnedAbove 41 = .ok (.getfield 27, 3) := dk_180 0 27 (dk_at dksX3_pinnedAbove_1 19 rfl rfl)
theorem dX3_pinnedAbove_44 : decode cX3_pinnedAbove 44 = .ok (.iload_n 2, 1) := dk_28 (dk_at dksX3_pinnedAbove_1 22 rfl rfl)
theorem dX3_pinnedAbove_45 : decode cX3_pinnedAbove 45 = .ok (.iaload, 1) := dk_46 (dk_at dksX3_pinnedAbove_1 23 rfl rfl)
theorem dX3_pinnedAbove_46 : decode cX3_pinnedAbove 46 = .ok (.if_icmp .ge 35, 3) := dk_162 0 35 (dk_at dksX3_pinnedAbove_2 0 rfl rfl)
theorem dX3_pinnedAbove_49 : decode cX3_pinnedAbove 49 = .ok (.iload_n 3, 1) := dk_29 (dk_at dksX3_pinnedAbove_2 3 rfl rfl)
theorem dX3_pinnedAbove_50 : decode cX3_pinnedAbove 50 = .ok (.aload_n 0, 1) := dk_42 (dk_at dksX3_pinnedAbove_2 4 rfl rfl)
theorem dX3_pinnedAbove_51 : decode cX3_pinnedAbove 51 = .ok (.aload_n 0, 1) := dk_42 (dk_at dksX3_pinnedAbove_2 5 rfl rfl)
theorem dX3_pinnedAbove_52 : decode cX3_pinnedAbove 52 = .ok (.getfield 30, 3) := dk_180 0 30 (dk_at dksX3_pinnedAbove_2 6 rfl rfl)
theorem dX3_pinnedAbove_55 : decode cX3_pinnedAbove 55 = .ok (.iconst 4, 1) := dk_7 (dk_at dksX3_pinnedAbove_2 9 rfl rfl)
theorem dX3_pinnedAbove_56 : decode cX3_pinnedAbove 56 = .ok (.iload_n 2, 1) := dk_28 (dk_at dksX3_pinnedAbove_2 10 rfl rfl)
theorem dX3_pinnedAbove_57 : decode cX3_pinnedAbove 57 = .ok (.imul, 1) := dk_104 (dk_at dksX3_pinnedAbove_2 11 rfl rfl)
theorem dX3_pinnedAbove_58 : decode cX3_pinnedAbove 58 = .ok (.iload 4, 2) := dk_21 4 (dk_at dksX3_pinnedAbove_2 12 rfl rfl)
theorem dX3_pinnedAbove_60 : decode cX3_pinnedAbove 60 = .ok (.iadd, 1) := dk_96 (dk_at dksX3_pinnedAbove_2 14 rfl rfl)
theorem dX3_pinnedAbove_61 : decode cX3_pinnedAbove 61 = .ok (.iaload, 1) := dk_46 (dk_at dksX3_pinnedAbove_2 15 rfl rfl)
theorem dX3_pinnedAbove_62 : decode cX3_pinnedAbove 62 = .ok (.invokevirtual 73, 3) := dk_182 0 73 (dk_at dksX3_pinnedAbove_2 16 rfl rfl)
theorem dX3_pinnedAbove_65 : decode cX3_pinnedAbove 65 = .ok (.ifCond .eq 7, 3) := dk_153 0 7 (dk_at dksX3_pinnedAbove_2 19 rfl rfl)
theorem dX3_pinnedAbove_68 : decode cX3_pinnedAbove 68 = .ok (.iconst 1, 1) := dk_4 (dk_at dksX3_pinnedAbove_2 22 rfl rfl)
theorem dX3_pinnedAbove_69 : decode cX3_pinnedAbove 69 = .ok (.goto 4, 3) := dk_167 0 4 (dk_at dksX3_pinnedAbove_3 0 rfl rfl)
theorem dX3_pinnedAbove_72 : decode cX3_pinnedAbove 72 = .ok (.iconst 0, 1) := dk_3 (dk_at dksX3_pinnedAbove_3 3 rfl rfl)
theorem dX3_pinnedAbove_73 : decode cX3_pinnedAbove 73 = .ok (.iadd, 1) := dk_96 (dk_at dksX3_pinnedAbove_3 4 rfl rfl)
theorem dX3_pinnedAbove_74 : decode cX3_pinnedAbove 74 = .ok (.istore_n 3, 1) := dk_62 (dk_at dksX3_pinnedAbove_3 5 rfl rfl)
theorem dX3_pinnedAbove_75 : decode cX3_pinnedAbove 75 = .ok (.iinc 4 1, 3) := dk_132 4 1 (dk_at dksX3_pinnedAbove_3 6 rfl rfl)
theorem dX3_pinnedAbove_78 : decode cX3_pinnedAbove 78 = .ok (.goto (-40), 3) := dk_167 255 216 (dk_at dksX3_pinnedAbove_3 9 rfl rfl)
theorem dX3_pinnedAbove_81 : decode cX3_pinnedAbove 81 = .ok (.iload_n 3, 1) := dk_29 (dk_at dksX3_pinnedAbove_3 12 rfl rfl)
theorem dX3_pinnedAbove_82 : decode cX3_pinnedAbove 82 = .ok (.ireturn, 1) := dk_172 (dk_at dksX3_pinnedAbove_3 13 rfl rfl)
abbrev cX3_isPinned : ByteArray := prog_9_method_7_code
def yX3_isPinned : MethodName := ⟨RX3, "isPinned", "(I)Z"⟩
def dkwX3_isPinned_0 : List UInt8 := [42, 180, 0, 20, 27, 52, 16, 112, 160, 0, 7, 4, 167, 0, 4, 3, 172]
abbrev dktX3_isPinned_0 : List UInt8 := dkwX3_isPinned_0 ++ []
theorem dksX3_isPinned_0 : cX3_isPinned.data.toList.drop 0 = dktX3_isPinned_0 := by decide +kernel
theorem dX3_isPinned_0 : decode cX3_isPinned 0 = .ok (.aload_n 0, 1) := dk_42 (dk_at dksX3_isPinned_0 0 rfl rfl)
theorem dX3_isPinned_1 : decode cX3_isPinned 1 = .ok (.getfield 20, 3) := dk_180 0 20 (dk_at dksX3_isPinned_0 1 rfl rfl)
theorem dX3_isPinned_4 : decode cX3_isPinned 4 = .ok (.iload_n 1, 1) := dk_27 (dk_at dksX3_isPinned_0 4 rfl rfl)
theorem dX3_isPinned_5 : decode cX3_isPinned 5 = .ok (.caload, 1) := dk_52 (dk_at dksX3_isPinned_0 5 rfl rfl)
theorem dX3_isPinned_6 : decode cX3_isPinned 6 = .ok (.bipush 112, 2) := dk_16 112 (dk_at dksX3_isPinned_0 6 rfl rfl)
theorem dX3_isPinned_8 : decode cX3_isPinned 8 = .ok (.if_icmp .ne 7, 3) := dk_160 0 7 (dk_at dksX3_isPinned_0 8 rfl rfl)
theorem dX3_isPinned_11 : decode cX3_isPinned 11 = .ok (.iconst 1, 1) := dk_4 (dk_at dksX3_isPinned_0 11 rfl rfl)
theorem dX3_isPinned_12 : decode cX3_isPinned 12 = .ok (.goto 4, 3) := dk_167 0 4 (dk_at dksX3_isPinned_0 12 rfl rfl)
theorem dX3_isPinned_15 : decode cX3_isPinned 15 = .ok (.iconst 0, 1) := dk_3 (dk_at dksX3_isPinned_0 15 rfl rfl)
theorem dX3_isPinned_16 : decode cX3_isPinned 16 = .ok (.ireturn, 1) := dk_172 (dk_at dksX3_isPinned_0 16 rfl rfl)
abbrev cX3_why : ByteArray := prog_9_method_39_code
def yX3_why : MethodName := ⟨RX3, "why", "(II)C"⟩
def dkwX3_why_5 : List UInt8 := [153, 0, 8, 16, 45, 167, 0, 5, 16, 119, 172]
abbrev dktX3_why_5 : List UInt8 := dkwX3_why_5 ++ []
def dkwX3_why_4 : List UInt8 := [167, 0, 34, 29, 153, 0, 8, 16, 102, 167, 0, 25, 42, 3, 28, 42, 180, 0, 13, 27, 46, 182, 0, 77]
abbrev dktX3_why_4 : List UInt8 := dkwX3_why_4 ++ dktX3_why_5
def dkwX3_why_3 : List UInt8 := [27, 182, 0, 73, 153, 0, 8, 16, 112, 167, 0, 49, 42, 3, 27, 182, 0, 62, 28, 160, 0, 8, 16, 115]
abbrev dktX3_why_3 : List UInt8 := dkwX3_why_3 ++ dktX3_why_4
def dkwX3_why_2 : List UInt8 := [160, 0, 7, 4, 167, 0, 4, 3, 62, 42, 3, 27, 182, 0, 69, 154, 0, 8, 16, 116, 167, 0, 62, 42]
abbrev dktX3_why_2 : List UInt8 := dkwX3_why_2 ++ dktX3_why_3
def dkwX3_why_1 : List UInt8 := [181, 0, 48, 42, 180, 0, 48, 158, 0, 5, 3, 172, 42, 180, 0, 27, 28, 46, 42, 180, 0, 7, 28, 46]
abbrev dktX3_why_1 : List UInt8 := dkwX3_why_1 ++ dktX3_why_2
def dkwX3_why_0 : List UInt8 := [42, 42, 27, 182, 0, 120, 153, 0, 15, 42, 28, 182, 0, 113, 153, 0, 7, 3, 167, 0, 4, 4]
abbrev dktX3_why_0 : List UInt8 := dkwX3_why_0 ++ dktX3_why_1
theorem dksX3_why_0 : cX3_why.data.toList.drop 0 = dktX3_why_0 := by decide +kernel
theorem dksX3_why_1 : cX3_why.data.toList.drop 22 = dktX3_why_1 := dk_seg dksX3_why_0 22 rfl rfl
theorem dksX3_why_2 : cX3_why.data.toList.drop 46 = dktX3_why_2 := dk_seg dksX3_why_1 24 rfl rfl
theorem dksX3_why_3 : cX3_why.data.toList.drop 70 = dktX3_why_3 := dk_seg dksX3_why_2 24 rfl rfl
theorem dksX3_why_4 : cX3_why.data.toList.drop 94 = dktX3_why_4 := dk_seg dksX3_why_3 24 rfl rfl
theorem dksX3_why_5 : cX3_why.data.toList.drop 118 = dktX3_why_5 := dk_seg dksX3_why_4 24 rfl rfl
theorem dX3_why_0 : decode cX3_why 0 = .ok (.aload_n 0, 1) := dk_42 (dk_at dksX3_why_0 0 rfl rfl)
theorem dX3_why_1 : decode cX3_why 1 = .ok (.aload_n 0, 1) := dk_42 (dk_at dksX3_why_0 1 rfl rfl)
theorem dX3_why_2 : decode cX3_why 2 = .ok (.iload_n 1, 1) := dk_27 (dk_at dksX3_why_0 2 rfl rfl)
theorem dX3_why_3 : decode cX3_why 3 = .ok (.invokevirtual 120, 3) := dk_182 0 120 (dk_at dksX3_why_0 3 rfl rfl)
theorem dX3_why_6 : decode cX3_why 6 = .ok (.ifCond .eq 15, 3) := dk_153 0 15 (dk_at dksX3_why_0 6 rfl rfl)
theorem dX3_why_9 : decode cX3_why 9 = .ok (.aload_n 0, 1) := dk_42 (dk_at dksX3_why_0 9 rfl rfl)
theorem dX3_why_10 : decode cX3_why 10 = .ok (.iload_n 2, 1) := dk_28 (dk_at dksX3_why_0 10 rfl rfl)
theorem dX3_why_11 : decode cX3_why 11 = .ok (.invokevirtual 113, 3) := dk_182 0 113 (dk_at dksX3_why_0 11 rfl rfl)
theorem dX3_why_14 : decode cX3_why 14 = .ok (.ifCond .eq 7, 3) := dk_153 0 7 (dk_at dksX3_why_0 14 rfl rfl)
theorem dX3_why_17 : decode cX3_why 17 = .ok (.iconst 0, 1) := dk_3 (dk_at dksX3_why_0 17 rfl rfl)
theorem dX3_why_18 : decode cX3_why 18 = .ok (.goto 4, 3) := dk_167 0 4 (dk_at dksX3_why_0 18 rfl rfl)
theorem dX3_why_21 : decode cX3_why 21 = .ok (.iconst 1, 1) := dk_4 (dk_at dksX3_why_0 21 rfl rfl)
theorem dX3_why_22 : decode cX3_why 22 = .ok (.putfield 48, 3) := dk_181 0 48 (dk_at dksX3_why_1 0 rfl rfl)
theorem dX3_why_25 : decode cX3_why 25 = .ok (.aload_n 0, 1) := dk_42 (dk_at dksX3_why_1 3 rfl rfl)
theorem dX3_why_26 : decode cX3_why 26 = .ok (.getfield 48, 3) := dk_180 0 48 (dk_at dksX3_why_1 4 rfl rfl)
theorem dX3_why_29 : decode cX3_why 29 = .ok (.ifCond .le 5, 3) := dk_158 0 5 (dk_at dksX3_why_1 7 rfl rfl)
theorem dX3_why_32 : decode cX3_why 32 = .ok (.iconst 0, 1) := dk_3 (dk_at dksX3_why_1 10 rfl rfl)
theorem dX3_why_33 : decode cX3_why 33 = .ok (.ireturn, 1) := dk_172 (dk_at dksX3_why_1 11 rfl rfl)
theorem dX3_why_34 : decode cX3_why 34 = .ok (.aload_n 0, 1) := dk_42 (dk_at dksX3_why_1 12 rfl rfl)
theorem dX3_why_35 : decode cX3_why 35 = .ok (.getfield 27, 3) := dk_180 0 27 (dk_at dksX3_why_1 13 rfl rfl)
theorem dX3_why_38 : decode cX3_why 38 = .ok (.iload_n 2, 1) := dk_28 (dk_at dksX3_why_1 16 rfl rfl)
theorem dX3_why_39 : decode cX3_why 39 = .ok (.iaload, 1) := dk_46 (dk_at dksX3_why_1 17 rfl rfl)
theorem dX3_why_40 : decode cX3_why 40 = .ok (.aload_n 0, 1) := dk_42 (dk_at dksX3_why_1 18 rfl rfl)
theorem dX3_why_41 : decode cX3_why 41 = .ok (.getfield 7, 3) := dk_180 0 7 (dk_at dksX3_why_1 19 rfl rfl)
theorem dX3_why_44 : decode cX3_why 44 = .ok (.iload_n 2, 1) := dk_28 (dk_at dksX3_why_1 22 rfl rfl)
theorem dX3_why_45 : decode cX3_why 45 = .ok (.iaload, 1) := dk_46 (dk_at dksX3_why_1 23 rfl rfl)
theorem dX3_why_46 : decode cX3_why 46 = .ok (.if_icmp .ne 7, 3) := dk_160 0 7 (dk_at dksX3_why_2 0 rfl rfl)
theorem dX3_why_49 : decode cX3_why 49 = .ok (.iconst 1, 1) := dk_4 (dk_at dksX3_why_2 3 rfl rfl)
theorem dX3_why_50 : decode cX3_why 50 = .ok (.goto 4, 3) := dk_167 0 4 (dk_at dksX3_why_2 4 rfl rfl)
theorem dX3_why_53 : decode cX3_why 53 = .ok (.iconst 0, 1) := dk_3 (dk_at dksX3_why_2 7 rfl rfl)
theorem dX3_why_54 : decode cX3_why 54 = .ok (.istore_n 3, 1) := dk_62 (dk_at dksX3_why_2 8 rfl rfl)
theorem dX3_why_55 : decode cX3_why 55 = .ok (.aload_n 0, 1) := dk_42 (dk_at dksX3_why_2 9 rfl rfl)
theorem dX3_why_56 : decode cX3_why 56 = .ok (.iconst 0, 1) := dk_3 (dk_at dksX3_why_2 10 rfl rfl)
theorem dX3_why_57 : decode cX3_why 57 = .ok (.iload_n 1, 1) := dk_27 (dk_at dksX3_why_2 11 rfl rfl)
theorem dX3_why_58 : decode cX3_why 58 = .ok (.invokevirtual 69, 3) := dk_182 0 69 (dk_at dksX3_why_2 12 rfl rfl)
theorem dX3_why_61 : decode cX3_why 61 = .ok (.ifCond .ne 8, 3) := dk_154 0 8 (dk_at dksX3_why_2 15 rfl rfl)
theorem dX3_why_64 : decode cX3_why 64 = .ok (.bipush 116, 2) := dk_16 116 (dk_at dksX3_why_2 18 rfl rfl)
theorem dX3_why_66 : decode cX3_why 66 = .ok (.goto 62, 3) := dk_167 0 62 (dk_at dksX3_why_2 20 rfl rfl)
theorem dX3_why_69 : decode cX3_why 69 = .ok (.aload_n 0, 1) := dk_42 (dk_at dksX3_why_2 23 rfl rfl)
theorem dX3_why_70 : decode cX3_why 70 = .ok (.iload_n 1, 1) := dk_27 (dk_at dksX3_why_3 0 rfl rfl)
theorem dX3_why_71 : decode cX3_why 71 = .ok (.invokevirtual 73, 3) := dk_182 0 73 (dk_at dksX3_why_3 1 rfl rfl)
theorem dX3_why_74 : decode cX3_why 74 = .ok (.ifCond .eq 8, 3) := dk_153 0 8 (dk_at dksX3_why_3 4 rfl rfl)
theorem dX3_why_77 : decode cX3_why 77 = .ok (.bipush 112, 2) := dk_16 112 (dk_at dksX3_why_3 7 rfl rfl)
theorem dX3_why_79 : decode cX3_why 79 = .ok (.goto 49, 3) := dk_167 0 49 (dk_at dksX3_why_3 9 rfl rfl)
theorem dX3_why_82 : decode cX3_why 82 = .ok (.aload_n 0, 1) := dk_42 (dk_at dksX3_why_3 12 rfl rfl)
theorem dX3_why_83 : decode cX3_why 83 = .ok (.iconst 0, 1) := dk_3 (dk_at dksX3_why_3 13 rfl rfl)
theorem dX3_why_84 : decode cX3_why 84 = .ok (.iload_n 1, 1) := dk_27 (dk_at dksX3_why_3 14 rfl rfl)
theorem dX3_why_85 : decode cX3_why 85 = .ok (.invokevirtual 62, 3) := dk_182 0 62 (dk_at dksX3_why_3 15 rfl rfl)
theorem dX3_why_88 : decode cX3_why 88 = .ok (.iload_n 2, 1) := dk_28 (dk_at dksX3_why_3 18 rfl rfl)
theorem dX3_why_89 : decode cX3_why 89 = .ok (.if_icmp .ne 8, 3) := dk_160 0 8 (dk_at dksX3_why_3 19 rfl rfl)
theorem dX3_why_92 : decode cX3_why 92 = .ok (.bipush 115, 2) := dk_16 115 (dk_at dksX3_why_3 22 rfl rfl)
theorem dX3_why_94 : decode cX3_why 94 = .ok (.goto 34, 3) := dk_167 0 34 (dk_at dksX3_why_4 0 rfl rfl)
theorem dX3_why_97 : decode cX3_why 97 = .ok (.iload_n 3, 1) := dk_29 (dk_at dksX3_why_4 3 rfl rfl)
theorem dX3_why_98 : decode cX3_why 98 = .ok (.ifCond .eq 8, 3) := dk_153 0 8 (dk_at dksX3_why_4 4 rfl rfl)
theorem dX3_why_101 : decode cX3_why 101 = .ok (.bipush 102, 2) := dk_16 102 (dk_at dksX3_why_4 7 rfl rfl)
theorem dX3_why_103 : decode cX3_why 103 = .ok (.goto 25, 3) := dk_167 0 25 (dk_at dksX3_why_4 9 rfl rfl)
theorem dX3_why_106 : decode cX3_why 106 = .ok (.aload_n 0, 1) := dk_42 (dk_at dksX3_why_4 12 rfl rfl)
theorem dX3_why_107 : decode cX3_why 107 = .ok (.iconst 0, 1) := dk_3 (dk_at dksX3_why_4 13 rfl rfl)
theorem dX3_why_108 : decode cX3_why 108 = .ok (.iload_n 2, 1) := dk_28 (dk_at dksX3_why_4 14 rfl rfl)
theorem dX3_why_109 : decode cX3_why 109 = .ok (.aload_n 0, 1) := dk_42 (dk_at dksX3_why_4 15 rfl rfl)
theorem dX3_why_110 : decode cX3_why 110 = .ok (.getfield 13, 3) := dk_180 0 13 (dk_at dksX3_why_4 16 rfl rfl)
theorem dX3_why_113 : decode cX3_why 113 = .ok (.iload_n 1, 1) := dk_27 (dk_at dksX3_why_4 19 rfl rfl)
theorem dX3_why_114 : decode cX3_why 114 = .ok (.iaload, 1) := dk_46 (dk_at dksX3_why_4 20 rfl rfl)
theorem dX3_why_115 : decode cX3_why 115 = .ok (.invokevirtual 77, 3) := dk_182 0 77 (dk_at dksX3_why_4 21 rfl rfl)
theorem dX3_why_118 : decode cX3_why 118 = .ok (.ifCond .eq 8, 3) := dk_153 0 8 (dk_at dksX3_why_5 0 rfl rfl)
theorem dX3_why_121 : decode cX3_why 121 = .ok (.bipush 45, 2) := dk_16 45 (dk_at dksX3_why_5 3 rfl rfl)
theorem dX3_why_123 : decode cX3_why 123 = .ok (.goto 5, 3) := dk_167 0 5 (dk_at dksX3_why_5 5 rfl rfl)
theorem dX3_why_126 : decode cX3_why 126 = .ok (.bipush 119, 2) := dk_16 119 (dk_at dksX3_why_5 8 rfl rfl)
theorem dX3_why_128 : decode cX3_why 128 = .ok (.ireturn, 1) := dk_172 (dk_at dksX3_why_5 10 rfl rfl)
abbrev cX3_isTop : ByteArray := prog_9_method_11_code
def yX3_isTop : MethodName := ⟨RX3, "isTop", "(II)Z"⟩
def dkwX3_isTop_0 : List UInt8 := [42, 27, 42, 27, 28, 182, 0, 62, 182, 0, 66, 28, 160, 0, 7, 4, 167, 0, 4, 3, 172]
abbrev dktX3_isTop_0 : List UInt8 := dkwX3_isTop_0 ++ []
theorem dksX3_isTop_0 : cX3_isTop.data.toList.drop 0 = dktX3_isTop_0 := by decide +kernel
theorem dX3_isTop_0 : decode cX3_isTop 0 = .ok (.aload_n 0, 1) := dk_42 (dk_at dksX3_isTop_0 0 rfl rfl)
theorem dX3_isTop_1 : decode cX3_isTop 1 = .ok (.iload_n 1, 1) := dk_27 (dk_at dksX3_isTop_0 1 rfl rfl)
theorem dX3_isTop_2 : decode cX3_isTop 2 = .ok (.aload_n 0, 1) := dk_42 (dk_at dksX3_isTop_0 2 rfl rfl)
theorem dX3_isTop_3 : decode cX3_isTop 3 = .ok (.iload_n 1, 1) := dk_27 (dk_at dksX3_isTop_0 3 rfl rfl)
theorem dX3_isTop_4 : decode cX3_isTop 4 = .ok (.iload_n 2, 1) := dk_28 (dk_at dksX3_isTop_0 4 rfl rfl)
theorem dX3_isTop_5 : decode cX3_isTop 5 = .ok (.invokevirtual 62, 3) := dk_182 0 62 (dk_at dksX3_isTop_0 5 rfl rfl)
theorem dX3_isTop_8 : decode cX3_isTop 8 = .ok (.invokevirtual 66, 3) := dk_182 0 66 (dk_at dksX3_isTop_0 8 rfl rfl)
theorem dX3_isTop_11 : decode cX3_isTop 11 = .ok (.iload_n 2, 1) := dk_28 (dk_at dksX3_isTop_0 11 rfl rfl)
theorem dX3_isTop_12 : decode cX3_isTop 12 = .ok (.if_icmp .ne 7, 3) := dk_160 0 7 (dk_at dksX3_isTop_0 12 rfl rfl)
theorem dX3_isTop_15 : decode cX3_isTop 15 = .ok (.iconst 1, 1) := dk_4 (dk_at dksX3_isTop_0 15 rfl rfl)
theorem dX3_isTop_16 : decode cX3_isTop 16 = .ok (.goto 4, 3) := dk_167 0 4 (dk_at dksX3_isTop_0 16 rfl rfl)
theorem dX3_isTop_19 : decode cX3_isTop 19 = .ok (.iconst 0, 1) := dk_3 (dk_at dksX3_isTop_0 19 rfl rfl)
theorem dX3_isTop_20 : decode cX3_isTop 20 = .ok (.ireturn, 1) := dk_172 (dk_at dksX3_isTop_0 20 rfl rfl)
abbrev cX3_move : ByteArray := prog_9_method_40_code
def yX3_move : MethodName := ⟨RX3, "move", "(II)I"⟩
def dkwX3_move_2 : List UInt8 := [182, 0, 95, 42, 89, 180, 0, 108, 4, 96, 181, 0, 108, 42, 180, 0, 108, 172]
abbrev dktX3_move_2 : List UInt8 := dkwX3_move_2 ++ []
def dkwX3_move_1 : List UInt8 := [182, 0, 110, 172, 42, 3, 27, 28, 182, 0, 84, 154, 0, 9, 42, 5, 182, 0, 110, 172, 42, 3, 27, 28]
abbrev dktX3_move_1 : List UInt8 := dkwX3_move_1 ++ dktX3_move_2
def dkwX3_move_0 : List UInt8 := [42, 3, 181, 0, 48, 42, 27, 182, 0, 120, 153, 0, 11, 42, 28, 182, 0, 113, 154, 0, 9, 42, 4]
abbrev dktX3_move_0 : List UInt8 := dkwX3_move_0 ++ dktX3_move_1
theorem dksX3_move_0 : cX3_move.data.toList.drop 0 = dktX3_move_0 := by decide +kernel
theorem dksX3_move_1 : cX3_move.data.toList.drop 23 = dktX3_move_1 := dk_seg dksX3_move_0 23 rfl rfl
theorem dksX3_move_2 : cX3_move.data.toList.drop 47 = dktX3_move_2 := dk_seg dksX3_move_1 24 rfl rfl
theorem dX3_move_0 : decode cX3_move 0 = .ok (.aload_n 0, 1) := dk_42 (dk_at dksX3_move_0 0 rfl rfl)
theorem dX3_move_1 : decode cX3_move 1 = .ok (.iconst 0, 1) := dk_3 (dk_at dksX3_move_0 1 rfl rfl)
theorem dX3_move_2 : decode cX3_move 2 = .ok (.putfield 48, 3) := dk_181 0 48 (dk_at dksX3_move_0 2 rfl rfl)
theorem dX3_move_5 : decode cX3_move 5 = .ok (.aload_n 0, 1) := dk_42 (dk_at dksX3_move_0 5 rfl rfl)
theorem dX3_move_6 : decode cX3_move 6 = .ok (.iload_n 1, 1) := dk_27 (dk_at dksX3_move_0 6 rfl rfl)
theorem dX3_move_7 : decode cX3_move 7 = .ok (.invokevirtual 120, 3) := dk_182 0 120 (dk_at dksX3_move_0 7 rfl rfl)
theorem dX3_move_10 : decode cX3_move 10 = .ok (.ifCond .eq 11, 3) := dk_153 0 11 (dk_at dksX3_move_0 10 rfl rfl)
theorem dX3_move_13 : decode cX3_move 13 = .ok (.aload_n 0, 1) := dk_42 (dk_at dksX3_move_0 13 rfl rfl)
theorem dX3_move_14 : decode cX3_move 14 = .ok (.iload_n 2, 1) := dk_28 (dk_at dksX3_move_0 14 rfl rfl)
theorem dX3_move_15 : decode cX3_move 15 = .ok (.invokevirtual 113, 3) := dk_182 0 113 (dk_at dksX3_move_0 15 rfl rfl)
theorem dX3_move_18 : decode cX3_move 18 = .ok (.ifCond .ne 9, 3) := dk_154 0 9 (dk_at dksX3_move_0 18 rfl rfl)
theorem dX3_move_21 : decode cX3_move 21 = .ok (.aload_n 0, 1) := dk_42 (dk_at dksX3_move_0 21 rfl rfl)
theorem dX3_move_22 : decode cX3_move 22 = .ok (.iconst 1, 1) := dk_4 (dk_at dksX3_move_0 22 rfl rfl)
theorem dX3_move_23 : decode cX3_move 23 = .ok (.invokevirtual 110, 3) := dk_182 0 110 (dk_at dksX3_move_1 0 rfl rfl)
theorem dX3_move_26 : decode cX3_move 26 = .ok (.ireturn, 1) := dk_172 (dk_at dksX3_move_1 3 rfl rfl)
theorem dX3_move_27 : decode cX3_move 27 = .ok (.aload_n 0, 1) := dk_42 (dk_at dksX3_move_1 4 rfl rfl)
theorem dX3_move_28 : decode cX3_move 28 = .ok (.iconst 0, 1) := dk_3 (dk_at dksX3_move_1 5 rfl rfl)
theorem dX3_move_29 : decode cX3_move 29 = .ok (.iload_n 1, 1) := dk_27 (dk_at dksX3_move_1 6 rfl rfl)
theorem dX3_move_30 : decode cX3_move 30 = .ok (.iload_n 2, 1) := dk_28 (dk_at dksX3_move_1 7 rfl rfl)
theorem dX3_move_31 : decode cX3_move 31 = .ok (.invokevirtual 84, 3) := dk_182 0 84 (dk_at dksX3_move_1 8 rfl rfl)
theorem dX3_move_34 : decode cX3_move 34 = .ok (.ifCond .ne 9, 3) := dk_154 0 9 (dk_at dksX3_move_1 11 rfl rfl)
theorem dX3_move_37 : decode cX3_move 37 = .ok (.aload_n 0, 1) := dk_42 (dk_at dksX3_move_1 14 rfl rfl)
theorem dX3_move_38 : decode cX3_move 38 = .ok (.iconst 2, 1) := dk_5 (dk_at dksX3_move_1 15 rfl rfl)
theorem dX3_move_39 : decode cX3_move 39 = .ok (.invokevirtual 110, 3) := dk_182 0 110 (dk_at dksX3_move_1 16 rfl rfl)
theorem dX3_move_42 : decode cX3_move 42 = .ok (.ireturn, 1) := dk_172 (dk_at dksX3_move_1 19 rfl rfl)
theorem dX3_move_43 : decode cX3_move 43 = .ok (.aload_n 0, 1) := dk_42 (dk_at dksX3_move_1 20 rfl rfl)
theorem dX3_move_44 : decode cX3_move 44 = .ok (.iconst 0, 1) := dk_3 (dk_at dksX3_move_1 21 rfl rfl)
theorem dX3_move_45 : decode cX3_move 45 = .ok (.iload_n 1, 1) := dk_27 (dk_at dksX3_move_1 22 rfl rfl)
theorem dX3_move_46 : decode cX3_move 46 = .ok (.iload_n 2, 1) := dk_28 (dk_at dksX3_move_1 23 rfl rfl)
theorem dX3_move_47 : decode cX3_move 47 = .ok (.invokevirtual 95, 3) := dk_182 0 95 (dk_at dksX3_move_2 0 rfl rfl)
theorem dX3_move_50 : decode cX3_move 50 = .ok (.aload_n 0, 1) := dk_42 (dk_at dksX3_move_2 3 rfl rfl)
theorem dX3_move_51 : decode cX3_move 51 = .ok (.dup, 1) := dk_89 (dk_at dksX3_move_2 4 rfl rfl)
theorem dX3_move_52 : decode cX3_move 52 = .ok (.getfield 108, 3) := dk_180 0 108 (dk_at dksX3_move_2 5 rfl rfl)
theorem dX3_move_55 : decode cX3_move 55 = .ok (.iconst 1, 1) := dk_4 (dk_at dksX3_move_2 8 rfl rfl)
theorem dX3_move_56 : decode cX3_move 56 = .ok (.iadd, 1) := dk_96 (dk_at dksX3_move_2 9 rfl rfl)
theorem dX3_move_57 : decode cX3_move 57 = .ok (.putfield 108, 3) := dk_181 0 108 (dk_at dksX3_move_2 10 rfl rfl)
theorem dX3_move_60 : decode cX3_move 60 = .ok (.aload_n 0, 1) := dk_42 (dk_at dksX3_move_2 13 rfl rfl)
theorem dX3_move_61 : decode cX3_move 61 = .ok (.getfield 108, 3) := dk_180 0 108 (dk_at dksX3_move_2 14 rfl rfl)
theorem dX3_move_64 : decode cX3_move 64 = .ok (.ireturn, 1) := dk_172 (dk_at dksX3_move_2 17 rfl rfl)
abbrev cX3_canMove : ByteArray := prog_9_method_14_code
def yX3_canMove : MethodName := ⟨RX3, "canMove", "(III)Z"⟩
def dkwX3_canMove_1 : List UInt8 := [159, 0, 22, 42, 27, 29, 42, 180, 0, 13, 28, 46, 182, 0, 77, 153, 0, 7, 4, 167, 0, 4, 3, 172]
abbrev dktX3_canMove_1 : List UInt8 := dkwX3_canMove_1 ++ []
def dkwX3_canMove_0 : List UInt8 := [42, 27, 28, 182, 0, 69, 153, 0, 40, 42, 28, 182, 0, 73, 154, 0, 32, 42, 27, 28, 182, 0, 62, 29]
abbrev dktX3_canMove_0 : List UInt8 := dkwX3_canMove_0 ++ dktX3_canMove_1
theorem dksX3_canMove_0 : cX3_canMove.data.toList.drop 0 = dktX3_canMove_0 := by decide +kernel
theorem dksX3_canMove_1 : cX3_canMove.data.toList.drop 24 = dktX3_canMove_1 := dk_seg dksX3_canMove_0 24 rfl rfl
theorem dX3_canMove_0 : decode cX3_canMove 0 = .ok (.aload_n 0, 1) := dk_42 (dk_at dksX3_canMove_0 0 rfl rfl)
theorem dX3_canMove_1 : decode cX3_canMove 1 = .ok (.iload_n 1, 1) := dk_27 (dk_at dksX3_canMove_0 1 rfl rfl)
theorem dX3_canMove_2 : decode cX3_canMove 2 = .ok (.iload_n 2, 1) := dk_28 (dk_at dksX3_canMove_0 2 rfl rfl)
theorem dX3_canMove_3 : decode cX3_canMove 3 = .ok (.invokevirtual 69, 3) := dk_182 0 69 (dk_at dksX3_canMove_0 3 rfl rfl)
theorem dX3_canMove_6 : decode cX3_canMove 6 = .ok (.ifCond .eq 40, 3) := dk_153 0 40 (dk_at dksX3_canMove_0 6 rfl rfl)
theorem dX3_canMove_9 : decode cX3_canMove 9 = .ok (.aload_n 0, 1) := dk_42 (dk_at dksX3_canMove_0 9 rfl rfl)
theorem dX3_canMove_10 : decode cX3_canMove 10 = .ok (.iload_n 2, 1) := dk_28 (dk_at dksX3_canMove_0 10 rfl rfl)
theorem dX3_canMove_11 : decode cX3_canMove 11 = .ok (.invokevirtual 73, 3) := dk_182 0 73 (dk_at dksX3_canMove_0 11 rfl rfl)
theorem dX3_canMove_14 : decode cX3_canMove 14 = .ok (.ifCond .ne 32, 3) := dk_154 0 32 (dk_at dksX3_canMove_0 14 rfl rfl)
theorem dX3_canMove_17 : decode cX3_canMove 17 = .ok (.aload_n 0, 1) := dk_42 (dk_at dksX3_canMove_0 17 rfl rfl)
theorem dX3_canMove_18 : decode cX3_canMove 18 = .ok (.iload_n 1, 1) := dk_27 (dk_at dksX3_canMove_0 18 rfl rfl)
theorem dX3_canMove_19 : decode cX3_canMove 19 = .ok (.iload_n 2, 1) := dk_28 (dk_at dksX3_canMove_0 19 rfl rfl)
theorem dX3_canMove_20 : decode cX3_canMove 20 = .ok (.invokevirtual 62, 3) := dk_182 0 62 (dk_at dksX3_canMove_0 20 rfl rfl)
theorem dX3_canMove_23 : decode cX3_canMove 23 = .ok (.iload_n 3, 1) := dk_29 (dk_at dksX3_canMove_0 23 rfl rfl)
theorem dX3_canMove_24 : decode cX3_canMove 24 = .ok (.if_icmp .eq 22, 3) := dk_159 0 22 (dk_at dksX3_canMove_1 0 rfl rfl)
theorem dX3_canMove_27 : decode cX3_canMove 27 = .ok (.aload_n 0, 1) := dk_42 (dk_at dksX3_canMove_1 3 rfl rfl)
theorem dX3_canMove_28 : decode cX3_canMove 28 = .ok (.iload_n 1, 1) := dk_27 (dk_at dksX3_canMove_1 4 rfl rfl)
theorem dX3_canMove_29 : decode cX3_canMove 29 = .ok (.iload_n 3, 1) := dk_29 (dk_at dksX3_canMove_1 5 rfl rfl)
theorem dX3_canMove_30 : decode cX3_canMove 30 = .ok (.aload_n 0, 1) := dk_42 (dk_at dksX3_canMove_1 6 rfl rfl)
theorem dX3_canMove_31 : decode cX3_canMove 31 = .ok (.getfield 13, 3) := dk_180 0 13 (dk_at dksX3_canMove_1 7 rfl rfl)
theorem dX3_canMove_34 : decode cX3_canMove 34 = .ok (.iload_n 2, 1) := dk_28 (dk_at dksX3_canMove_1 10 rfl rfl)
theorem dX3_canMove_35 : decode cX3_canMove 35 = .ok (.iaload, 1) := dk_46 (dk_at dksX3_canMove_1 11 rfl rfl)
theorem dX3_canMove_36 : decode cX3_canMove 36 = .ok (.invokevirtual 77, 3) := dk_182 0 77 (dk_at dksX3_canMove_1 12 rfl rfl)
theorem dX3_canMove_39 : decode cX3_canMove 39 = .ok (.ifCond .eq 7, 3) := dk_153 0 7 (dk_at dksX3_canMove_1 15 rfl rfl)
theorem dX3_canMove_42 : decode cX3_canMove 42 = .ok (.iconst 1, 1) := dk_4 (dk_at dksX3_canMove_1 18 rfl rfl)
theorem dX3_canMove_43 : decode cX3_canMove 43 = .ok (.goto 4, 3) := dk_167 0 4 (dk_at dksX3_canMove_1 19 rfl rfl)
theorem dX3_canMove_46 : decode cX3_canMove 46 = .ok (.iconst 0, 1) := dk_3 (dk_at dksX3_canMove_1 22 rfl rfl)
theorem dX3_canMove_47 : decode cX3_canMove 47 = .ok (.ireturn, 1) := dk_172 (dk_at dksX3_canMove_1 23 rfl rfl)
abbrev cX3_moves : ByteArray := prog_9_method_15_code
def yX3_moves : MethodName := ⟨RX3, "moves", "(III)V"⟩
def dkwX3_moves_1 : List UInt8 := [182, 0, 80, 177]
abbrev dktX3_moves_1 : List UInt8 := dkwX3_moves_1 ++ []
def dkwX3_moves_0 : List UInt8 := [42, 180, 0, 27, 7, 27, 104, 42, 27, 28, 182, 0, 62, 96, 92, 46, 4, 100, 79, 42, 27, 29, 28]
abbrev dktX3_moves_0 : List UInt8 := dkwX3_moves_0 ++ dktX3_moves_1
theorem dksX3_moves_0 : cX3_moves.data.toList.drop 0 = dktX3_moves_0 := by decide +kernel
theorem dksX3_moves_1 : cX3_moves.data.toList.drop 23 = dktX3_moves_1 := dk_seg dksX3_moves_0 23 rfl rfl
theorem dX3_moves_0 : decode cX3_moves 0 = .ok (.aload_n 0, 1) := dk_42 (dk_at dksX3_moves_0 0 rfl rfl)
theorem dX3_moves_1 : decode cX3_moves 1 = .ok (.getfield 27, 3) := dk_180 0 27 (dk_at dksX3_moves_0 1 rfl rfl)
theorem dX3_moves_4 : decode cX3_moves 4 = .ok (.iconst 4, 1) := dk_7 (dk_at dksX3_moves_0 4 rfl rfl)
theorem dX3_moves_5 : decode cX3_moves 5 = .ok (.iload_n 1, 1) := dk_27 (dk_at dksX3_moves_0 5 rfl rfl)
theorem dX3_moves_6 : decode cX3_moves 6 = .ok (.imul, 1) := dk_104 (dk_at dksX3_moves_0 6 rfl rfl)
theorem dX3_moves_7 : decode cX3_moves 7 = .ok (.aload_n 0, 1) := dk_42 (dk_at dksX3_moves_0 7 rfl rfl)
theorem dX3_moves_8 : decode cX3_moves 8 = .ok (.iload_n 1, 1) := dk_27 (dk_at dksX3_moves_0 8 rfl rfl)
theorem dX3_moves_9 : decode cX3_moves 9 = .ok (.iload_n 2, 1) := dk_28 (dk_at dksX3_moves_0 9 rfl rfl)
theorem dX3_moves_10 : decode cX3_moves 10 = .ok (.invokevirtual 62, 3) := dk_182 0 62 (dk_at dksX3_moves_0 10 rfl rfl)
theorem dX3_moves_13 : decode cX3_moves 13 = .ok (.iadd, 1) := dk_96 (dk_at dksX3_moves_0 13 rfl rfl)
theorem dX3_moves_14 : decode cX3_moves 14 = .ok (.dup2, 1) := dk_92 (dk_at dksX3_moves_0 14 rfl rfl)
theorem dX3_moves_15 : decode cX3_moves 15 = .ok (.iaload, 1) := dk_46 (dk_at dksX3_moves_0 15 rfl rfl)
theorem dX3_moves_16 : decode cX3_moves 16 = .ok (.iconst 1, 1) := dk_4 (dk_at dksX3_moves_0 16 rfl rfl)
theorem dX3_moves_17 : decode cX3_moves 17 = .ok (.isub, 1) := dk_100 (dk_at dksX3_moves_0 17 rfl rfl)
theorem dX3_moves_18 : decode cX3_moves 18 = .ok (.iastore, 1) := dk_79 (dk_at dksX3_moves_0 18 rfl rfl)
theorem dX3_moves_19 : decode cX3_moves 19 = .ok (.aload_n 0, 1) := dk_42 (dk_at dksX3_moves_0 19 rfl rfl)
theorem dX3_moves_20 : decode cX3_moves 20 = .ok (.iload_n 1, 1) := dk_27 (dk_at dksX3_moves_0 20 rfl rfl)
theorem dX3_moves_21 : decode cX3_moves 21 = .ok (.iload_n 3, 1) := dk_29 (dk_at dksX3_moves_0 21 rfl rfl)
theorem dX3_moves_22 : decode cX3_moves 22 = .ok (.iload_n 2, 1) := dk_28 (dk_at dksX3_moves_0 22 rfl rfl)
theorem dX3_moves_23 : decode cX3_moves 23 = .ok (.invokevirtual 80, 3) := dk_182 0 80 (dk_at dksX3_moves_1 0 rfl rfl)
theorem dX3_moves_26 : decode cX3_moves 26 = .ok (.return_, 1) := dk_177 (dk_at dksX3_moves_1 3 rfl rfl)
abbrev cX3_planLength : ByteArray := prog_9_method_42_code
def yX3_planLength : MethodName := ⟨RX3, "planLength", "(I)I"⟩
def dkwX3_planLength_0 : List UInt8 := [42, 27, 182, 0, 135, 172]
abbrev dktX3_planLength_0 : List UInt8 := dkwX3_planLength_0 ++ []
theorem dksX3_planLength_0 : cX3_planLength.data.toList.drop 0 = dktX3_planLength_0 := by decide +kernel
theorem dX3_planLength_0 : decode cX3_planLength 0 = .ok (.aload_n 0, 1) := dk_42 (dk_at dksX3_planLength_0 0 rfl rfl)
theorem dX3_planLength_1 : decode cX3_planLength 1 = .ok (.iload_n 1, 1) := dk_27 (dk_at dksX3_planLength_0 1 rfl rfl)
theorem dX3_planLength_2 : decode cX3_planLength 2 = .ok (.invokevirtual 135, 3) := dk_182 0 135 (dk_at dksX3_planLength_0 2 rfl rfl)
theorem dX3_planLength_5 : decode cX3_planLength 5 = .ok (.ireturn, 1) := dk_172 (dk_at dksX3_planLength_0 5 rfl rfl)
abbrev cX3_planned : ByteArray := prog_9_method_41_code
def yX3_planned : MethodName := ⟨RX3, "planned", "(I)I"⟩
def dkwX3_planned_2 : List UInt8 := [158, 0, 7, 3, 167, 0, 4, 28, 172]
abbrev dktX3_planned_2 : List UInt8 := dkwX3_planned_2 ++ []
def dkwX3_planned_1 : List UInt8 := [3, 167, 0, 8, 42, 27, 182, 0, 132, 61, 28, 2, 160, 0, 8, 42, 5, 181, 0, 48, 42, 180, 0, 48]
abbrev dktX3_planned_1 : List UInt8 := dkwX3_planned_1 ++ dktX3_planned_2
def dkwX3_planned_0 : List UInt8 := [42, 42, 27, 182, 0, 120, 153, 0, 7, 3, 167, 0, 4, 4, 181, 0, 48, 42, 180, 0, 48, 158, 0, 7]
abbrev dktX3_planned_0 : List UInt8 := dkwX3_planned_0 ++ dktX3_planned_1
theorem dksX3_planned_0 : cX3_planned.data.toList.drop 0 = dktX3_planned_0 := by decide +kernel
theorem dksX3_planned_1 : cX3_planned.data.toList.drop 24 = dktX3_planned_1 := dk_seg dksX3_planned_0 24 rfl rfl
theorem dksX3_planned_2 : cX3_planned.data.toList.drop 48 = dktX3_planned_2 := dk_seg dksX3_planned_1 24 rfl rfl
theorem dX3_planned_0 : decode cX3_planned 0 = .ok (.aload_n 0, 1) := dk_42 (dk_at dksX3_planned_0 0 rfl rfl)
theorem dX3_planned_1 : decode cX3_planned 1 = .ok (.aload_n 0, 1) := dk_42 (dk_at dksX3_planned_0 1 rfl rfl)
theorem dX3_planned_2 : decode cX3_planned 2 = .ok (.iload_n 1, 1) := dk_27 (dk_at dksX3_planned_0 2 rfl rfl)
theorem dX3_planned_3 : decode cX3_planned 3 = .ok (.invokevirtual 120, 3) := dk_182 0 120 (dk_at dksX3_planned_0 3 rfl rfl)
theorem dX3_planned_6 : decode cX3_planned 6 = .ok (.ifCond .eq 7, 3) := dk_153 0 7 (dk_at dksX3_planned_0 6 rfl rfl)
theorem dX3_planned_9 : decode cX3_planned 9 = .ok (.iconst 0, 1) := dk_3 (dk_at dksX3_planned_0 9 rfl rfl)
theorem dX3_planned_10 : decode cX3_planned 10 = .ok (.goto 4, 3) := dk_167 0 4 (dk_at dksX3_planned_0 10 rfl rfl)
theorem dX3_planned_13 : decode cX3_planned 13 = .ok (.iconst 1, 1) := dk_4 (dk_at dksX3_planned_0 13 rfl rfl)
theorem dX3_planned_14 : decode cX3_planned 14 = .ok (.putfield 48, 3) := dk_181 0 48 (dk_at dksX3_planned_0 14 rfl rfl)
theorem dX3_planned_17 : decode cX3_planned 17 = .ok (.aload_n 0, 1) := dk_42 (dk_at dksX3_planned_0 17 rfl rfl)
theorem dX3_planned_18 : decode cX3_planned 18 = .ok (.getfield 48, 3) := dk_180 0 48 (dk_at dksX3_planned_0 18 rfl rfl)
theorem dX3_planned_21 : decode cX3_planned 21 = .ok (.ifCond .le 7, 3) := dk_158 0 7 (dk_at dksX3_planned_0 21 rfl rfl)
theorem dX3_planned_24 : decode cX3_planned 24 = .ok (.iconst 0, 1) := dk_3 (dk_at dksX3_planned_1 0 rfl rfl)
theorem dX3_planned_25 : decode cX3_planned 25 = .ok (.goto 8, 3) := dk_167 0 8 (dk_at dksX3_planned_1 1 rfl rfl)
theorem dX3_planned_28 : decode cX3_planned 28 = .ok (.aload_n 0, 1) := dk_42 (dk_at dksX3_planned_1 4 rfl rfl)
theorem dX3_planned_29 : decode cX3_planned 29 = .ok (.iload_n 1, 1) := dk_27 (dk_at dksX3_planned_1 5 rfl rfl)
theorem dX3_planned_30 : decode cX3_planned 30 = .ok (.invokevirtual 132, 3) := dk_182 0 132 (dk_at dksX3_planned_1 6 rfl rfl)
theorem dX3_planned_33 : decode cX3_planned 33 = .ok (.istore_n 2, 1) := dk_61 (dk_at dksX3_planned_1 9 rfl rfl)
theorem dX3_planned_34 : decode cX3_planned 34 = .ok (.iload_n 2, 1) := dk_28 (dk_at dksX3_planned_1 10 rfl rfl)
theorem dX3_planned_35 : decode cX3_planned 35 = .ok (.iconst (-1), 1) := dk_2 (dk_at dksX3_planned_1 11 rfl rfl)
theorem dX3_planned_36 : decode cX3_planned 36 = .ok (.if_icmp .ne 8, 3) := dk_160 0 8 (dk_at dksX3_planned_1 12 rfl rfl)
theorem dX3_planned_39 : decode cX3_planned 39 = .ok (.aload_n 0, 1) := dk_42 (dk_at dksX3_planned_1 15 rfl rfl)
theorem dX3_planned_40 : decode cX3_planned 40 = .ok (.iconst 2, 1) := dk_5 (dk_at dksX3_planned_1 16 rfl rfl)
theorem dX3_planned_41 : decode cX3_planned 41 = .ok (.putfield 48, 3) := dk_181 0 48 (dk_at dksX3_planned_1 17 rfl rfl)
theorem dX3_planned_44 : decode cX3_planned 44 = .ok (.aload_n 0, 1) := dk_42 (dk_at dksX3_planned_1 20 rfl rfl)
theorem dX3_planned_45 : decode cX3_planned 45 = .ok (.getfield 48, 3) := dk_180 0 48 (dk_at dksX3_planned_1 21 rfl rfl)
theorem dX3_planned_48 : decode cX3_planned 48 = .ok (.ifCond .le 7, 3) := dk_158 0 7 (dk_at dksX3_planned_2 0 rfl rfl)
theorem dX3_planned_51 : decode cX3_planned 51 = .ok (.iconst 0, 1) := dk_3 (dk_at dksX3_planned_2 3 rfl rfl)
theorem dX3_planned_52 : decode cX3_planned 52 = .ok (.goto 4, 3) := dk_167 0 4 (dk_at dksX3_planned_2 4 rfl rfl)
theorem dX3_planned_55 : decode cX3_planned 55 = .ok (.iload_n 2, 1) := dk_28 (dk_at dksX3_planned_2 7 rfl rfl)
theorem dX3_planned_56 : decode cX3_planned 56 = .ok (.ireturn, 1) := dk_172 (dk_at dksX3_planned_2 8 rfl rfl)
abbrev cX3_plans : ByteArray := prog_9_method_20_code
def yX3_plans : MethodName := ⟨RX3, "plans", "(I)I"⟩
def dkwX3_plans_1 : List UInt8 := [132, 2, 1, 167, 255, 231, 2, 172]
abbrev dktX3_plans_1 : List UInt8 := dkwX3_plans_1 ++ []
def dkwX3_plans_0 : List UInt8 := [3, 61, 28, 42, 27, 182, 0, 101, 4, 96, 163, 0, 20, 42, 27, 28, 182, 0, 105, 153, 0, 5, 28, 172]
abbrev dktX3_plans_0 : List UInt8 := dkwX3_plans_0 ++ dktX3_plans_1
theorem dksX3_plans_0 : cX3_plans.data.toList.drop 0 = dktX3_plans_0 := by decide +kernel
theorem dksX3_plans_1 : cX3_plans.data.toList.drop 24 = dktX3_plans_1 := dk_seg dksX3_plans_0 24 rfl rfl
theorem dX3_plans_0 : decode cX3_plans 0 = .ok (.iconst 0, 1) := dk_3 (dk_at dksX3_plans_0 0 rfl rfl)
theorem dX3_plans_1 : decode cX3_plans 1 = .ok (.istore_n 2, 1) := dk_61 (dk_at dksX3_plans_0 1 rfl rfl)
theorem dX3_plans_2 : decode cX3_plans 2 = .ok (.iload_n 2, 1) := dk_28 (dk_at dksX3_plans_0 2 rfl rfl)
theorem dX3_plans_3 : decode cX3_plans 3 = .ok (.aload_n 0, 1) := dk_42 (dk_at dksX3_plans_0 3 rfl rfl)
theorem dX3_plans_4 : decode cX3_plans 4 = .ok (.iload_n 1, 1) := dk_27 (dk_at dksX3_plans_0 4 rfl rfl)
theorem dX3_plans_5 : decode cX3_plans 5 = .ok (.invokevirtual 101, 3) := dk_182 0 101 (dk_at dksX3_plans_0 5 rfl rfl)
theorem dX3_plans_8 : decode cX3_plans 8 = .ok (.iconst 1, 1) := dk_4 (dk_at dksX3_plans_0 8 rfl rfl)
theorem dX3_plans_9 : decode cX3_plans 9 = .ok (.iadd, 1) := dk_96 (dk_at dksX3_plans_0 9 rfl rfl)
theorem dX3_plans_10 : decode cX3_plans 10 = .ok (.if_icmp .gt 20, 3) := dk_163 0 20 (dk_at dksX3_plans_0 10 rfl rfl)
theorem dX3_plans_13 : decode cX3_plans 13 = .ok (.aload_n 0, 1) := dk_42 (dk_at dksX3_plans_0 13 rfl rfl)
theorem dX3_plans_14 : decode cX3_plans 14 = .ok (.iload_n 1, 1) := dk_27 (dk_at dksX3_plans_0 14 rfl rfl)
theorem dX3_plans_15 : decode cX3_plans 15 = .ok (.iload_n 2, 1) := dk_28 (dk_at dksX3_plans_0 15 rfl rfl)
theorem dX3_plans_16 : decode cX3_plans 16 = .ok (.invokevirtual 105, 3) := dk_182 0 105 (dk_at dksX3_plans_0 16 rfl rfl)
theorem dX3_plans_19 : decode cX3_plans 19 = .ok (.ifCond .eq 5, 3) := dk_153 0 5 (dk_at dksX3_plans_0 19 rfl rfl)
theorem dX3_plans_22 : decode cX3_plans 22 = .ok (.iload_n 2, 1) := dk_28 (dk_at dksX3_plans_0 22 rfl rfl)
theorem dX3_plans_23 : decode cX3_plans 23 = .ok (.ireturn, 1) := dk_172 (dk_at dksX3_plans_0 23 rfl rfl)
theorem dX3_plans_24 : decode cX3_plans 24 = .ok (.iinc 2 1, 3) := dk_132 2 1 (dk_at dksX3_plans_1 0 rfl rfl)
theorem dX3_plans_27 : decode cX3_plans 27 = .ok (.goto (-25), 3) := dk_167 255 231 (dk_at dksX3_plans_1 3 rfl rfl)
theorem dX3_plans_30 : decode cX3_plans 30 = .ok (.iconst (-1), 1) := dk_2 (dk_at dksX3_plans_1 6 rfl rfl)
theorem dX3_plans_31 : decode cX3_plans 31 = .ok (.ireturn, 1) := dk_172 (dk_at dksX3_plans_1 7 rfl rfl)
abbrev cX3_finds : ByteArray := prog_9_method_18_code
def yX3_finds : MethodName := ⟨RX3, "finds", "(II)Z"⟩
def dkwX3_finds_5 : List UInt8 := [3, 172]
abbrev dktX3_finds_5 : List UInt8 := dkwX3_finds_5 ++ []
def dkwX3_finds_4 : List UInt8 := [132, 3, 255, 29, 156, 0, 7, 3, 167, 0, 11, 42, 180, 0, 33, 29, 46, 4, 96, 54, 4, 167, 255, 148]
abbrev dktX3_finds_4 : List UInt8 := dkwX3_finds_4 ++ dktX3_finds_5
def dkwX3_finds_3 : List UInt8 := [29, 4, 96, 21, 5, 7, 108, 21, 5, 7, 112, 182, 0, 95, 132, 3, 1, 3, 54, 4, 167, 0, 24]
abbrev dktX3_finds_3 : List UInt8 := dkwX3_finds_3 ++ dktX3_finds_4
def dkwX3_finds_2 : List UInt8 := [21, 5, 16, 80, 162, 0, 43, 42, 180, 0, 33, 29, 21, 5, 79, 42, 29, 29, 4, 96, 182, 0, 91, 42]
abbrev dktX3_finds_2 : List UInt8 := dkwX3_finds_2 ++ dktX3_finds_3
def dkwX3_finds_1 : List UInt8 := [167, 0, 5, 16, 80, 54, 5, 29, 28, 160, 0, 14, 42, 29, 27, 182, 0, 69, 153, 0, 5, 4, 172]
abbrev dktX3_finds_1 : List UInt8 := dkwX3_finds_1 ++ dktX3_finds_2
def dkwX3_finds_0 : List UInt8 := [3, 62, 3, 54, 4, 29, 155, 0, 110, 29, 28, 162, 0, 14, 42, 29, 21, 4, 27, 182, 0, 87]
abbrev dktX3_finds_0 : List UInt8 := dkwX3_finds_0 ++ dktX3_finds_1
theorem dksX3_finds_0 : cX3_finds.data.toList.drop 0 = dktX3_finds_0 := by decide +kernel
theorem dksX3_finds_1 : cX3_finds.data.toList.drop 22 = dktX3_finds_1 := dk_seg dksX3_finds_0 22 rfl rfl
theorem dksX3_finds_2 : cX3_finds.data.toList.drop 45 = dktX3_finds_2 := dk_seg dksX3_finds_1 23 rfl rfl
theorem dksX3_finds_3 : cX3_finds.data.toList.drop 69 = dktX3_finds_3 := dk_seg dksX3_finds_2 24 rfl rfl
theorem dksX3_finds_4 : cX3_finds.data.toList.drop 92 = dktX3_finds_4 := dk_seg dksX3_finds_3 23 rfl rfl
theorem dksX3_finds_5 : cX3_finds.data.toList.drop 116 = dktX3_finds_5 := dk_seg dksX3_finds_4 24 rfl rfl
theorem dX3_finds_0 : decode cX3_finds 0 = .ok (.iconst 0, 1) := dk_3 (dk_at dksX3_finds_0 0 rfl rfl)
theorem dX3_finds_1 : decode cX3_finds 1 = .ok (.istore_n 3, 1) := dk_62 (dk_at dksX3_finds_0 1 rfl rfl)
theorem dX3_finds_2 : decode cX3_finds 2 = .ok (.iconst 0, 1) := dk_3 (dk_at dksX3_finds_0 2 rfl rfl)
theorem dX3_finds_3 : decode cX3_finds 3 = .ok (.istore 4, 2) := dk_54 4 (dk_at dksX3_finds_0 3 rfl rfl)
theorem dX3_finds_5 : decode cX3_finds 5 = .ok (.iload_n 3, 1) := dk_29 (dk_at dksX3_finds_0 5 rfl rfl)
theorem dX3_finds_6 : decode cX3_finds 6 = .ok (.ifCond .lt 110, 3) := dk_155 0 110 (dk_at dksX3_finds_0 6 rfl rfl)
theorem dX3_finds_9 : decode cX3_finds 9 = .ok (.iload_n 3, 1) := dk_29 (dk_at dksX3_finds_0 9 rfl rfl)
theorem dX3_finds_10 : decode cX3_finds 10 = .ok (.iload_n 2, 1) := dk_28 (dk_at dksX3_finds_0 10 rfl rfl)
theorem dX3_finds_11 : decode cX3_finds 11 = .ok (.if_icmp .ge 14, 3) := dk_162 0 14 (dk_at dksX3_finds_0 11 rfl rfl)
theorem dX3_finds_14 : decode cX3_finds 14 = .ok (.aload_n 0, 1) := dk_42 (dk_at dksX3_finds_0 14 rfl rfl)
theorem dX3_finds_15 : decode cX3_finds 15 = .ok (.iload_n 3, 1) := dk_29 (dk_at dksX3_finds_0 15 rfl rfl)
theorem dX3_finds_16 : decode cX3_finds 16 = .ok (.iload 4, 2) := dk_21 4 (dk_at dksX3_finds_0 16 rfl rfl)
theorem dX3_finds_18 : decode cX3_finds 18 = .ok (.iload_n 1, 1) := dk_27 (dk_at dksX3_finds_0 18 rfl rfl)
theorem dX3_finds_19 : decode cX3_finds 19 = .ok (.invokevirtual 87, 3) := dk_182 0 87 (dk_at dksX3_finds_0 19 rfl rfl)
theorem dX3_finds_22 : decode cX3_finds 22 = .ok (.goto 5, 3) := dk_167 0 5 (dk_at dksX3_finds_1 0 rfl rfl)
theorem dX3_finds_25 : decode cX3_finds 25 = .ok (.bipush 80, 2) := dk_16 80 (dk_at dksX3_finds_1 3 rfl rfl)
theorem dX3_finds_27 : decode cX3_finds 27 = .ok (.istore 5, 2) := dk_54 5 (dk_at dksX3_finds_1 5 rfl rfl)
theorem dX3_finds_29 : decode cX3_finds 29 = .ok (.iload_n 3, 1) := dk_29 (dk_at dksX3_finds_1 7 rfl rfl)
theorem dX3_finds_30 : decode cX3_finds 30 = .ok (.iload_n 2, 1) := dk_28 (dk_at dksX3_finds_1 8 rfl rfl)
theorem dX3_finds_31 : decode cX3_finds 31 = .ok (.if_icmp .ne 14, 3) := dk_160 0 14 (dk_at dksX3_finds_1 9 rfl rfl)
theorem dX3_finds_34 : decode cX3_finds 34 = .ok (.aload_n 0, 1) := dk_42 (dk_at dksX3_finds_1 12 rfl rfl)
theorem dX3_finds_35 : decode cX3_finds 35 = .ok (.iload_n 3, 1) := dk_29 (dk_at dksX3_finds_1 13 rfl rfl)
theorem dX3_finds_36 : decode cX3_finds 36 = .ok (.iload_n 1, 1) := dk_27 (dk_at dksX3_finds_1 14 rfl rfl)
theorem dX3_finds_37 : decode cX3_finds 37 = .ok (.invokevirtual 69, 3) := dk_182 0 69 (dk_at dksX3_finds_1 15 rfl rfl)
theorem dX3_finds_40 : decode cX3_finds 40 = .ok (.ifCond .eq 5, 3) := dk_153 0 5 (dk_at dksX3_finds_1 18 rfl rfl)
theorem dX3_finds_43 : decode cX3_finds 43 = .ok (.iconst 1, 1) := dk_4 (dk_at dksX3_finds_1 21 rfl rfl)
theorem dX3_finds_44 : decode cX3_finds 44 = .ok (.ireturn, 1) := dk_172 (dk_at dksX3_finds_1 22 rfl rfl)
theorem dX3_finds_45 : decode cX3_finds 45 = .ok (.iload 5, 2) := dk_21 5 (dk_at dksX3_finds_2 0 rfl rfl)
theorem dX3_finds_47 : decode cX3_finds 47 = .ok (.bipush 80, 2) := dk_16 80 (dk_at dksX3_finds_2 2 rfl rfl)
theorem dX3_finds_49 : decode cX3_finds 49 = .ok (.if_icmp .ge 43, 3) := dk_162 0 43 (dk_at dksX3_finds_2 4 rfl rfl)
theorem dX3_finds_52 : decode cX3_finds 52 = .ok (.aload_n 0, 1) := dk_42 (dk_at dksX3_finds_2 7 rfl rfl)
theorem dX3_finds_53 : decode cX3_finds 53 = .ok (.getfield 33, 3) := dk_180 0 33 (dk_at dksX3_finds_2 8 rfl rfl)
theorem dX3_finds_56 : decode cX3_finds 56 = .ok (.iload_n 3, 1) := dk_29 (dk_at dksX3_finds_2 11 rfl rfl)
theorem dX3_finds_57 : decode cX3_finds 57 = .ok (.iload 5, 2) := dk_21 5 (dk_at dksX3_finds_2 12 rfl rfl)
theorem dX3_finds_59 : decode cX3_finds 59 = .ok (.iastore, 1) := dk_79 (dk_at dksX3_finds_2 14 rfl rfl)
theorem dX3_finds_60 : decode cX3_finds 60 = .ok (.aload_n 0, 1) := dk_42 (dk_at dksX3_finds_2 15 rfl rfl)
theorem dX3_finds_61 : decode cX3_finds 61 = .ok (.iload_n 3, 1) := dk_29 (dk_at dksX3_finds_2 16 rfl rfl)
theorem dX3_finds_62 : decode cX3_finds 62 = .ok (.iload_n 3, 1) := dk_29 (dk_at dksX3_finds_2 17 rfl rfl)
theorem dX3_finds_63 : decode cX3_finds 63 = .ok (.iconst 1, 1) := dk_4 (dk_at dksX3_finds_2 18 rfl rfl)
theorem dX3_finds_64 : decode cX3_finds 64 = .ok (.iadd, 1) := dk_96 (dk_at dksX3_finds_2 19 rfl rfl)
theorem dX3_finds_65 : decode cX3_finds 65 = .ok (.invokevirtual 91, 3) := dk_182 0 91 (dk_at dksX3_finds_2 20 rfl rfl)
theorem dX3_finds_68 : decode cX3_finds 68 = .ok (.aload_n 0, 1) := dk_42 (dk_at dksX3_finds_2 23 rfl rfl)
theorem dX3_finds_69 : decode cX3_finds 69 = .ok (.iload_n 3, 1) := dk_29 (dk_at dksX3_finds_3 0 rfl rfl)
theorem dX3_finds_70 : decode cX3_finds 70 = .ok (.iconst 1, 1) := dk_4 (dk_at dksX3_finds_3 1 rfl rfl)
theorem dX3_finds_71 : decode cX3_finds 71 = .ok (.iadd, 1) := dk_96 (dk_at dksX3_finds_3 2 rfl rfl)
theorem dX3_finds_72 : decode cX3_finds 72 = .ok (.iload 5, 2) := dk_21 5 (dk_at dksX3_finds_3 3 rfl rfl)
theorem dX3_finds_74 : decode cX3_finds 74 = .ok (.iconst 4, 1) := dk_7 (dk_at dksX3_finds_3 5 rfl rfl)
theorem dX3_finds_75 : decode cX3_finds 75 = .ok (.idiv, 1) := dk_108 (dk_at dksX3_finds_3 6 rfl rfl)
theorem dX3_finds_76 : decode cX3_finds 76 = .ok (.iload 5, 2) := dk_21 5 (dk_at dksX3_finds_3 7 rfl rfl)
theorem dX3_finds_78 : decode cX3_finds 78 = .ok (.iconst 4, 1) := dk_7 (dk_at dksX3_finds_3 9 rfl rfl)
theorem dX3_finds_79 : decode cX3_finds 79 = .ok (.irem, 1) := dk_112 (dk_at dksX3_finds_3 10 rfl rfl)
theorem dX3_finds_80 : decode cX3_finds 80 = .ok (.invokevirtual 95, 3) := dk_182 0 95 (dk_at dksX3_finds_3 11 rfl rfl)
theorem dX3_finds_83 : decode cX3_finds 83 = .ok (.iinc 3 1, 3) := dk_132 3 1 (dk_at dksX3_finds_3 14 rfl rfl)
theorem dX3_finds_86 : decode cX3_finds 86 = .ok (.iconst 0, 1) := dk_3 (dk_at dksX3_finds_3 17 rfl rfl)
theorem dX3_finds_87 : decode cX3_finds 87 = .ok (.istore 4, 2) := dk_54 4 (dk_at dksX3_finds_3 18 rfl rfl)
theorem dX3_finds_89 : decode cX3_finds 89 = .ok (.goto 24, 3) := dk_167 0 24 (dk_at dksX3_finds_3 20 rfl rfl)
theorem dX3_finds_92 : decode cX3_finds 92 = .ok (.iinc 3 (-1), 3) := dk_132 3 255 (dk_at dksX3_finds_4 0 rfl rfl)
theorem dX3_finds_95 : decode cX3_finds 95 = .ok (.iload_n 3, 1) := dk_29 (dk_at dksX3_finds_4 3 rfl rfl)
theorem dX3_finds_96 : decode cX3_finds 96 = .ok (.ifCond .ge 7, 3) := dk_156 0 7 (dk_at dksX3_finds_4 4 rfl rfl)
theorem dX3_finds_99 : decode cX3_finds 99 = .ok (.iconst 0, 1) := dk_3 (dk_at dksX3_finds_4 7 rfl rfl)
theorem dX3_finds_100 : decode cX3_finds 100 = .ok (.goto 11, 3) := dk_167 0 11 (dk_at dksX3_finds_4 8 rfl rfl)
theorem dX3_finds_103 : decode cX3_finds 103 = .ok (.aload_n 0, 1) := dk_42 (dk_at dksX3_finds_4 11 rfl rfl)
theorem dX3_finds_104 : decode cX3_finds 104 = .ok (.getfield 33, 3) := dk_180 0 33 (dk_at dksX3_finds_4 12 rfl rfl)
theorem dX3_finds_107 : decode cX3_finds 107 = .ok (.iload_n 3, 1) := dk_29 (dk_at dksX3_finds_4 15 rfl rfl)
theorem dX3_finds_108 : decode cX3_finds 108 = .ok (.iaload, 1) := dk_46 (dk_at dksX3_finds_4 16 rfl rfl)
theorem dX3_finds_109 : decode cX3_finds 109 = .ok (.iconst 1, 1) := dk_4 (dk_at dksX3_finds_4 17 rfl rfl)
theorem dX3_finds_110 : decode cX3_finds 110 = .ok (.iadd, 1) := dk_96 (dk_at dksX3_finds_4 18 rfl rfl)
theorem dX3_finds_111 : decode cX3_finds 111 = .ok (.istore 4, 2) := dk_54 4 (dk_at dksX3_finds_4 19 rfl rfl)
theorem dX3_finds_113 : decode cX3_finds 113 = .ok (.goto (-108), 3) := dk_167 255 148 (dk_at dksX3_finds_4 21 rfl rfl)
theorem dX3_finds_116 : decode cX3_finds 116 = .ok (.iconst 0, 1) := dk_3 (dk_at dksX3_finds_5 0 rfl rfl)
theorem dX3_finds_117 : decode cX3_finds 117 = .ok (.ireturn, 1) := dk_172 (dk_at dksX3_finds_5 1 rfl rfl)
abbrev cX3_nextMove : ByteArray := prog_9_method_17_code
def yX3_nextMove : MethodName := ⟨RX3, "nextMove", "(III)I"⟩
def dkwX3_nextMove_3 : List UInt8 := [16, 80, 172]
abbrev dktX3_nextMove_3 : List UInt8 := dkwX3_nextMove_3 ++ []
def dkwX3_nextMove_2 : List UInt8 := [21, 4, 7, 108, 21, 4, 7, 112, 182, 0, 84, 153, 0, 6, 21, 4, 172, 132, 4, 1, 167, 255, 192]
abbrev dktX3_nextMove_2 : List UInt8 := dkwX3_nextMove_2 ++ dktX3_nextMove_3
def dkwX3_nextMove_1 : List UInt8 := [7, 112, 42, 180, 0, 59, 162, 0, 34, 42, 180, 0, 16, 21, 4, 7, 108, 51, 153, 0, 22, 42, 27]
abbrev dktX3_nextMove_1 : List UInt8 := dkwX3_nextMove_1 ++ dktX3_nextMove_2
def dkwX3_nextMove_0 : List UInt8 := [28, 54, 4, 21, 4, 7, 42, 180, 0, 52, 104, 162, 0, 59, 21, 4, 7, 108, 29, 159, 0, 45, 21, 4]
abbrev dktX3_nextMove_0 : List UInt8 := dkwX3_nextMove_0 ++ dktX3_nextMove_1
theorem dksX3_nextMove_0 : cX3_nextMove.data.toList.drop 0 = dktX3_nextMove_0 := by decide +kernel
theorem dksX3_nextMove_1 : cX3_nextMove.data.toList.drop 24 = dktX3_nextMove_1 := dk_seg dksX3_nextMove_0 24 rfl rfl
theorem dksX3_nextMove_2 : cX3_nextMove.data.toList.drop 47 = dktX3_nextMove_2 := dk_seg dksX3_nextMove_1 23 rfl rfl
theorem dksX3_nextMove_3 : cX3_nextMove.data.toList.drop 70 = dktX3_nextMove_3 := dk_seg dksX3_nextMove_2 23 rfl rfl
theorem dX3_nextMove_0 : decode cX3_nextMove 0 = .ok (.iload_n 2, 1) := dk_28 (dk_at dksX3_nextMove_0 0 rfl rfl)
theorem dX3_nextMove_1 : decode cX3_nextMove 1 = .ok (.istore 4, 2) := dk_54 4 (dk_at dksX3_nextMove_0 1 rfl rfl)
theorem dX3_nextMove_3 : decode cX3_nextMove 3 = .ok (.iload 4, 2) := dk_21 4 (dk_at dksX3_nextMove_0 3 rfl rfl)
theorem dX3_nextMove_5 : decode cX3_nextMove 5 = .ok (.iconst 4, 1) := dk_7 (dk_at dksX3_nextMove_0 5 rfl rfl)
theorem dX3_nextMove_6 : decode cX3_nextMove 6 = .ok (.aload_n 0, 1) := dk_42 (dk_at dksX3_nextMove_0 6 rfl rfl)
theorem dX3_nextMove_7 : decode cX3_nextMove 7 = .ok (.getfield 52, 3) := dk_180 0 52 (dk_at dksX3_nextMove_0 7 rfl rfl)
theorem dX3_nextMove_10 : decode cX3_nextMove 10 = .ok (.imul, 1) := dk_104 (dk_at dksX3_nextMove_0 10 rfl rfl)
theorem dX3_nextMove_11 : decode cX3_nextMove 11 = .ok (.if_icmp .ge 59, 3) := dk_162 0 59 (dk_at dksX3_nextMove_0 11 rfl rfl)
theorem dX3_nextMove_14 : decode cX3_nextMove 14 = .ok (.iload 4, 2) := dk_21 4 (dk_at dksX3_nextMove_0 14 rfl rfl)
theorem dX3_nextMove_16 : decode cX3_nextMove 16 = .ok (.iconst 4, 1) := dk_7 (dk_at dksX3_nextMove_0 16 rfl rfl)
theorem dX3_nextMove_17 : decode cX3_nextMove 17 = .ok (.idiv, 1) := dk_108 (dk_at dksX3_nextMove_0 17 rfl rfl)
theorem dX3_nextMove_18 : decode cX3_nextMove 18 = .ok (.iload_n 3, 1) := dk_29 (dk_at dksX3_nextMove_0 18 rfl rfl)
theorem dX3_nextMove_19 : decode cX3_nextMove 19 = .ok (.if_icmp .eq 45, 3) := dk_159 0 45 (dk_at dksX3_nextMove_0 19 rfl rfl)
theorem dX3_nextMove_22 : decode cX3_nextMove 22 = .ok (.iload 4, 2) := dk_21 4 (dk_at dksX3_nextMove_0 22 rfl rfl)
theorem dX3_nextMove_24 : decode cX3_nextMove 24 = .ok (.iconst 4, 1) := dk_7 (dk_at dksX3_nextMove_1 0 rfl rfl)
theorem dX3_nextMove_25 : decode cX3_nextMove 25 = .ok (.irem, 1) := dk_112 (dk_at dksX3_nextMove_1 1 rfl rfl)
theorem dX3_nextMove_26 : decode cX3_nextMove 26 = .ok (.aload_n 0, 1) := dk_42 (dk_at dksX3_nextMove_1 2 rfl rfl)
theorem dX3_nextMove_27 : decode cX3_nextMove 27 = .ok (.getfield 59, 3) := dk_180 0 59 (dk_at dksX3_nextMove_1 3 rfl rfl)
theorem dX3_nextMove_30 : decode cX3_nextMove 30 = .ok (.if_icmp .ge 34, 3) := dk_162 0 34 (dk_at dksX3_nextMove_1 6 rfl rfl)
theorem dX3_nextMove_33 : decode cX3_nextMove 33 = .ok (.aload_n 0, 1) := dk_42 (dk_at dksX3_nextMove_1 9 rfl rfl)
theorem dX3_nextMove_34 : decode cX3_nextMove 34 = .ok (.getfield 16, 3) := dk_180 0 16 (dk_at dksX3_nextMove_1 10 rfl rfl)
theorem dX3_nextMove_37 : decode cX3_nextMove 37 = .ok (.iload 4, 2) := dk_21 4 (dk_at dksX3_nextMove_1 13 rfl rfl)
theorem dX3_nextMove_39 : decode cX3_nextMove 39 = .ok (.iconst 4, 1) := dk_7 (dk_at dksX3_nextMove_1 15 rfl rfl)
theorem dX3_nextMove_40 : decode cX3_nextMove 40 = .ok (.idiv, 1) := dk_108 (dk_at dksX3_nextMove_1 16 rfl rfl)
theorem dX3_nextMove_41 : decode cX3_nextMove 41 = .ok (.baload, 1) := dk_51 (dk_at dksX3_nextMove_1 17 rfl rfl)
theorem dX3_nextMove_42 : decode cX3_nextMove 42 = .ok (.ifCond .eq 22, 3) := dk_153 0 22 (dk_at dksX3_nextMove_1 18 rfl rfl)
theorem dX3_nextMove_45 : decode cX3_nextMove 45 = .ok (.aload_n 0, 1) := dk_42 (dk_at dksX3_nextMove_1 21 rfl rfl)
theorem dX3_nextMove_46 : decode cX3_nextMove 46 = .ok (.iload_n 1, 1) := dk_27 (dk_at dksX3_nextMove_1 22 rfl rfl)
theorem dX3_nextMove_47 : decode cX3_nextMove 47 = .ok (.iload 4, 2) := dk_21 4 (dk_at dksX3_nextMove_2 0 rfl rfl)
theorem dX3_nextMove_49 : decode cX3_nextMove 49 = .ok (.iconst 4, 1) := dk_7 (dk_at dksX3_nextMove_2 2 rfl rfl)
theorem dX3_nextMove_50 : decode cX3_nextMove 50 = .ok (.idiv, 1) := dk_108 (dk_at dksX3_nextMove_2 3 rfl rfl)
theorem dX3_nextMove_51 : decode cX3_nextMove 51 = .ok (.iload 4, 2) := dk_21 4 (dk_at dksX3_nextMove_2 4 rfl rfl)
theorem dX3_nextMove_53 : decode cX3_nextMove 53 = .ok (.iconst 4, 1) := dk_7 (dk_at dksX3_nextMove_2 6 rfl rfl)
theorem dX3_nextMove_54 : decode cX3_nextMove 54 = .ok (.irem, 1) := dk_112 (dk_at dksX3_nextMove_2 7 rfl rfl)
theorem dX3_nextMove_55 : decode cX3_nextMove 55 = .ok (.invokevirtual 84, 3) := dk_182 0 84 (dk_at dksX3_nextMove_2 8 rfl rfl)
theorem dX3_nextMove_58 : decode cX3_nextMove 58 = .ok (.ifCond .eq 6, 3) := dk_153 0 6 (dk_at dksX3_nextMove_2 11 rfl rfl)
theorem dX3_nextMove_61 : decode cX3_nextMove 61 = .ok (.iload 4, 2) := dk_21 4 (dk_at dksX3_nextMove_2 14 rfl rfl)
theorem dX3_nextMove_63 : decode cX3_nextMove 63 = .ok (.ireturn, 1) := dk_172 (dk_at dksX3_nextMove_2 16 rfl rfl)
theorem dX3_nextMove_64 : decode cX3_nextMove 64 = .ok (.iinc 4 1, 3) := dk_132 4 1 (dk_at dksX3_nextMove_2 17 rfl rfl)
theorem dX3_nextMove_67 : decode cX3_nextMove 67 = .ok (.goto (-64), 3) := dk_167 255 192 (dk_at dksX3_nextMove_2 20 rfl rfl)
theorem dX3_nextMove_70 : decode cX3_nextMove 70 = .ok (.bipush 80, 2) := dk_16 80 (dk_at dksX3_nextMove_3 0 rfl rfl)
theorem dX3_nextMove_72 : decode cX3_nextMove 72 = .ok (.ireturn, 1) := dk_172 (dk_at dksX3_nextMove_3 2 rfl rfl)
abbrev cX3_copies : ByteArray := prog_9_method_16_code
def yX3_copies : MethodName := ⟨RX3, "copies", "(II)V"⟩
def dkwX3_copies_2 : List UInt8 := [104, 29, 96, 42, 180, 0, 30, 16, 16, 27, 104, 29, 96, 46, 79, 132, 3, 1, 167, 255, 225, 177]
abbrev dktX3_copies_2 : List UInt8 := dkwX3_copies_2 ++ []
def dkwX3_copies_1 : List UInt8 := [96, 46, 79, 132, 3, 1, 167, 255, 228, 3, 62, 29, 16, 16, 162, 0, 31, 42, 180, 0, 30, 16, 16, 28]
abbrev dktX3_copies_1 : List UInt8 := dkwX3_copies_1 ++ dktX3_copies_2
def dkwX3_copies_0 : List UInt8 := [3, 62, 29, 7, 162, 0, 29, 42, 180, 0, 27, 7, 28, 104, 29, 96, 42, 180, 0, 27, 7, 27, 104, 29]
abbrev dktX3_copies_0 : List UInt8 := dkwX3_copies_0 ++ dktX3_copies_1
theorem dksX3_copies_0 : cX3_copies.data.toList.drop 0 = dktX3_copies_0 := by decide +kernel
theorem dksX3_copies_1 : cX3_copies.data.toList.drop 24 = dktX3_copies_1 := dk_seg dksX3_copies_0 24 rfl rfl
theorem dksX3_copies_2 : cX3_copies.data.toList.drop 48 = dktX3_copies_2 := dk_seg dksX3_copies_1 24 rfl rfl
theorem dX3_copies_0 : decode cX3_copies 0 = .ok (.iconst 0, 1) := dk_3 (dk_at dksX3_copies_0 0 rfl rfl)
theorem dX3_copies_1 : decode cX3_copies 1 = .ok (.istore_n 3, 1) := dk_62 (dk_at dksX3_copies_0 1 rfl rfl)
theorem dX3_copies_2 : decode cX3_copies 2 = .ok (.iload_n 3, 1) := dk_29 (dk_at dksX3_copies_0 2 rfl rfl)
theorem dX3_copies_3 : decode cX3_copies 3 = .ok (.iconst 4, 1) := dk_7 (dk_at dksX3_copies_0 3 rfl rfl)
theorem dX3_copies_4 : decode cX3_copies 4 = .ok (.if_icmp .ge 29, 3) := dk_162 0 29 (dk_at dksX3_copies_0 4 rfl rfl)
theorem dX3_copies_7 : decode cX3_copies 7 = .ok (.aload_n 0, 1) := dk_42 (dk_at dksX3_copies_0 7 rfl rfl)
theorem dX3_copies_8 : decode cX3_copies 8 = .ok (.getfield 27, 3) := dk_180 0 27 (dk_at dksX3_copies_0 8 rfl rfl)
theorem dX3_copies_11 : decode cX3_copies 11 = .ok (.iconst 4, 1) := dk_7 (dk_at dksX3_copies_0 11 rfl rfl)
theorem dX3_copies_12 : decode cX3_copies 12 = .ok (.iload_n 2, 1) := dk_28 (dk_at dksX3_copies_0 12 rfl rfl)
theorem dX3_copies_13 : decode cX3_copies 13 = .ok (.imul, 1) := dk_104 (dk_at dksX3_copies_0 13 rfl rfl)
theorem dX3_copies_14 : decode cX3_copies 14 = .ok (.iload_n 3, 1) := dk_29 (dk_at dksX3_copies_0 14 rfl rfl)
theorem dX3_copies_15 : decode cX3_copies 15 = .ok (.iadd, 1) := dk_96 (dk_at dksX3_copies_0 15 rfl rfl)
theorem dX3_copies_16 : decode cX3_copies 16 = .ok (.aload_n 0, 1) := dk_42 (dk_at dksX3_copies_0 16 rfl rfl)
theorem dX3_copies_17 : decode cX3_copies 17 = .ok (.getfield 27, 3) := dk_180 0 27 (dk_at dksX3_copies_0 17 rfl rfl)
theorem dX3_copies_20 : decode cX3_copies 20 = .ok (.iconst 4, 1) := dk_7 (dk_at dksX3_copies_0 20 rfl rfl)
theorem dX3_copies_21 : decode cX3_copies 21 = .ok (.iload_n 1, 1) := dk_27 (dk_at dksX3_copies_0 21 rfl rfl)
theorem dX3_copies_22 : decode cX3_copies 22 = .ok (.imul, 1) := dk_104 (dk_at dksX3_copies_0 22 rfl rfl)
theorem dX3_copies_23 : decode cX3_copies 23 = .ok (.iload_n 3, 1) := dk_29 (dk_at dksX3_copies_0 23 rfl rfl)
theorem dX3_copies_24 : decode cX3_copies 24 = .ok (.iadd, 1) := dk_96 (dk_at dksX3_copies_1 0 rfl rfl)
theorem dX3_copies_25 : decode cX3_copies 25 = .ok (.iaload, 1) := dk_46 (dk_at dksX3_copies_1 1 rfl rfl)
theorem dX3_copies_26 : decode cX3_copies 26 = .ok (.iastore, 1) := dk_79 (dk_at dksX3_copies_1 2 rfl rfl)
theorem dX3_copies_27 : decode cX3_copies 27 = .ok (.iinc 3 1, 3) := dk_132 3 1 (dk_at dksX3_copies_1 3 rfl rfl)
theorem dX3_copies_30 : decode cX3_copies 30 = .ok (.goto (-28), 3) := dk_167 255 228 (dk_at dksX3_copies_1 6 rfl rfl)
theorem dX3_copies_33 : decode cX3_copies 33 = .ok (.iconst 0, 1) := dk_3 (dk_at dksX3_copies_1 9 rfl rfl)
theorem dX3_copies_34 : decode cX3_copies 34 = .ok (.istore_n 3, 1) := dk_62 (dk_at dksX3_copies_1 10 rfl rfl)
theorem dX3_copies_35 : decode cX3_copies 35 = .ok (.iload_n 3, 1) := dk_29 (dk_at dksX3_copies_1 11 rfl rfl)
theorem dX3_copies_36 : decode cX3_copies 36 = .ok (.bipush 16, 2) := dk_16 16 (dk_at dksX3_copies_1 12 rfl rfl)
theorem dX3_copies_38 : decode cX3_copies 38 = .ok (.if_icmp .ge 31, 3) := dk_162 0 31 (dk_at dksX3_copies_1 14 rfl rfl)
theorem dX3_copies_41 : decode cX3_copies 41 = .ok (.aload_n 0, 1) := dk_42 (dk_at dksX3_copies_1 17 rfl rfl)
theorem dX3_copies_42 : decode cX3_copies 42 = .ok (.getfield 30, 3) := dk_180 0 30 (dk_at dksX3_copies_1 18 rfl rfl)
theorem dX3_copies_45 : decode cX3_copies 45 = .ok (.bipush 16, 2) := dk_16 16 (dk_at dksX3_copies_1 21 rfl rfl)
theorem dX3_copies_47 : decode cX3_copies 47 = .ok (.iload_n 2, 1) := dk_28 (dk_at dksX3_copies_1 23 rfl rfl)
theorem dX3_copies_48 : decode cX3_copies 48 = .ok (.imul, 1) := dk_104 (dk_at dksX3_copies_2 0 rfl rfl)
theorem dX3_copies_49 : decode cX3_copies 49 = .ok (.iload_n 3, 1) := dk_29 (dk_at dksX3_copies_2 1 rfl rfl)
theorem dX3_copies_50 : decode cX3_copies 50 = .ok (.iadd, 1) := dk_96 (dk_at dksX3_copies_2 2 rfl rfl)
theorem dX3_copies_51 : decode cX3_copies 51 = .ok (.aload_n 0, 1) := dk_42 (dk_at dksX3_copies_2 3 rfl rfl)
theorem dX3_copies_52 : decode cX3_copies 52 = .ok (.getfield 30, 3) := dk_180 0 30 (dk_at dksX3_copies_2 4 rfl rfl)
theorem dX3_copies_55 : decode cX3_copies 55 = .ok (.bipush 16, 2) := dk_16 16 (dk_at dksX3_copies_2 7 rfl rfl)
theorem dX3_copies_57 : decode cX3_copies 57 = .ok (.iload_n 1, 1) := dk_27 (dk_at dksX3_copies_2 9 rfl rfl)
theorem dX3_copies_58 : decode cX3_copies 58 = .ok (.imul, 1) := dk_104 (dk_at dksX3_copies_2 10 rfl rfl)
theorem dX3_copies_59 : decode cX3_copies 59 = .ok (.iload_n 3, 1) := dk_29 (dk_at dksX3_copies_2 11 rfl rfl)
theorem dX3_copies_60 : decode cX3_copies 60 = .ok (.iadd, 1) := dk_96 (dk_at dksX3_copies_2 12 rfl rfl)
theorem dX3_copies_61 : decode cX3_copies 61 = .ok (.iaload, 1) := dk_46 (dk_at dksX3_copies_2 13 rfl rfl)
theorem dX3_copies_62 : decode cX3_copies 62 = .ok (.iastore, 1) := dk_79 (dk_at dksX3_copies_2 14 rfl rfl)
theorem dX3_copies_63 : decode cX3_copies 63 = .ok (.iinc 3 1, 3) := dk_132 3 1 (dk_at dksX3_copies_2 15 rfl rfl)
theorem dX3_copies_66 : decode cX3_copies 66 = .ok (.goto (-31), 3) := dk_167 255 225 (dk_at dksX3_copies_2 18 rfl rfl)
theorem dX3_copies_69 : decode cX3_copies 69 = .ok (.return_, 1) := dk_177 (dk_at dksX3_copies_2 21 rfl rfl)
abbrev cX3_planByTrying : ByteArray := prog_9_method_43_code
def yX3_planByTrying : MethodName := ⟨RX3, "planByTrying", "(I)I"⟩
def dkwX3_planByTrying_0 : List UInt8 := [42, 27, 182, 0, 135, 172]
abbrev dktX3_planByTrying_0 : List UInt8 := dkwX3_planByTrying_0 ++ []
theorem dksX3_planByTrying_0 : cX3_planByTrying.data.toList.drop 0 = dktX3_planByTrying_0 := by decide +kernel
theorem dX3_planByTrying_0 : decode cX3_planByTrying 0 = .ok (.aload_n 0, 1) := dk_42 (dk_at dksX3_planByTrying_0 0 rfl rfl)
theorem dX3_planByTrying_1 : decode cX3_planByTrying 1 = .ok (.iload_n 1, 1) := dk_27 (dk_at dksX3_planByTrying_0 1 rfl rfl)
theorem dX3_planByTrying_2 : decode cX3_planByTrying 2 = .ok (.invokevirtual 135, 3) := dk_182 0 135 (dk_at dksX3_planByTrying_0 2 rfl rfl)
theorem dX3_planByTrying_5 : decode cX3_planByTrying 5 = .ok (.ireturn, 1) := dk_172 (dk_at dksX3_planByTrying_0 5 rfl rfl)
abbrev cX3_planBox : ByteArray := prog_9_method_45_code
def yX3_planBox : MethodName := ⟨RX3, "planBox", "(II)I"⟩
def dkwX3_planBox_0 : List UInt8 := [42, 27, 28, 182, 0, 138, 7, 108, 172]
abbrev dktX3_planBox_0 : List UInt8 := dkwX3_planBox_0 ++ []
theorem dksX3_planBox_0 : cX3_planBox.data.toList.drop 0 = dktX3_planBox_0 := by decide +kernel
theorem dX3_planBox_0 : decode cX3_planBox 0 = .ok (.aload_n 0, 1) := dk_42 (dk_at dksX3_planBox_0 0 rfl rfl)
theorem dX3_planBox_1 : decode cX3_planBox 1 = .ok (.iload_n 1, 1) := dk_27 (dk_at dksX3_planBox_0 1 rfl rfl)
theorem dX3_planBox_2 : decode cX3_planBox 2 = .ok (.iload_n 2, 1) := dk_28 (dk_at dksX3_planBox_0 2 rfl rfl)
theorem dX3_planBox_3 : decode cX3_planBox 3 = .ok (.invokevirtual 138, 3) := dk_182 0 138 (dk_at dksX3_planBox_0 3 rfl rfl)
theorem dX3_planBox_6 : decode cX3_planBox 6 = .ok (.iconst 4, 1) := dk_7 (dk_at dksX3_planBox_0 6 rfl rfl)
theorem dX3_planBox_7 : decode cX3_planBox 7 = .ok (.idiv, 1) := dk_108 (dk_at dksX3_planBox_0 7 rfl rfl)
theorem dX3_planBox_8 : decode cX3_planBox 8 = .ok (.ireturn, 1) := dk_172 (dk_at dksX3_planBox_0 8 rfl rfl)
abbrev cX3_plannedAt : ByteArray := prog_9_method_44_code
def yX3_plannedAt : MethodName := ⟨RX3, "plannedAt", "(II)I"⟩
def dkwX3_plannedAt_1 : List UInt8 := [42, 5, 181, 0, 48, 42, 180, 0, 48, 158, 0, 7, 3, 167, 0, 9, 42, 180, 0, 33, 28, 46, 172]
abbrev dktX3_plannedAt_1 : List UInt8 := dkwX3_plannedAt_1 ++ []
def dkwX3_plannedAt_0 : List UInt8 := [42, 27, 182, 0, 135, 62, 42, 180, 0, 48, 154, 0, 19, 28, 3, 29, 4, 100, 184, 0, 55, 154, 0, 8]
abbrev dktX3_plannedAt_0 : List UInt8 := dkwX3_plannedAt_0 ++ dktX3_plannedAt_1
theorem dksX3_plannedAt_0 : cX3_plannedAt.data.toList.drop 0 = dktX3_plannedAt_0 := by decide +kernel
theorem dksX3_plannedAt_1 : cX3_plannedAt.data.toList.drop 24 = dktX3_plannedAt_1 := dk_seg dksX3_plannedAt_0 24 rfl rfl
theorem dX3_plannedAt_0 : decode cX3_plannedAt 0 = .ok (.aload_n 0, 1) := dk_42 (dk_at dksX3_plannedAt_0 0 rfl rfl)
theorem dX3_plannedAt_1 : decode cX3_plannedAt 1 = .ok (.iload_n 1, 1) := dk_27 (dk_at dksX3_plannedAt_0 1 rfl rfl)
theorem dX3_plannedAt_2 : decode cX3_plannedAt 2 = .ok (.invokevirtual 135, 3) := dk_182 0 135 (dk_at dksX3_plannedAt_0 2 rfl rfl)
theorem dX3_plannedAt_5 : decode cX3_plannedAt 5 = .ok (.istore_n 3, 1) := dk_62 (dk_at dksX3_plannedAt_0 5 rfl rfl)
theorem dX3_plannedAt_6 : decode cX3_plannedAt 6 = .ok (.aload_n 0, 1) := dk_42 (dk_at dksX3_plannedAt_0 6 rfl rfl)
theorem dX3_plannedAt_7 : decode cX3_plannedAt 7 = .ok (.getfield 48, 3) := dk_180 0 48 (dk_at dksX3_plannedAt_0 7 rfl rfl)
theorem dX3_plannedAt_10 : decode cX3_plannedAt 10 = .ok (.ifCond .ne 19, 3) := dk_154 0 19 (dk_at dksX3_plannedAt_0 10 rfl rfl)
theorem dX3_plannedAt_13 : decode cX3_plannedAt 13 = .ok (.iload_n 2, 1) := dk_28 (dk_at dksX3_plannedAt_0 13 rfl rfl)
theorem dX3_plannedAt_14 : decode cX3_plannedAt 14 = .ok (.iconst 0, 1) := dk_3 (dk_at dksX3_plannedAt_0 14 rfl rfl)
theorem dX3_plannedAt_15 : decode cX3_plannedAt 15 = .ok (.iload_n 3, 1) := dk_29 (dk_at dksX3_plannedAt_0 15 rfl rfl)
theorem dX3_plannedAt_16 : decode cX3_plannedAt 16 = .ok (.iconst 1, 1) := dk_4 (dk_at dksX3_plannedAt_0 16 rfl rfl)
theorem dX3_plannedAt_17 : decode cX3_plannedAt 17 = .ok (.isub, 1) := dk_100 (dk_at dksX3_plannedAt_0 17 rfl rfl)
theorem dX3_plannedAt_18 : decode cX3_plannedAt 18 = .ok (.invokestatic 55, 3) := dk_184 0 55 (dk_at dksX3_plannedAt_0 18 rfl rfl)
theorem dX3_plannedAt_21 : decode cX3_plannedAt 21 = .ok (.ifCond .ne 8, 3) := dk_154 0 8 (dk_at dksX3_plannedAt_0 21 rfl rfl)
theorem dX3_plannedAt_24 : decode cX3_plannedAt 24 = .ok (.aload_n 0, 1) := dk_42 (dk_at dksX3_plannedAt_1 0 rfl rfl)
theorem dX3_plannedAt_25 : decode cX3_plannedAt 25 = .ok (.iconst 2, 1) := dk_5 (dk_at dksX3_plannedAt_1 1 rfl rfl)
theorem dX3_plannedAt_26 : decode cX3_plannedAt 26 = .ok (.putfield 48, 3) := dk_181 0 48 (dk_at dksX3_plannedAt_1 2 rfl rfl)
theorem dX3_plannedAt_29 : decode cX3_plannedAt 29 = .ok (.aload_n 0, 1) := dk_42 (dk_at dksX3_plannedAt_1 5 rfl rfl)
theorem dX3_plannedAt_30 : decode cX3_plannedAt 30 = .ok (.getfield 48, 3) := dk_180 0 48 (dk_at dksX3_plannedAt_1 6 rfl rfl)
theorem dX3_plannedAt_33 : decode cX3_plannedAt 33 = .ok (.ifCond .le 7, 3) := dk_158 0 7 (dk_at dksX3_plannedAt_1 9 rfl rfl)
theorem dX3_plannedAt_36 : decode cX3_plannedAt 36 = .ok (.iconst 0, 1) := dk_3 (dk_at dksX3_plannedAt_1 12 rfl rfl)
theorem dX3_plannedAt_37 : decode cX3_plannedAt 37 = .ok (.goto 9, 3) := dk_167 0 9 (dk_at dksX3_plannedAt_1 13 rfl rfl)
theorem dX3_plannedAt_40 : decode cX3_plannedAt 40 = .ok (.aload_n 0, 1) := dk_42 (dk_at dksX3_plannedAt_1 16 rfl rfl)
theorem dX3_plannedAt_41 : decode cX3_plannedAt 41 = .ok (.getfield 33, 3) := dk_180 0 33 (dk_at dksX3_plannedAt_1 17 rfl rfl)
theorem dX3_plannedAt_44 : decode cX3_plannedAt 44 = .ok (.iload_n 2, 1) := dk_28 (dk_at dksX3_plannedAt_1 20 rfl rfl)
theorem dX3_plannedAt_45 : decode cX3_plannedAt 45 = .ok (.iaload, 1) := dk_46 (dk_at dksX3_plannedAt_1 21 rfl rfl)
theorem dX3_plannedAt_46 : decode cX3_plannedAt 46 = .ok (.ireturn, 1) := dk_172 (dk_at dksX3_plannedAt_1 22 rfl rfl)
abbrev cX3_planStack : ByteArray := prog_9_method_46_code
def yX3_planStack : MethodName := ⟨RX3, "planStack", "(II)I"⟩
def dkwX3_planStack_0 : List UInt8 := [42, 27, 28, 182, 0, 138, 7, 112, 172]
abbrev dktX3_planStack_0 : List UInt8 := dkwX3_planStack_0 ++ []
theorem dksX3_planStack_0 : cX3_planStack.data.toList.drop 0 = dktX3_planStack_0 := by decide +kernel
theorem dX3_planStack_0 : decode cX3_planStack 0 = .ok (.aload_n 0, 1) := dk_42 (dk_at dksX3_planStack_0 0 rfl rfl)
theorem dX3_planStack_1 : decode cX3_planStack 1 = .ok (.iload_n 1, 1) := dk_27 (dk_at dksX3_planStack_0 1 rfl rfl)
theorem dX3_planStack_2 : decode cX3_planStack 2 = .ok (.iload_n 2, 1) := dk_28 (dk_at dksX3_planStack_0 2 rfl rfl)
theorem dX3_planStack_3 : decode cX3_planStack 3 = .ok (.invokevirtual 138, 3) := dk_182 0 138 (dk_at dksX3_planStack_0 3 rfl rfl)
theorem dX3_planStack_6 : decode cX3_planStack 6 = .ok (.iconst 4, 1) := dk_7 (dk_at dksX3_planStack_0 6 rfl rfl)
theorem dX3_planStack_7 : decode cX3_planStack 7 = .ok (.irem, 1) := dk_112 (dk_at dksX3_planStack_0 7 rfl rfl)
theorem dX3_planStack_8 : decode cX3_planStack 8 = .ok (.ireturn, 1) := dk_172 (dk_at dksX3_planStack_0 8 rfl rfl)
abbrev cX3_dig : ByteArray := prog_9_method_47_code
def yX3_dig : MethodName := ⟨RX3, "dig", "(I)I"⟩
def dkwX3_dig_0 : List UInt8 := [42, 27, 182, 0, 135, 61, 42, 28, 182, 0, 141, 28, 172]
abbrev dktX3_dig_0 : List UInt8 := dkwX3_dig_0 ++ []
theorem dksX3_dig_0 : cX3_dig.data.toList.drop 0 = dktX3_dig_0 := by decide +kernel
theorem dX3_dig_0 : decode cX3_dig 0 = .ok (.aload_n 0, 1) := dk_42 (dk_at dksX3_dig_0 0 rfl rfl)
theorem dX3_dig_1 : decode cX3_dig 1 = .ok (.iload_n 1, 1) := dk_27 (dk_at dksX3_dig_0 1 rfl rfl)
theorem dX3_dig_2 : decode cX3_dig 2 = .ok (.invokevirtual 135, 3) := dk_182 0 135 (dk_at dksX3_dig_0 2 rfl rfl)
theorem dX3_dig_5 : decode cX3_dig 5 = .ok (.istore_n 2, 1) := dk_61 (dk_at dksX3_dig_0 5 rfl rfl)
theorem dX3_dig_6 : decode cX3_dig 6 = .ok (.aload_n 0, 1) := dk_42 (dk_at dksX3_dig_0 6 rfl rfl)
theorem dX3_dig_7 : decode cX3_dig 7 = .ok (.iload_n 2, 1) := dk_28 (dk_at dksX3_dig_0 7 rfl rfl)
theorem dX3_dig_8 : decode cX3_dig 8 = .ok (.invokevirtual 141, 3) := dk_182 0 141 (dk_at dksX3_dig_0 8 rfl rfl)
theorem dX3_dig_11 : decode cX3_dig 11 = .ok (.iload_n 2, 1) := dk_28 (dk_at dksX3_dig_0 11 rfl rfl)
theorem dX3_dig_12 : decode cX3_dig 12 = .ok (.ireturn, 1) := dk_172 (dk_at dksX3_dig_0 12 rfl rfl)
abbrev cX3_makes : ByteArray := prog_9_method_21_code
def yX3_makes : MethodName := ⟨RX3, "makes", "(I)V"⟩
def dkwX3_makes_1 : List UInt8 := [112, 182, 0, 95, 42, 89, 180, 0, 108, 4, 96, 181, 0, 108, 132, 2, 1, 167, 255, 217, 177]
abbrev dktX3_makes_1 : List UInt8 := dkwX3_makes_1 ++ []
def dkwX3_makes_0 : List UInt8 := [3, 61, 28, 27, 162, 0, 40, 42, 3, 42, 180, 0, 33, 28, 46, 7, 108, 42, 180, 0, 33, 28, 46, 7]
abbrev dktX3_makes_0 : List UInt8 := dkwX3_makes_0 ++ dktX3_makes_1
theorem dksX3_makes_0 : cX3_makes.data.toList.drop 0 = dktX3_makes_0 := by decide +kernel
theorem dksX3_makes_1 : cX3_makes.data.toList.drop 24 = dktX3_makes_1 := dk_seg dksX3_makes_0 24 rfl rfl
theorem dX3_makes_0 : decode cX3_makes 0 = .ok (.iconst 0, 1) := dk_3 (dk_at dksX3_makes_0 0 rfl rfl)
theorem dX3_makes_1 : decode cX3_makes 1 = .ok (.istore_n 2, 1) := dk_61 (dk_at dksX3_makes_0 1 rfl rfl)
theorem dX3_makes_2 : decode cX3_makes 2 = .ok (.iload_n 2, 1) := dk_28 (dk_at dksX3_makes_0 2 rfl rfl)
theorem dX3_makes_3 : decode cX3_makes 3 = .ok (.iload_n 1, 1) := dk_27 (dk_at dksX3_makes_0 3 rfl rfl)
theorem dX3_makes_4 : decode cX3_makes 4 = .ok (.if_icmp .ge 40, 3) := dk_162 0 40 (dk_at dksX3_makes_0 4 rfl rfl)
theorem dX3_makes_7 : decode cX3_makes 7 = .ok (.aload_n 0, 1) := dk_42 (dk_at dksX3_makes_0 7 rfl rfl)
theorem dX3_makes_8 : decode cX3_makes 8 = .ok (.iconst 0, 1) := dk_3 (dk_at dksX3_makes_0 8 rfl rfl)
theorem dX3_makes_9 : decode cX3_makes 9 = .ok (.aload_n 0, 1) := dk_42 (dk_at dksX3_makes_0 9 rfl rfl)
theorem dX3_makes_10 : decode cX3_makes 10 = .ok (.getfield 33, 3) := dk_180 0 33 (dk_at dksX3_makes_0 10 rfl rfl)
theorem dX3_makes_13 : decode cX3_makes 13 = .ok (.iload_n 2, 1) := dk_28 (dk_at dksX3_makes_0 13 rfl rfl)
theorem dX3_makes_14 : decode cX3_makes 14 = .ok (.iaload, 1) := dk_46 (dk_at dksX3_makes_0 14 rfl rfl)
theorem dX3_makes_15 : decode cX3_makes 15 = .ok (.iconst 4, 1) := dk_7 (dk_at dksX3_makes_0 15 rfl rfl)
theorem dX3_makes_16 : decode cX3_makes 16 = .ok (.idiv, 1) := dk_108 (dk_at dksX3_makes_0 16 rfl rfl)
theorem dX3_makes_17 : decode cX3_makes 17 = .ok (.aload_n 0, 1) := dk_42 (dk_at dksX3_makes_0 17 rfl rfl)
theorem dX3_makes_18 : decode cX3_makes 18 = .ok (.getfield 33, 3) := dk_180 0 33 (dk_at dksX3_makes_0 18 rfl rfl)
theorem dX3_makes_21 : decode cX3_makes 21 = .ok (.iload_n 2, 1) := dk_28 (dk_at dksX3_makes_0 21 rfl rfl)
theorem dX3_makes_22 : decode cX3_makes 22 = .ok (.iaload, 1) := dk_46 (dk_at dksX3_makes_0 22 rfl rfl)
theorem dX3_makes_23 : decode cX3_makes 23 = .ok (.iconst 4, 1) := dk_7 (dk_at dksX3_makes_0 23 rfl rfl)
theorem dX3_makes_24 : decode cX3_makes 24 = .ok (.irem, 1) := dk_112 (dk_at dksX3_makes_1 0 rfl rfl)
theorem dX3_makes_25 : decode cX3_makes 25 = .ok (.invokevirtual 95, 3) := dk_182 0 95 (dk_at dksX3_makes_1 1 rfl rfl)
theorem dX3_makes_28 : decode cX3_makes 28 = .ok (.aload_n 0, 1) := dk_42 (dk_at dksX3_makes_1 4 rfl rfl)
theorem dX3_makes_29 : decode cX3_makes 29 = .ok (.dup, 1) := dk_89 (dk_at dksX3_makes_1 5 rfl rfl)
theorem dX3_makes_30 : decode cX3_makes 30 = .ok (.getfield 108, 3) := dk_180 0 108 (dk_at dksX3_makes_1 6 rfl rfl)
theorem dX3_makes_33 : decode cX3_makes 33 = .ok (.iconst 1, 1) := dk_4 (dk_at dksX3_makes_1 9 rfl rfl)
theorem dX3_makes_34 : decode cX3_makes 34 = .ok (.iadd, 1) := dk_96 (dk_at dksX3_makes_1 10 rfl rfl)
theorem dX3_makes_35 : decode cX3_makes 35 = .ok (.putfield 108, 3) := dk_181 0 108 (dk_at dksX3_makes_1 11 rfl rfl)
theorem dX3_makes_38 : decode cX3_makes 38 = .ok (.iinc 2 1, 3) := dk_132 2 1 (dk_at dksX3_makes_1 14 rfl rfl)
theorem dX3_makes_41 : decode cX3_makes 41 = .ok (.goto (-39), 3) := dk_167 255 217 (dk_at dksX3_makes_1 17 rfl rfl)
theorem dX3_makes_44 : decode cX3_makes 44 = .ok (.return_, 1) := dk_177 (dk_at dksX3_makes_1 20 rfl rfl)
abbrev cX3_moves_2 : ByteArray := prog_9_method_48_code
def yX3_moves_2 : MethodName := ⟨RX3, "moves", "()I"⟩
def dkwX3_moves_2_0 : List UInt8 := [42, 3, 181, 0, 48, 42, 180, 0, 108, 172]
abbrev dktX3_moves_2_0 : List UInt8 := dkwX3_moves_2_0 ++ []
theorem dksX3_moves_2_0 : cX3_moves_2.data.toList.drop 0 = dktX3_moves_2_0 := by decide +kernel
theorem dX3_moves_2_0 : decode cX3_moves_2 0 = .ok (.aload_n 0, 1) := dk_42 (dk_at dksX3_moves_2_0 0 rfl rfl)
theorem dX3_moves_2_1 : decode cX3_moves_2 1 = .ok (.iconst 0, 1) := dk_3 (dk_at dksX3_moves_2_0 1 rfl rfl)
theorem dX3_moves_2_2 : decode cX3_moves_2 2 = .ok (.putfield 48, 3) := dk_181 0 48 (dk_at dksX3_moves_2_0 2 rfl rfl)
theorem dX3_moves_2_5 : decode cX3_moves_2 5 = .ok (.aload_n 0, 1) := dk_42 (dk_at dksX3_moves_2_0 5 rfl rfl)
theorem dX3_moves_2_6 : decode cX3_moves_2 6 = .ok (.getfield 108, 3) := dk_180 0 108 (dk_at dksX3_moves_2_0 6 rfl rfl)
theorem dX3_moves_2_9 : decode cX3_moves_2 9 = .ok (.ireturn, 1) := dk_172 (dk_at dksX3_moves_2_0 9 rfl rfl)
abbrev cX3_book : ByteArray := prog_9_method_51_code
def yX3_book : MethodName := ⟨RX3, "book", "(III)I"⟩
def dkwX3_book_6 : List UInt8 := [180, 0, 123, 4, 96, 181, 0, 123, 42, 180, 0, 123, 4, 100, 172]
abbrev dktX3_book_6 : List UInt8 := dkwX3_book_6 ++ []
def dkwX3_book_5 : List UInt8 := [79, 42, 180, 0, 42, 42, 180, 0, 123, 29, 79, 42, 180, 0, 45, 42, 180, 0, 123, 16, 98, 85, 42, 89]
abbrev dktX3_book_5 : List UInt8 := dkwX3_book_5 ++ dktX3_book_6
def dkwX3_book_4 : List UInt8 := [7, 182, 0, 110, 172, 42, 180, 0, 36, 42, 180, 0, 123, 27, 79, 42, 180, 0, 39, 42, 180, 0, 123, 28]
abbrev dktX3_book_4 : List UInt8 := dkwX3_book_4 ++ dktX3_book_5
def dkwX3_book_3 : List UInt8 := [2, 160, 0, 22, 42, 29, 28, 182, 0, 148, 2, 160, 0, 12, 42, 180, 0, 123, 16, 30, 160, 0, 9, 42]
abbrev dktX3_book_3 : List UInt8 := dkwX3_book_3 ++ dktX3_book_4
def dkwX3_book_2 : List UInt8 := [182, 0, 110, 172, 42, 27, 28, 182, 0, 145, 153, 0, 9, 42, 6, 182, 0, 110, 172, 42, 27, 182, 0, 129]
abbrev dktX3_book_2 : List UInt8 := dkwX3_book_2 ++ dktX3_book_3
def dkwX3_book_1 : List UInt8 := [182, 0, 110, 172, 28, 42, 180, 0, 126, 4, 96, 17, 3, 231, 184, 0, 55, 154, 0, 9, 42, 5]
abbrev dktX3_book_1 : List UInt8 := dkwX3_book_1 ++ dktX3_book_2
def dkwX3_book_0 : List UInt8 := [42, 3, 181, 0, 48, 42, 27, 182, 0, 120, 153, 0, 12, 29, 3, 5, 184, 0, 55, 154, 0, 9, 42, 4]
abbrev dktX3_book_0 : List UInt8 := dkwX3_book_0 ++ dktX3_book_1
theorem dksX3_book_0 : cX3_book.data.toList.drop 0 = dktX3_book_0 := by decide +kernel
theorem dksX3_book_1 : cX3_book.data.toList.drop 24 = dktX3_book_1 := dk_seg dksX3_book_0 24 rfl rfl
theorem dksX3_book_2 : cX3_book.data.toList.drop 46 = dktX3_book_2 := dk_seg dksX3_book_1 22 rfl rfl
theorem dksX3_book_3 : cX3_book.data.toList.drop 70 = dktX3_book_3 := dk_seg dksX3_book_2 24 rfl rfl
theorem dksX3_book_4 : cX3_book.data.toList.drop 94 = dktX3_book_4 := dk_seg dksX3_book_3 24 rfl rfl
theorem dksX3_book_5 : cX3_book.data.toList.drop 118 = dktX3_book_5 := dk_seg dksX3_book_4 24 rfl rfl
theorem dksX3_book_6 : cX3_book.data.toList.drop 142 = dktX3_book_6 := dk_seg dksX3_book_5 24 rfl rfl
theorem dX3_book_0 : decode cX3_book 0 = .ok (.aload_n 0, 1) := dk_42 (dk_at dksX3_book_0 0 rfl rfl)
theorem dX3_book_1 : decode cX3_book 1 = .ok (.iconst 0, 1) := dk_3 (dk_at dksX3_book_0 1 rfl rfl)
theorem dX3_book_2 : decode cX3_book 2 = .ok (.putfield 48, 3) := dk_181 0 48 (dk_at dksX3_book_0 2 rfl rfl)
theorem dX3_book_5 : decode cX3_book 5 = .ok (.aload_n 0, 1) := dk_42 (dk_at dksX3_book_0 5 rfl rfl)
theorem dX3_book_6 : decode cX3_book 6 = .ok (.iload_n 1, 1) := dk_27 (dk_at dksX3_book_0 6 rfl rfl)
theorem dX3_book_7 : decode cX3_book 7 = .ok (.invokevirtual 120, 3) := dk_182 0 120 (dk_at dksX3_book_0 7 rfl rfl)
theorem dX3_book_10 : decode cX3_book 10 = .ok (.ifCond .eq 12, 3) := dk_153 0 12 (dk_at dksX3_book_0 10 rfl rfl)
theorem dX3_book_13 : decode cX3_book 13 = .ok (.iload_n 3, 1) := dk_29 (dk_at dksX3_book_0 13 rfl rfl)
theorem dX3_book_14 : decode cX3_book 14 = .ok (.iconst 0, 1) := dk_3 (dk_at dksX3_book_0 14 rfl rfl)
theorem dX3_book_15 : decode cX3_book 15 = .ok (.iconst 2, 1) := dk_5 (dk_at dksX3_book_0 15 rfl rfl)
theorem dX3_book_16 : decode cX3_book 16 = .ok (.invokestatic 55, 3) := dk_184 0 55 (dk_at dksX3_book_0 16 rfl rfl)
theorem dX3_book_19 : decode cX3_book 19 = .ok (.ifCond .ne 9, 3) := dk_154 0 9 (dk_at dksX3_book_0 19 rfl rfl)
theorem dX3_book_22 : decode cX3_book 22 = .ok (.aload_n 0, 1) := dk_42 (dk_at dksX3_book_0 22 rfl rfl)
theorem dX3_book_23 : decode cX3_book 23 = .ok (.iconst 1, 1) := dk_4 (dk_at dksX3_book_0 23 rfl rfl)
theorem dX3_book_24 : decode cX3_book 24 = .ok (.invokevirtual 110, 3) := dk_182 0 110 (dk_at dksX3_book_1 0 rfl rfl)
theorem dX3_book_27 : decode cX3_book 27 = .ok (.ireturn, 1) := dk_172 (dk_at dksX3_book_1 3 rfl rfl)
theorem dX3_book_28 : decode cX3_book 28 = .ok (.iload_n 2, 1) := dk_28 (dk_at dksX3_book_1 4 rfl rfl)
theorem dX3_book_29 : decode cX3_book 29 = .ok (.aload_n 0, 1) := dk_42 (dk_at dksX3_book_1 5 rfl rfl)
theorem dX3_book_30 : decode cX3_book 30 = .ok (.getfield 126, 3) := dk_180 0 126 (dk_at dksX3_book_1 6 rfl rfl)
theorem dX3_book_33 : decode cX3_book 33 = .ok (.iconst 1, 1) := dk_4 (dk_at dksX3_book_1 9 rfl rfl)
theorem dX3_book_34 : decode cX3_book 34 = .ok (.iadd, 1) := dk_96 (dk_at dksX3_book_1 10 rfl rfl)
theorem dX3_book_35 : decode cX3_book 35 = .ok (.sipush 999, 3) := dk_17 3 231 (dk_at dksX3_book_1 11 rfl rfl)
theorem dX3_book_38 : decode cX3_book 38 = .ok (.invokestatic 55, 3) := dk_184 0 55 (dk_at dksX3_book_1 14 rfl rfl)
theorem dX3_book_41 : decode cX3_book 41 = .ok (.ifCond .ne 9, 3) := dk_154 0 9 (dk_at dksX3_book_1 17 rfl rfl)
theorem dX3_book_44 : decode cX3_book 44 = .ok (.aload_n 0, 1) := dk_42 (dk_at dksX3_book_1 20 rfl rfl)
theorem dX3_book_45 : decode cX3_book 45 = .ok (.iconst 2, 1) := dk_5 (dk_at dksX3_book_1 21 rfl rfl)
theorem dX3_book_46 : decode cX3_book 46 = .ok (.invokevirtual 110, 3) := dk_182 0 110 (dk_at dksX3_book_2 0 rfl rfl)
theorem dX3_book_49 : decode cX3_book 49 = .ok (.ireturn, 1) := dk_172 (dk_at dksX3_book_2 3 rfl rfl)
theorem dX3_book_50 : decode cX3_book 50 = .ok (.aload_n 0, 1) := dk_42 (dk_at dksX3_book_2 4 rfl rfl)
theorem dX3_book_51 : decode cX3_book 51 = .ok (.iload_n 1, 1) := dk_27 (dk_at dksX3_book_2 5 rfl rfl)
theorem dX3_book_52 : decode cX3_book 52 = .ok (.iload_n 2, 1) := dk_28 (dk_at dksX3_book_2 6 rfl rfl)
theorem dX3_book_53 : decode cX3_book 53 = .ok (.invokevirtual 145, 3) := dk_182 0 145 (dk_at dksX3_book_2 7 rfl rfl)
theorem dX3_book_56 : decode cX3_book 56 = .ok (.ifCond .eq 9, 3) := dk_153 0 9 (dk_at dksX3_book_2 10 rfl rfl)
theorem dX3_book_59 : decode cX3_book 59 = .ok (.aload_n 0, 1) := dk_42 (dk_at dksX3_book_2 13 rfl rfl)
theorem dX3_book_60 : decode cX3_book 60 = .ok (.iconst 3, 1) := dk_6 (dk_at dksX3_book_2 14 rfl rfl)
theorem dX3_book_61 : decode cX3_book 61 = .ok (.invokevirtual 110, 3) := dk_182 0 110 (dk_at dksX3_book_2 15 rfl rfl)
theorem dX3_book_64 : decode cX3_book 64 = .ok (.ireturn, 1) := dk_172 (dk_at dksX3_book_2 18 rfl rfl)
theorem dX3_book_65 : decode cX3_book 65 = .ok (.aload_n 0, 1) := dk_42 (dk_at dksX3_book_2 19 rfl rfl)
theorem dX3_book_66 : decode cX3_book 66 = .ok (.iload_n 1, 1) := dk_27 (dk_at dksX3_book_2 20 rfl rfl)
theorem dX3_book_67 : decode cX3_book 67 = .ok (.invokevirtual 129, 3) := dk_182 0 129 (dk_at dksX3_book_2 21 rfl rfl)
theorem dX3_book_70 : decode cX3_book 70 = .ok (.iconst (-1), 1) := dk_2 (dk_at dksX3_book_3 0 rfl rfl)
theorem dX3_book_71 : decode cX3_book 71 = .ok (.if_icmp .ne 22, 3) := dk_160 0 22 (dk_at dksX3_book_3 1 rfl rfl)
theorem dX3_book_74 : decode cX3_book 74 = .ok (.aload_n 0, 1) := dk_42 (dk_at dksX3_book_3 4 rfl rfl)
theorem dX3_book_75 : decode cX3_book 75 = .ok (.iload_n 3, 1) := dk_29 (dk_at dksX3_book_3 5 rfl rfl)
theorem dX3_book_76 : decode cX3_book 76 = .ok (.iload_n 2, 1) := dk_28 (dk_at dksX3_book_3 6 rfl rfl)
theorem dX3_book_77 : decode cX3_book 77 = .ok (.invokevirtual 148, 3) := dk_182 0 148 (dk_at dksX3_book_3 7 rfl rfl)
theorem dX3_book_80 : decode cX3_book 80 = .ok (.iconst (-1), 1) := dk_2 (dk_at dksX3_book_3 10 rfl rfl)
theorem dX3_book_81 : decode cX3_book 81 = .ok (.if_icmp .ne 12, 3) := dk_160 0 12 (dk_at dksX3_book_3 11 rfl rfl)
theorem dX3_book_84 : decode cX3_book 84 = .ok (.aload_n 0, 1) := dk_42 (dk_at dksX3_book_3 14 rfl rfl)
theorem dX3_book_85 : decode cX3_book 85 = .ok (.getfield 123, 3) := dk_180 0 123 (dk_at dksX3_book_3 15 rfl rfl)
theorem dX3_book_88 : decode cX3_book 88 = .ok (.bipush 30, 2) := dk_16 30 (dk_at dksX3_book_3 18 rfl rfl)
theorem dX3_book_90 : decode cX3_book 90 = .ok (.if_icmp .ne 9, 3) := dk_160 0 9 (dk_at dksX3_book_3 20 rfl rfl)
theorem dX3_book_93 : decode cX3_book 93 = .ok (.aload_n 0, 1) := dk_42 (dk_at dksX3_book_3 23 rfl rfl)
theorem dX3_book_94 : decode cX3_book 94 = .ok (.iconst 4, 1) := dk_7 (dk_at dksX3_book_4 0 rfl rfl)
theorem dX3_book_95 : decode cX3_book 95 = .ok (.invokevirtual 110, 3) := dk_182 0 110 (dk_at dksX3_book_4 1 rfl rfl)
theorem dX3_book_98 : decode cX3_book 98 = .ok (.ireturn, 1) := dk_172 (dk_at dksX3_book_4 4 rfl rfl)
theorem dX3_book_99 : decode cX3_book 99 = .ok (.aload_n 0, 1) := dk_42 (dk_at dksX3_book_4 5 rfl rfl)
theorem dX3_book_100 : decode cX3_book 100 = .ok (.getfield 36, 3) := dk_180 0 36 (dk_at dksX3_book_4 6 rfl rfl)
theorem dX3_book_103 : decode cX3_book 103 = .ok (.aload_n 0, 1) := dk_42 (dk_at dksX3_book_4 9 rfl rfl)
theorem dX3_book_104 : decode cX3_book 104 = .ok (.getfield 123, 3) := dk_180 0 123 (dk_at dksX3_book_4 10 rfl rfl)
theorem dX3_book_107 : decode cX3_book 107 = .ok (.iload_n 1, 1) := dk_27 (dk_at dksX3_book_4 13 rfl rfl)
theorem dX3_book_108 : decode cX3_book 108 = .ok (.iastore, 1) := dk_79 (dk_at dksX3_book_4 14 rfl rfl)
theorem dX3_book_109 : decode cX3_book 109 = .ok (.aload_n 0, 1) := dk_42 (dk_at dksX3_book_4 15 rfl rfl)
theorem dX3_book_110 : decode cX3_book 110 = .ok (.getfield 39, 3) := dk_180 0 39 (dk_at dksX3_book_4 16 rfl rfl)
theorem dX3_book_113 : decode cX3_book 113 = .ok (.aload_n 0, 1) := dk_42 (dk_at dksX3_book_4 19 rfl rfl)
theorem dX3_book_114 : decode cX3_book 114 = .ok (.getfield 123, 3) := dk_180 0 123 (dk_at dksX3_book_4 20 rfl rfl)
theorem dX3_book_117 : decode cX3_book 117 = .ok (.iload_n 2, 1) := dk_28 (dk_at dksX3_book_4 23 rfl rfl)
theorem dX3_book_118 : decode cX3_book 118 = .ok (.iastore, 1) := dk_79 (dk_at dksX3_book_5 0 rfl rfl)
theorem dX3_book_119 : decode cX3_book 119 = .ok (.aload_n 0, 1) := dk_42 (dk_at dksX3_book_5 1 rfl rfl)
theorem dX3_book_120 : decode cX3_book 120 = .ok (.getfield 42, 3) := dk_180 0 42 (dk_at dksX3_book_5 2 rfl rfl)
theorem dX3_book_123 : decode cX3_book 123 = .ok (.aload_n 0, 1) := dk_42 (dk_at dksX3_book_5 5 rfl rfl)
theorem dX3_book_124 : decode cX3_book 124 = .ok (.getfield 123, 3) := dk_180 0 123 (dk_at dksX3_book_5 6 rfl rfl)
theorem dX3_book_127 : decode cX3_book 127 = .ok (.iload_n 3, 1) := dk_29 (dk_at dksX3_book_5 9 rfl rfl)
theorem dX3_book_128 : decode cX3_book 128 = .ok (.iastore, 1) := dk_79 (dk_at dksX3_book_5 10 rfl rfl)
theorem dX3_book_129 : decode cX3_book 129 = .ok (.aload_n 0, 1) := dk_42 (dk_at dksX3_book_5 11 rfl rfl)
theorem dX3_book_130 : decode cX3_book 130 = .ok (.getfield 45, 3) := dk_180 0 45 (dk_at dksX3_book_5 12 rfl rfl)
theorem dX3_book_133 : decode cX3_book 133 = .ok (.aload_n 0, 1) := dk_42 (dk_at dksX3_book_5 15 rfl rfl)
theorem dX3_book_134 : decode cX3_book 134 = .ok (.getfield 123, 3) := dk_180 0 123 (dk_at dksX3_book_5 16 rfl rfl)
theorem dX3_book_137 : decode cX3_book 137 = .ok (.bipush 98, 2) := dk_16 98 (dk_at dksX3_book_5 19 rfl rfl)
theorem dX3_book_139 : decode cX3_book 139 = .ok (.castore, 1) := dk_85 (dk_at dksX3_book_5 21 rfl rfl)
theorem dX3_book_140 : decode cX3_book 140 = .ok (.aload_n 0, 1) := dk_42 (dk_at dksX3_book_5 22 rfl rfl)
theorem dX3_book_141 : decode cX3_book 141 = .ok (.dup, 1) := dk_89 (dk_at dksX3_book_5 23 rfl rfl)
theorem dX3_book_142 : decode cX3_book 142 = .ok (.getfield 123, 3) := dk_180 0 123 (dk_at dksX3_book_6 0 rfl rfl)
theorem dX3_book_145 : decode cX3_book 145 = .ok (.iconst 1, 1) := dk_4 (dk_at dksX3_book_6 3 rfl rfl)
theorem dX3_book_146 : decode cX3_book 146 = .ok (.iadd, 1) := dk_96 (dk_at dksX3_book_6 4 rfl rfl)
theorem dX3_book_147 : decode cX3_book 147 = .ok (.putfield 123, 3) := dk_181 0 123 (dk_at dksX3_book_6 5 rfl rfl)
theorem dX3_book_150 : decode cX3_book 150 = .ok (.aload_n 0, 1) := dk_42 (dk_at dksX3_book_6 8 rfl rfl)
theorem dX3_book_151 : decode cX3_book 151 = .ok (.getfield 123, 3) := dk_180 0 123 (dk_at dksX3_book_6 9 rfl rfl)
theorem dX3_book_154 : decode cX3_book 154 = .ok (.iconst 1, 1) := dk_4 (dk_at dksX3_book_6 12 rfl rfl)
theorem dX3_book_155 : decode cX3_book 155 = .ok (.isub, 1) := dk_100 (dk_at dksX3_book_6 13 rfl rfl)
theorem dX3_book_156 : decode cX3_book 156 = .ok (.ireturn, 1) := dk_172 (dk_at dksX3_book_6 14 rfl rfl)
abbrev cX3_isHeldIn : ByteArray := prog_9_method_50_code
def yX3_isHeldIn : MethodName := ⟨RX3, "isHeldIn", "(II)Z"⟩
def dkwX3_isHeldIn_1 : List UInt8 := [167, 0, 4, 3, 172]
abbrev dktX3_isHeldIn_1 : List UInt8 := dkwX3_isHeldIn_1 ++ []
def dkwX3_isHeldIn_0 : List UInt8 := [42, 180, 0, 20, 27, 52, 16, 45, 159, 0, 17, 28, 42, 180, 0, 24, 27, 46, 162, 0, 7, 4]
abbrev dktX3_isHeldIn_0 : List UInt8 := dkwX3_isHeldIn_0 ++ dktX3_isHeldIn_1
theorem dksX3_isHeldIn_0 : cX3_isHeldIn.data.toList.drop 0 = dktX3_isHeldIn_0 := by decide +kernel
theorem dksX3_isHeldIn_1 : cX3_isHeldIn.data.toList.drop 22 = dktX3_isHeldIn_1 := dk_seg dksX3_isHeldIn_0 22 rfl rfl
theorem dX3_isHeldIn_0 : decode cX3_isHeldIn 0 = .ok (.aload_n 0, 1) := dk_42 (dk_at dksX3_isHeldIn_0 0 rfl rfl)
theorem dX3_isHeldIn_1 : decode cX3_isHeldIn 1 = .ok (.getfield 20, 3) := dk_180 0 20 (dk_at dksX3_isHeldIn_0 1 rfl rfl)
theorem dX3_isHeldIn_4 : decode cX3_isHeldIn 4 = .ok (.iload_n 1, 1) := dk_27 (dk_at dksX3_isHeldIn_0 4 rfl rfl)
theorem dX3_isHeldIn_5 : decode cX3_isHeldIn 5 = .ok (.caload, 1) := dk_52 (dk_at dksX3_isHeldIn_0 5 rfl rfl)
theorem dX3_isHeldIn_6 : decode cX3_isHeldIn 6 = .ok (.bipush 45, 2) := dk_16 45 (dk_at dksX3_isHeldIn_0 6 rfl rfl)
theorem dX3_isHeldIn_8 : decode cX3_isHeldIn 8 = .ok (.if_icmp .eq 17, 3) := dk_159 0 17 (dk_at dksX3_isHeldIn_0 8 rfl rfl)
theorem dX3_isHeldIn_11 : decode cX3_isHeldIn 11 = .ok (.iload_n 2, 1) := dk_28 (dk_at dksX3_isHeldIn_0 11 rfl rfl)
theorem dX3_isHeldIn_12 : decode cX3_isHeldIn 12 = .ok (.aload_n 0, 1) := dk_42 (dk_at dksX3_isHeldIn_0 12 rfl rfl)
theorem dX3_isHeldIn_13 : decode cX3_isHeldIn 13 = .ok (.getfield 24, 3) := dk_180 0 24 (dk_at dksX3_isHeldIn_0 13 rfl rfl)
theorem dX3_isHeldIn_16 : decode cX3_isHeldIn 16 = .ok (.iload_n 1, 1) := dk_27 (dk_at dksX3_isHeldIn_0 16 rfl rfl)
theorem dX3_isHeldIn_17 : decode cX3_isHeldIn 17 = .ok (.iaload, 1) := dk_46 (dk_at dksX3_isHeldIn_0 17 rfl rfl)
theorem dX3_isHeldIn_18 : decode cX3_isHeldIn 18 = .ok (.if_icmp .ge 7, 3) := dk_162 0 7 (dk_at dksX3_isHeldIn_0 18 rfl rfl)
theorem dX3_isHeldIn_21 : decode cX3_isHeldIn 21 = .ok (.iconst 1, 1) := dk_4 (dk_at dksX3_isHeldIn_0 21 rfl rfl)
theorem dX3_isHeldIn_22 : decode cX3_isHeldIn 22 = .ok (.goto 4, 3) := dk_167 0 4 (dk_at dksX3_isHeldIn_1 0 rfl rfl)
theorem dX3_isHeldIn_25 : decode cX3_isHeldIn 25 = .ok (.iconst 0, 1) := dk_3 (dk_at dksX3_isHeldIn_1 3 rfl rfl)
theorem dX3_isHeldIn_26 : decode cX3_isHeldIn 26 = .ok (.ireturn, 1) := dk_172 (dk_at dksX3_isHeldIn_1 4 rfl rfl)
abbrev cX3_bookedIn : ByteArray := prog_9_method_49_code
def yX3_bookedIn : MethodName := ⟨RX3, "bookedIn", "(II)I"⟩
def dkwX3_bookedIn_2 : List UInt8 := [167, 255, 212, 2, 172]
abbrev dktX3_bookedIn_2 : List UInt8 := dkwX3_bookedIn_2 ++ []
def dkwX3_bookedIn_1 : List UInt8 := [29, 46, 28, 160, 0, 16, 42, 180, 0, 45, 29, 52, 16, 98, 160, 0, 5, 29, 172, 132, 3, 1]
abbrev dktX3_bookedIn_1 : List UInt8 := dkwX3_bookedIn_1 ++ dktX3_bookedIn_2
def dkwX3_bookedIn_0 : List UInt8 := [3, 62, 29, 42, 180, 0, 123, 162, 0, 42, 42, 180, 0, 42, 29, 46, 27, 160, 0, 26, 42, 180, 0, 39]
abbrev dktX3_bookedIn_0 : List UInt8 := dkwX3_bookedIn_0 ++ dktX3_bookedIn_1
theorem dksX3_bookedIn_0 : cX3_bookedIn.data.toList.drop 0 = dktX3_bookedIn_0 := by decide +kernel
theorem dksX3_bookedIn_1 : cX3_bookedIn.data.toList.drop 24 = dktX3_bookedIn_1 := dk_seg dksX3_bookedIn_0 24 rfl rfl
theorem dksX3_bookedIn_2 : cX3_bookedIn.data.toList.drop 46 = dktX3_bookedIn_2 := dk_seg dksX3_bookedIn_1 22 rfl rfl
theorem dX3_bookedIn_0 : decode cX3_bookedIn 0 = .ok (.iconst 0, 1) := dk_3 (dk_at dksX3_bookedIn_0 0 rfl rfl)
theorem dX3_bookedIn_1 : decode cX3_bookedIn 1 = .ok (.istore_n 3, 1) := dk_62 (dk_at dksX3_bookedIn_0 1 rfl rfl)
theorem dX3_bookedIn_2 : decode cX3_bookedIn 2 = .ok (.iload_n 3, 1) := dk_29 (dk_at dksX3_bookedIn_0 2 rfl rfl)
theorem dX3_bookedIn_3 : decode cX3_bookedIn 3 = .ok (.aload_n 0, 1) := dk_42 (dk_at dksX3_bookedIn_0 3 rfl rfl)
theorem dX3_bookedIn_4 : decode cX3_bookedIn 4 = .ok (.getfield 123, 3) := dk_180 0 123 (dk_at dksX3_bookedIn_0 4 rfl rfl)
theorem dX3_bookedIn_7 : decode cX3_bookedIn 7 = .ok (.if_icmp .ge 42, 3) := dk_162 0 42 (dk_at dksX3_bookedIn_0 7 rfl rfl)
theorem dX3_bookedIn_10 : decode cX3_bookedIn 10 = .ok (.aload_n 0, 1) := dk_42 (dk_at dksX3_bookedIn_0 10 rfl rfl)
theorem dX3_bookedIn_11 : decode cX3_bookedIn 11 = .ok (.getfield 42, 3) := dk_180 0 42 (dk_at dksX3_bookedIn_0 11 rfl rfl)
theorem dX3_bookedIn_14 : decode cX3_bookedIn 14 = .ok (.iload_n 3, 1) := dk_29 (dk_at dksX3_bookedIn_0 14 rfl rfl)
theorem dX3_bookedIn_15 : decode cX3_bookedIn 15 = .ok (.iaload, 1) := dk_46 (dk_at dksX3_bookedIn_0 15 rfl rfl)
theorem dX3_bookedIn_16 : decode cX3_bookedIn 16 = .ok (.iload_n 1, 1) := dk_27 (dk_at dksX3_bookedIn_0 16 rfl rfl)
theorem dX3_bookedIn_17 : decode cX3_bookedIn 17 = .ok (.if_icmp .ne 26, 3) := dk_160 0 26 (dk_at dksX3_bookedIn_0 17 rfl rfl)
theorem dX3_bookedIn_20 : decode cX3_bookedIn 20 = .ok (.aload_n 0, 1) := dk_42 (dk_at dksX3_bookedIn_0 20 rfl rfl)
theorem dX3_bookedIn_21 : decode cX3_bookedIn 21 = .ok (.getfield 39, 3) := dk_180 0 39 (dk_at dksX3_bookedIn_0 21 rfl rfl)
theorem dX3_bookedIn_24 : decode cX3_bookedIn 24 = .ok (.iload_n 3, 1) := dk_29 (dk_at dksX3_bookedIn_1 0 rfl rfl)
theorem dX3_bookedIn_25 : decode cX3_bookedIn 25 = .ok (.iaload, 1) := dk_46 (dk_at dksX3_bookedIn_1 1 rfl rfl)
theorem dX3_bookedIn_26 : decode cX3_bookedIn 26 = .ok (.iload_n 2, 1) := dk_28 (dk_at dksX3_bookedIn_1 2 rfl rfl)
theorem dX3_bookedIn_27 : decode cX3_bookedIn 27 = .ok (.if_icmp .ne 16, 3) := dk_160 0 16 (dk_at dksX3_bookedIn_1 3 rfl rfl)
theorem dX3_bookedIn_30 : decode cX3_bookedIn 30 = .ok (.aload_n 0, 1) := dk_42 (dk_at dksX3_bookedIn_1 6 rfl rfl)
theorem dX3_bookedIn_31 : decode cX3_bookedIn 31 = .ok (.getfield 45, 3) := dk_180 0 45 (dk_at dksX3_bookedIn_1 7 rfl rfl)
theorem dX3_bookedIn_34 : decode cX3_bookedIn 34 = .ok (.iload_n 3, 1) := dk_29 (dk_at dksX3_bookedIn_1 10 rfl rfl)
theorem dX3_bookedIn_35 : decode cX3_bookedIn 35 = .ok (.caload, 1) := dk_52 (dk_at dksX3_bookedIn_1 11 rfl rfl)
theorem dX3_bookedIn_36 : decode cX3_bookedIn 36 = .ok (.bipush 98, 2) := dk_16 98 (dk_at dksX3_bookedIn_1 12 rfl rfl)
theorem dX3_bookedIn_38 : decode cX3_bookedIn 38 = .ok (.if_icmp .ne 5, 3) := dk_160 0 5 (dk_at dksX3_bookedIn_1 14 rfl rfl)
theorem dX3_bookedIn_41 : decode cX3_bookedIn 41 = .ok (.iload_n 3, 1) := dk_29 (dk_at dksX3_bookedIn_1 17 rfl rfl)
theorem dX3_bookedIn_42 : decode cX3_bookedIn 42 = .ok (.ireturn, 1) := dk_172 (dk_at dksX3_bookedIn_1 18 rfl rfl)
theorem dX3_bookedIn_43 : decode cX3_bookedIn 43 = .ok (.iinc 3 1, 3) := dk_132 3 1 (dk_at dksX3_bookedIn_1 19 rfl rfl)
theorem dX3_bookedIn_46 : decode cX3_bookedIn 46 = .ok (.goto (-44), 3) := dk_167 255 212 (dk_at dksX3_bookedIn_2 0 rfl rfl)
theorem dX3_bookedIn_49 : decode cX3_bookedIn 49 = .ok (.iconst (-1), 1) := dk_2 (dk_at dksX3_bookedIn_2 3 rfl rfl)
theorem dX3_bookedIn_50 : decode cX3_bookedIn 50 = .ok (.ireturn, 1) := dk_172 (dk_at dksX3_bookedIn_2 4 rfl rfl)
abbrev cX3_cancel : ByteArray := prog_9_method_53_code
def yX3_cancel : MethodName := ⟨RX3, "cancel", "(I)I"⟩
def dkwX3_cancel_2 : List UInt8 := [16, 99, 85, 42, 16, 98, 182, 0, 151, 172]
abbrev dktX3_cancel_2 : List UInt8 := dkwX3_cancel_2 ++ []
def dkwX3_cancel_1 : List UInt8 := [172, 42, 180, 0, 45, 27, 52, 16, 98, 159, 0, 9, 42, 5, 182, 0, 110, 172, 42, 180, 0, 45, 27]
abbrev dktX3_cancel_1 : List UInt8 := dkwX3_cancel_1 ++ dktX3_cancel_2
def dkwX3_cancel_0 : List UInt8 := [42, 3, 181, 0, 48, 27, 3, 42, 180, 0, 123, 4, 100, 184, 0, 55, 154, 0, 9, 42, 4, 182, 0, 110]
abbrev dktX3_cancel_0 : List UInt8 := dkwX3_cancel_0 ++ dktX3_cancel_1
theorem dksX3_cancel_0 : cX3_cancel.data.toList.drop 0 = dktX3_cancel_0 := by decide +kernel
theorem dksX3_cancel_1 : cX3_cancel.data.toList.drop 24 = dktX3_cancel_1 := dk_seg dksX3_cancel_0 24 rfl rfl
theorem dksX3_cancel_2 : cX3_cancel.data.toList.drop 47 = dktX3_cancel_2 := dk_seg dksX3_cancel_1 23 rfl rfl
theorem dX3_cancel_0 : decode cX3_cancel 0 = .ok (.aload_n 0, 1) := dk_42 (dk_at dksX3_cancel_0 0 rfl rfl)
theorem dX3_cancel_1 : decode cX3_cancel 1 = .ok (.iconst 0, 1) := dk_3 (dk_at dksX3_cancel_0 1 rfl rfl)
theorem dX3_cancel_2 : decode cX3_cancel 2 = .ok (.putfield 48, 3) := dk_181 0 48 (dk_at dksX3_cancel_0 2 rfl rfl)
theorem dX3_cancel_5 : decode cX3_cancel 5 = .ok (.iload_n 1, 1) := dk_27 (dk_at dksX3_cancel_0 5 rfl rfl)
theorem dX3_cancel_6 : decode cX3_cancel 6 = .ok (.iconst 0, 1) := dk_3 (dk_at dksX3_cancel_0 6 rfl rfl)
theorem dX3_cancel_7 : decode cX3_cancel 7 = .ok (.aload_n 0, 1) := dk_42 (dk_at dksX3_cancel_0 7 rfl rfl)
theorem dX3_cancel_8 : decode cX3_cancel 8 = .ok (.getfield 123, 3) := dk_180 0 123 (dk_at dksX3_cancel_0 8 rfl rfl)
theorem dX3_cancel_11 : decode cX3_cancel 11 = .ok (.iconst 1, 1) := dk_4 (dk_at dksX3_cancel_0 11 rfl rfl)
theorem dX3_cancel_12 : decode cX3_cancel 12 = .ok (.isub, 1) := dk_100 (dk_at dksX3_cancel_0 12 rfl rfl)
theorem dX3_cancel_13 : decode cX3_cancel 13 = .ok (.invokestatic 55, 3) := dk_184 0 55 (dk_at dksX3_cancel_0 13 rfl rfl)
theorem dX3_cancel_16 : decode cX3_cancel 16 = .ok (.ifCond .ne 9, 3) := dk_154 0 9 (dk_at dksX3_cancel_0 16 rfl rfl)
theorem dX3_cancel_19 : decode cX3_cancel 19 = .ok (.aload_n 0, 1) := dk_42 (dk_at dksX3_cancel_0 19 rfl rfl)
theorem dX3_cancel_20 : decode cX3_cancel 20 = .ok (.iconst 1, 1) := dk_4 (dk_at dksX3_cancel_0 20 rfl rfl)
theorem dX3_cancel_21 : decode cX3_cancel 21 = .ok (.invokevirtual 110, 3) := dk_182 0 110 (dk_at dksX3_cancel_0 21 rfl rfl)
theorem dX3_cancel_24 : decode cX3_cancel 24 = .ok (.ireturn, 1) := dk_172 (dk_at dksX3_cancel_1 0 rfl rfl)
theorem dX3_cancel_25 : decode cX3_cancel 25 = .ok (.aload_n 0, 1) := dk_42 (dk_at dksX3_cancel_1 1 rfl rfl)
theorem dX3_cancel_26 : decode cX3_cancel 26 = .ok (.getfield 45, 3) := dk_180 0 45 (dk_at dksX3_cancel_1 2 rfl rfl)
theorem dX3_cancel_29 : decode cX3_cancel 29 = .ok (.iload_n 1, 1) := dk_27 (dk_at dksX3_cancel_1 5 rfl rfl)
theorem dX3_cancel_30 : decode cX3_cancel 30 = .ok (.caload, 1) := dk_52 (dk_at dksX3_cancel_1 6 rfl rfl)
theorem dX3_cancel_31 : decode cX3_cancel 31 = .ok (.bipush 98, 2) := dk_16 98 (dk_at dksX3_cancel_1 7 rfl rfl)
theorem dX3_cancel_33 : decode cX3_cancel 33 = .ok (.if_icmp .eq 9, 3) := dk_159 0 9 (dk_at dksX3_cancel_1 9 rfl rfl)
theorem dX3_cancel_36 : decode cX3_cancel 36 = .ok (.aload_n 0, 1) := dk_42 (dk_at dksX3_cancel_1 12 rfl rfl)
theorem dX3_cancel_37 : decode cX3_cancel 37 = .ok (.iconst 2, 1) := dk_5 (dk_at dksX3_cancel_1 13 rfl rfl)
theorem dX3_cancel_38 : decode cX3_cancel 38 = .ok (.invokevirtual 110, 3) := dk_182 0 110 (dk_at dksX3_cancel_1 14 rfl rfl)
theorem dX3_cancel_41 : decode cX3_cancel 41 = .ok (.ireturn, 1) := dk_172 (dk_at dksX3_cancel_1 17 rfl rfl)
theorem dX3_cancel_42 : decode cX3_cancel 42 = .ok (.aload_n 0, 1) := dk_42 (dk_at dksX3_cancel_1 18 rfl rfl)
theorem dX3_cancel_43 : decode cX3_cancel 43 = .ok (.getfield 45, 3) := dk_180 0 45 (dk_at dksX3_cancel_1 19 rfl rfl)
theorem dX3_cancel_46 : decode cX3_cancel 46 = .ok (.iload_n 1, 1) := dk_27 (dk_at dksX3_cancel_1 22 rfl rfl)
theorem dX3_cancel_47 : decode cX3_cancel 47 = .ok (.bipush 99, 2) := dk_16 99 (dk_at dksX3_cancel_2 0 rfl rfl)
theorem dX3_cancel_49 : decode cX3_cancel 49 = .ok (.castore, 1) := dk_85 (dk_at dksX3_cancel_2 2 rfl rfl)
theorem dX3_cancel_50 : decode cX3_cancel 50 = .ok (.aload_n 0, 1) := dk_42 (dk_at dksX3_cancel_2 3 rfl rfl)
theorem dX3_cancel_51 : decode cX3_cancel 51 = .ok (.bipush 98, 2) := dk_16 98 (dk_at dksX3_cancel_2 4 rfl rfl)
theorem dX3_cancel_53 : decode cX3_cancel 53 = .ok (.invokevirtual 151, 3) := dk_182 0 151 (dk_at dksX3_cancel_2 6 rfl rfl)
theorem dX3_cancel_56 : decode cX3_cancel 56 = .ok (.ireturn, 1) := dk_172 (dk_at dksX3_cancel_2 9 rfl rfl)
abbrev cX3_counted : ByteArray := prog_9_method_52_code
def yX3_counted : MethodName := ⟨RX3, "counted", "(C)I"⟩
def dkwX3_counted_1 : List UInt8 := [167, 0, 4, 3, 96, 61, 132, 3, 1, 167, 255, 227, 28, 172]
abbrev dktX3_counted_1 : List UInt8 := dkwX3_counted_1 ++ []
def dkwX3_counted_0 : List UInt8 := [3, 61, 3, 62, 29, 42, 180, 0, 123, 162, 0, 27, 28, 42, 180, 0, 45, 29, 52, 27, 160, 0, 7, 4]
abbrev dktX3_counted_0 : List UInt8 := dkwX3_counted_0 ++ dktX3_counted_1
theorem dksX3_counted_0 : cX3_counted.data.toList.drop 0 = dktX3_counted_0 := by decide +kernel
theorem dksX3_counted_1 : cX3_counted.data.toList.drop 24 = dktX3_counted_1 := dk_seg dksX3_counted_0 24 rfl rfl
theorem dX3_counted_0 : decode cX3_counted 0 = .ok (.iconst 0, 1) := dk_3 (dk_at dksX3_counted_0 0 rfl rfl)
theorem dX3_counted_1 : decode cX3_counted 1 = .ok (.istore_n 2, 1) := dk_61 (dk_at dksX3_counted_0 1 rfl rfl)
theorem dX3_counted_2 : decode cX3_counted 2 = .ok (.iconst 0, 1) := dk_3 (dk_at dksX3_counted_0 2 rfl rfl)
theorem dX3_counted_3 : decode cX3_counted 3 = .ok (.istore_n 3, 1) := dk_62 (dk_at dksX3_counted_0 3 rfl rfl)
theorem dX3_counted_4 : decode cX3_counted 4 = .ok (.iload_n 3, 1) := dk_29 (dk_at dksX3_counted_0 4 rfl rfl)
theorem dX3_counted_5 : decode cX3_counted 5 = .ok (.aload_n 0, 1) := dk_42 (dk_at dksX3_counted_0 5 rfl rfl)
theorem dX3_counted_6 : decode cX3_counted 6 = .ok (.getfield 123, 3) := dk_180 0 123 (dk_at dksX3_counted_0 6 rfl rfl)
theorem dX3_counted_9 : decode cX3_counted 9 = .ok (.if_icmp .ge 27, 3) := dk_162 0 27 (dk_at dksX3_counted_0 9 rfl rfl)
theorem dX3_counted_12 : decode cX3_counted 12 = .ok (.iload_n 2, 1) := dk_28 (dk_at dksX3_counted_0 12 rfl rfl)
theorem dX3_counted_13 : decode cX3_counted 13 = .ok (.aload_n 0, 1) := dk_42 (dk_at dksX3_counted_0 13 rfl rfl)
theorem dX3_counted_14 : decode cX3_counted 14 = .ok (.getfield 45, 3) := dk_180 0 45 (dk_at dksX3_counted_0 14 rfl rfl)
theorem dX3_counted_17 : decode cX3_counted 17 = .ok (.iload_n 3, 1) := dk_29 (dk_at dksX3_counted_0 17 rfl rfl)
theorem dX3_counted_18 : decode cX3_counted 18 = .ok (.caload, 1) := dk_52 (dk_at dksX3_counted_0 18 rfl rfl)
theorem dX3_counted_19 : decode cX3_counted 19 = .ok (.iload_n 1, 1) := dk_27 (dk_at dksX3_counted_0 19 rfl rfl)
theorem dX3_counted_20 : decode cX3_counted 20 = .ok (.if_icmp .ne 7, 3) := dk_160 0 7 (dk_at dksX3_counted_0 20 rfl rfl)
theorem dX3_counted_23 : decode cX3_counted 23 = .ok (.iconst 1, 1) := dk_4 (dk_at dksX3_counted_0 23 rfl rfl)
theorem dX3_counted_24 : decode cX3_counted 24 = .ok (.goto 4, 3) := dk_167 0 4 (dk_at dksX3_counted_1 0 rfl rfl)
theorem dX3_counted_27 : decode cX3_counted 27 = .ok (.iconst 0, 1) := dk_3 (dk_at dksX3_counted_1 3 rfl rfl)
theorem dX3_counted_28 : decode cX3_counted 28 = .ok (.iadd, 1) := dk_96 (dk_at dksX3_counted_1 4 rfl rfl)
theorem dX3_counted_29 : decode cX3_counted 29 = .ok (.istore_n 2, 1) := dk_61 (dk_at dksX3_counted_1 5 rfl rfl)
theorem dX3_counted_30 : decode cX3_counted 30 = .ok (.iinc 3 1, 3) := dk_132 3 1 (dk_at dksX3_counted_1 6 rfl rfl)
theorem dX3_counted_33 : decode cX3_counted 33 = .ok (.goto (-29), 3) := dk_167 255 227 (dk_at dksX3_counted_1 9 rfl rfl)
theorem dX3_counted_36 : decode cX3_counted 36 = .ok (.iload_n 2, 1) := dk_28 (dk_at dksX3_counted_1 12 rfl rfl)
theorem dX3_counted_37 : decode cX3_counted 37 = .ok (.ireturn, 1) := dk_172 (dk_at dksX3_counted_1 13 rfl rfl)
abbrev cX3_stateOf : ByteArray := prog_9_method_54_code
def yX3_stateOf : MethodName := ⟨RX3, "stateOf", "(I)C"⟩
def dkwX3_stateOf_1 : List UInt8 := [180, 0, 48, 158, 0, 7, 3, 167, 0, 9, 42, 180, 0, 45, 27, 52, 172]
abbrev dktX3_stateOf_1 : List UInt8 := dkwX3_stateOf_1 ++ []
def dkwX3_stateOf_0 : List UInt8 := [42, 27, 3, 42, 180, 0, 123, 4, 100, 184, 0, 55, 153, 0, 7, 3, 167, 0, 4, 4, 181, 0, 48, 42]
abbrev dktX3_stateOf_0 : List UInt8 := dkwX3_stateOf_0 ++ dktX3_stateOf_1
theorem dksX3_stateOf_0 : cX3_stateOf.data.toList.drop 0 = dktX3_stateOf_0 := by decide +kernel
theorem dksX3_stateOf_1 : cX3_stateOf.data.toList.drop 24 = dktX3_stateOf_1 := dk_seg dksX3_stateOf_0 24 rfl rfl
theorem dX3_stateOf_0 : decode cX3_stateOf 0 = .ok (.aload_n 0, 1) := dk_42 (dk_at dksX3_stateOf_0 0 rfl rfl)
theorem dX3_stateOf_1 : decode cX3_stateOf 1 = .ok (.iload_n 1, 1) := dk_27 (dk_at dksX3_stateOf_0 1 rfl rfl)
theorem dX3_stateOf_2 : decode cX3_stateOf 2 = .ok (.iconst 0, 1) := dk_3 (dk_at dksX3_stateOf_0 2 rfl rfl)
theorem dX3_stateOf_3 : decode cX3_stateOf 3 = .ok (.aload_n 0, 1) := dk_42 (dk_at dksX3_stateOf_0 3 rfl rfl)
theorem dX3_stateOf_4 : decode cX3_stateOf 4 = .ok (.getfield 123, 3) := dk_180 0 123 (dk_at dksX3_stateOf_0 4 rfl rfl)
theorem dX3_stateOf_7 : decode cX3_stateOf 7 = .ok (.iconst 1, 1) := dk_4 (dk_at dksX3_stateOf_0 7 rfl rfl)
theorem dX3_stateOf_8 : decode cX3_stateOf 8 = .ok (.isub, 1) := dk_100 (dk_at dksX3_stateOf_0 8 rfl rfl)
theorem dX3_stateOf_9 : decode cX3_stateOf 9 = .ok (.invokestatic 55, 3) := dk_184 0 55 (dk_at dksX3_stateOf_0 9 rfl rfl)
theorem dX3_stateOf_12 : decode cX3_stateOf 12 = .ok (.ifCond .eq 7, 3) := dk_153 0 7 (dk_at dksX3_stateOf_0 12 rfl rfl)
theorem dX3_stateOf_15 : decode cX3_stateOf 15 = .ok (.iconst 0, 1) := dk_3 (dk_at dksX3_stateOf_0 15 rfl rfl)
theorem dX3_stateOf_16 : decode cX3_stateOf 16 = .ok (.goto 4, 3) := dk_167 0 4 (dk_at dksX3_stateOf_0 16 rfl rfl)
theorem dX3_stateOf_19 : decode cX3_stateOf 19 = .ok (.iconst 1, 1) := dk_4 (dk_at dksX3_stateOf_0 19 rfl rfl)
theorem dX3_stateOf_20 : decode cX3_stateOf 20 = .ok (.putfield 48, 3) := dk_181 0 48 (dk_at dksX3_stateOf_0 20 rfl rfl)
theorem dX3_stateOf_23 : decode cX3_stateOf 23 = .ok (.aload_n 0, 1) := dk_42 (dk_at dksX3_stateOf_0 23 rfl rfl)
theorem dX3_stateOf_24 : decode cX3_stateOf 24 = .ok (.getfield 48, 3) := dk_180 0 48 (dk_at dksX3_stateOf_1 0 rfl rfl)
theorem dX3_stateOf_27 : decode cX3_stateOf 27 = .ok (.ifCond .le 7, 3) := dk_158 0 7 (dk_at dksX3_stateOf_1 3 rfl rfl)
theorem dX3_stateOf_30 : decode cX3_stateOf 30 = .ok (.iconst 0, 1) := dk_3 (dk_at dksX3_stateOf_1 6 rfl rfl)
theorem dX3_stateOf_31 : decode cX3_stateOf 31 = .ok (.goto 9, 3) := dk_167 0 9 (dk_at dksX3_stateOf_1 7 rfl rfl)
theorem dX3_stateOf_34 : decode cX3_stateOf 34 = .ok (.aload_n 0, 1) := dk_42 (dk_at dksX3_stateOf_1 10 rfl rfl)
theorem dX3_stateOf_35 : decode cX3_stateOf 35 = .ok (.getfield 45, 3) := dk_180 0 45 (dk_at dksX3_stateOf_1 11 rfl rfl)
theorem dX3_stateOf_38 : decode cX3_stateOf 38 = .ok (.iload_n 1, 1) := dk_27 (dk_at dksX3_stateOf_1 14 rfl rfl)
theorem dX3_stateOf_39 : decode cX3_stateOf 39 = .ok (.caload, 1) := dk_52 (dk_at dksX3_stateOf_1 15 rfl rfl)
theorem dX3_stateOf_40 : decode cX3_stateOf 40 = .ok (.ireturn, 1) := dk_172 (dk_at dksX3_stateOf_1 16 rfl rfl)
abbrev cX3_appointmentOf : ByteArray := prog_9_method_55_code
def yX3_appointmentOf : MethodName := ⟨RX3, "appointmentOf", "(I)I"⟩
def dkwX3_appointmentOf_1 : List UInt8 := [61, 28, 2, 160, 0, 11, 42, 5, 182, 0, 110, 167, 0, 4, 28, 172]
abbrev dktX3_appointmentOf_1 : List UInt8 := dkwX3_appointmentOf_1 ++ []
def dkwX3_appointmentOf_0 : List UInt8 := [42, 3, 181, 0, 48, 42, 27, 182, 0, 120, 154, 0, 9, 42, 4, 182, 0, 110, 172, 42, 27, 182, 0, 129]
abbrev dktX3_appointmentOf_0 : List UInt8 := dkwX3_appointmentOf_0 ++ dktX3_appointmentOf_1
theorem dksX3_appointmentOf_0 : cX3_appointmentOf.data.toList.drop 0 = dktX3_appointmentOf_0 := by decide +kernel
theorem dksX3_appointmentOf_1 : cX3_appointmentOf.data.toList.drop 24 = dktX3_appointmentOf_1 := dk_seg dksX3_appointmentOf_0 24 rfl rfl
theorem dX3_appointmentOf_0 : decode cX3_appointmentOf 0 = .ok (.aload_n 0, 1) := dk_42 (dk_at dksX3_appointmentOf_0 0 rfl rfl)
theorem dX3_appointmentOf_1 : decode cX3_appointmentOf 1 = .ok (.iconst 0, 1) := dk_3 (dk_at dksX3_appointmentOf_0 1 rfl rfl)
theorem dX3_appointmentOf_2 : decode cX3_appointmentOf 2 = .ok (.putfield 48, 3) := dk_181 0 48 (dk_at dksX3_appointmentOf_0 2 rfl rfl)
theorem dX3_appointmentOf_5 : decode cX3_appointmentOf 5 = .ok (.aload_n 0, 1) := dk_42 (dk_at dksX3_appointmentOf_0 5 rfl rfl)
theorem dX3_appointmentOf_6 : decode cX3_appointmentOf 6 = .ok (.iload_n 1, 1) := dk_27 (dk_at dksX3_appointmentOf_0 6 rfl rfl)
theorem dX3_appointmentOf_7 : decode cX3_appointmentOf 7 = .ok (.invokevirtual 120, 3) := dk_182 0 120 (dk_at dksX3_appointmentOf_0 7 rfl rfl)
theorem dX3_appointmentOf_10 : decode cX3_appointmentOf 10 = .ok (.ifCond .ne 9, 3) := dk_154 0 9 (dk_at dksX3_appointmentOf_0 10 rfl rfl)
theorem dX3_appointmentOf_13 : decode cX3_appointmentOf 13 = .ok (.aload_n 0, 1) := dk_42 (dk_at dksX3_appointmentOf_0 13 rfl rfl)
theorem dX3_appointmentOf_14 : decode cX3_appointmentOf 14 = .ok (.iconst 1, 1) := dk_4 (dk_at dksX3_appointmentOf_0 14 rfl rfl)
theorem dX3_appointmentOf_15 : decode cX3_appointmentOf 15 = .ok (.invokevirtual 110, 3) := dk_182 0 110 (dk_at dksX3_appointmentOf_0 15 rfl rfl)
theorem dX3_appointmentOf_18 : decode cX3_appointmentOf 18 = .ok (.ireturn, 1) := dk_172 (dk_at dksX3_appointmentOf_0 18 rfl rfl)
theorem dX3_appointmentOf_19 : decode cX3_appointmentOf 19 = .ok (.aload_n 0, 1) := dk_42 (dk_at dksX3_appointmentOf_0 19 rfl rfl)
theorem dX3_appointmentOf_20 : decode cX3_appointmentOf 20 = .ok (.iload_n 1, 1) := dk_27 (dk_at dksX3_appointmentOf_0 20 rfl rfl)
theorem dX3_appointmentOf_21 : decode cX3_appointmentOf 21 = .ok (.invokevirtual 129, 3) := dk_182 0 129 (dk_at dksX3_appointmentOf_0 21 rfl rfl)
theorem dX3_appointmentOf_24 : decode cX3_appointmentOf 24 = .ok (.istore_n 2, 1) := dk_61 (dk_at dksX3_appointmentOf_1 0 rfl rfl)
theorem dX3_appointmentOf_25 : decode cX3_appointmentOf 25 = .ok (.iload_n 2, 1) := dk_28 (dk_at dksX3_appointmentOf_1 1 rfl rfl)
theorem dX3_appointmentOf_26 : decode cX3_appointmentOf 26 = .ok (.iconst (-1), 1) := dk_2 (dk_at dksX3_appointmentOf_1 2 rfl rfl)
theorem dX3_appointmentOf_27 : decode cX3_appointmentOf 27 = .ok (.if_icmp .ne 11, 3) := dk_160 0 11 (dk_at dksX3_appointmentOf_1 3 rfl rfl)
theorem dX3_appointmentOf_30 : decode cX3_appointmentOf 30 = .ok (.aload_n 0, 1) := dk_42 (dk_at dksX3_appointmentOf_1 6 rfl rfl)
theorem dX3_appointmentOf_31 : decode cX3_appointmentOf 31 = .ok (.iconst 2, 1) := dk_5 (dk_at dksX3_appointmentOf_1 7 rfl rfl)
theorem dX3_appointmentOf_32 : decode cX3_appointmentOf 32 = .ok (.invokevirtual 110, 3) := dk_182 0 110 (dk_at dksX3_appointmentOf_1 8 rfl rfl)
theorem dX3_appointmentOf_35 : decode cX3_appointmentOf 35 = .ok (.goto 4, 3) := dk_167 0 4 (dk_at dksX3_appointmentOf_1 11 rfl rfl)
theorem dX3_appointmentOf_38 : decode cX3_appointmentOf 38 = .ok (.iload_n 2, 1) := dk_28 (dk_at dksX3_appointmentOf_1 14 rfl rfl)
theorem dX3_appointmentOf_39 : decode cX3_appointmentOf 39 = .ok (.ireturn, 1) := dk_172 (dk_at dksX3_appointmentOf_1 15 rfl rfl)
abbrev cX3_inLane : ByteArray := prog_9_method_56_code
def yX3_inLane : MethodName := ⟨RX3, "inLane", "(II)I"⟩
def dkwX3_inLane_1 : List UInt8 := [17, 3, 231, 184, 0, 55, 153, 0, 12, 42, 27, 28, 182, 0, 148, 167, 0, 8, 42, 5, 182, 0, 110, 172]
abbrev dktX3_inLane_1 : List UInt8 := dkwX3_inLane_1 ++ []
def dkwX3_inLane_0 : List UInt8 := [42, 3, 181, 0, 48, 27, 3, 5, 184, 0, 55, 154, 0, 9, 42, 4, 182, 0, 110, 172, 28, 3]
abbrev dktX3_inLane_0 : List UInt8 := dkwX3_inLane_0 ++ dktX3_inLane_1
theorem dksX3_inLane_0 : cX3_inLane.data.toList.drop 0 = dktX3_inLane_0 := by decide +kernel
theorem dksX3_inLane_1 : cX3_inLane.data.toList.drop 22 = dktX3_inLane_1 := dk_seg dksX3_inLane_0 22 rfl rfl
theorem dX3_inLane_0 : decode cX3_inLane 0 = .ok (.aload_n 0, 1) := dk_42 (dk_at dksX3_inLane_0 0 rfl rfl)
theorem dX3_inLane_1 : decode cX3_inLane 1 = .ok (.iconst 0, 1) := dk_3 (dk_at dksX3_inLane_0 1 rfl rfl)
theorem dX3_inLane_2 : decode cX3_inLane 2 = .ok (.putfield 48, 3) := dk_181 0 48 (dk_at dksX3_inLane_0 2 rfl rfl)
theorem dX3_inLane_5 : decode cX3_inLane 5 = .ok (.iload_n 1, 1) := dk_27 (dk_at dksX3_inLane_0 5 rfl rfl)
theorem dX3_inLane_6 : decode cX3_inLane 6 = .ok (.iconst 0, 1) := dk_3 (dk_at dksX3_inLane_0 6 rfl rfl)
theorem dX3_inLane_7 : decode cX3_inLane 7 = .ok (.iconst 2, 1) := dk_5 (dk_at dksX3_inLane_0 7 rfl rfl)
theorem dX3_inLane_8 : decode cX3_inLane 8 = .ok (.invokestatic 55, 3) := dk_184 0 55 (dk_at dksX3_inLane_0 8 rfl rfl)
theorem dX3_inLane_11 : decode cX3_inLane 11 = .ok (.ifCond .ne 9, 3) := dk_154 0 9 (dk_at dksX3_inLane_0 11 rfl rfl)
theorem dX3_inLane_14 : decode cX3_inLane 14 = .ok (.aload_n 0, 1) := dk_42 (dk_at dksX3_inLane_0 14 rfl rfl)
theorem dX3_inLane_15 : decode cX3_inLane 15 = .ok (.iconst 1, 1) := dk_4 (dk_at dksX3_inLane_0 15 rfl rfl)
theorem dX3_inLane_16 : decode cX3_inLane 16 = .ok (.invokevirtual 110, 3) := dk_182 0 110 (dk_at dksX3_inLane_0 16 rfl rfl)
theorem dX3_inLane_19 : decode cX3_inLane 19 = .ok (.ireturn, 1) := dk_172 (dk_at dksX3_inLane_0 19 rfl rfl)
theorem dX3_inLane_20 : decode cX3_inLane 20 = .ok (.iload_n 2, 1) := dk_28 (dk_at dksX3_inLane_0 20 rfl rfl)
theorem dX3_inLane_21 : decode cX3_inLane 21 = .ok (.iconst 0, 1) := dk_3 (dk_at dksX3_inLane_0 21 rfl rfl)
theorem dX3_inLane_22 : decode cX3_inLane 22 = .ok (.sipush 999, 3) := dk_17 3 231 (dk_at dksX3_inLane_1 0 rfl rfl)
theorem dX3_inLane_25 : decode cX3_inLane 25 = .ok (.invokestatic 55, 3) := dk_184 0 55 (dk_at dksX3_inLane_1 3 rfl rfl)
theorem dX3_inLane_28 : decode cX3_inLane 28 = .ok (.ifCond .eq 12, 3) := dk_153 0 12 (dk_at dksX3_inLane_1 6 rfl rfl)
theorem dX3_inLane_31 : decode cX3_inLane 31 = .ok (.aload_n 0, 1) := dk_42 (dk_at dksX3_inLane_1 9 rfl rfl)
theorem dX3_inLane_32 : decode cX3_inLane 32 = .ok (.iload_n 1, 1) := dk_27 (dk_at dksX3_inLane_1 10 rfl rfl)
theorem dX3_inLane_33 : decode cX3_inLane 33 = .ok (.iload_n 2, 1) := dk_28 (dk_at dksX3_inLane_1 11 rfl rfl)
theorem dX3_inLane_34 : decode cX3_inLane 34 = .ok (.invokevirtual 148, 3) := dk_182 0 148 (dk_at dksX3_inLane_1 12 rfl rfl)
theorem dX3_inLane_37 : decode cX3_inLane 37 = .ok (.goto 8, 3) := dk_167 0 8 (dk_at dksX3_inLane_1 15 rfl rfl)
theorem dX3_inLane_40 : decode cX3_inLane 40 = .ok (.aload_n 0, 1) := dk_42 (dk_at dksX3_inLane_1 18 rfl rfl)
theorem dX3_inLane_41 : decode cX3_inLane 41 = .ok (.iconst 2, 1) := dk_5 (dk_at dksX3_inLane_1 19 rfl rfl)
theorem dX3_inLane_42 : decode cX3_inLane 42 = .ok (.invokevirtual 110, 3) := dk_182 0 110 (dk_at dksX3_inLane_1 20 rfl rfl)
theorem dX3_inLane_45 : decode cX3_inLane 45 = .ok (.ireturn, 1) := dk_172 (dk_at dksX3_inLane_1 23 rfl rfl)
abbrev cX3_firstHour : ByteArray := prog_9_method_57_code
def yX3_firstHour : MethodName := ⟨RX3, "firstHour", "(I)I"⟩
def dkwX3_firstHour_4 : List UInt8 := [182, 0, 110, 172]
abbrev dktX3_firstHour_4 : List UInt8 := dkwX3_firstHour_4 ++ []
def dkwX3_firstHour_3 : List UInt8 := [153, 0, 14, 42, 27, 28, 182, 0, 145, 154, 0, 5, 28, 172, 132, 2, 1, 167, 255, 195, 42, 5]
abbrev dktX3_firstHour_3 : List UInt8 := dkwX3_firstHour_3 ++ dktX3_firstHour_4
def dkwX3_firstHour_2 : List UInt8 := [182, 0, 148, 2, 159, 0, 13, 42, 5, 28, 182, 0, 148, 2, 160, 0, 7, 4, 167, 0, 4, 3, 62, 29]
abbrev dktX3_firstHour_2 : List UInt8 := dkwX3_firstHour_2 ++ dktX3_firstHour_3
def dkwX3_firstHour_1 : List UInt8 := [96, 61, 28, 17, 3, 231, 163, 0, 60, 42, 3, 28, 182, 0, 148, 2, 159, 0, 23, 42, 4, 28]
abbrev dktX3_firstHour_1 : List UInt8 := dkwX3_firstHour_1 ++ dktX3_firstHour_2
def dkwX3_firstHour_0 : List UInt8 := [42, 3, 181, 0, 48, 42, 27, 182, 0, 120, 154, 0, 9, 42, 4, 182, 0, 110, 172, 42, 180, 0, 126, 4]
abbrev dktX3_firstHour_0 : List UInt8 := dkwX3_firstHour_0 ++ dktX3_firstHour_1
theorem dksX3_firstHour_0 : cX3_firstHour.data.toList.drop 0 = dktX3_firstHour_0 := by decide +kernel
theorem dksX3_firstHour_1 : cX3_firstHour.data.toList.drop 24 = dktX3_firstHour_1 := dk_seg dksX3_firstHour_0 24 rfl rfl
theorem dksX3_firstHour_2 : cX3_firstHour.data.toList.drop 46 = dktX3_firstHour_2 := dk_seg dksX3_firstHour_1 22 rfl rfl
theorem dksX3_firstHour_3 : cX3_firstHour.data.toList.drop 70 = dktX3_firstHour_3 := dk_seg dksX3_firstHour_2 24 rfl rfl
theorem dksX3_firstHour_4 : cX3_firstHour.data.toList.drop 92 = dktX3_firstHour_4 := dk_seg dksX3_firstHour_3 22 rfl rfl
theorem dX3_firstHour_0 : decode cX3_firstHour 0 = .ok (.aload_n 0, 1) := dk_42 (dk_at dksX3_firstHour_0 0 rfl rfl)
theorem dX3_firstHour_1 : decode cX3_firstHour 1 = .ok (.iconst 0, 1) := dk_3 (dk_at dksX3_firstHour_0 1 rfl rfl)
theorem dX3_firstHour_2 : decode cX3_firstHour 2 = .ok (.putfield 48, 3) := dk_181 0 48 (dk_at dksX3_firstHour_0 2 rfl rfl)
theorem dX3_firstHour_5 : decode cX3_firstHour 5 = .ok (.aload_n 0, 1) := dk_42 (dk_at dksX3_firstHour_0 5 rfl rfl)
theorem dX3_firstHour_6 : decode cX3_firstHour 6 = .ok (.iload_n 1, 1) := dk_27 (dk_at dksX3_firstHour_0 6 rfl rfl)
theorem dX3_firstHour_7 : decode cX3_firstHour 7 = .ok (.invokevirtual 120, 3) := dk_182 0 120 (dk_at dksX3_firstHour_0 7 rfl rfl)
theorem dX3_firstHour_10 : decode cX3_firstHour 10 = .ok (.ifCond .ne 9, 3) := dk_154 0 9 (dk_at dksX3_firstHour_0 10 rfl rfl)
theorem dX3_firstHour_13 : decode cX3_firstHour 13 = .ok (.aload_n 0, 1) := dk_42 (dk_at dksX3_firstHour_0 13 rfl rfl)
theorem dX3_firstHour_14 : decode cX3_firstHour 14 = .ok (.iconst 1, 1) := dk_4 (dk_at dksX3_firstHour_0 14 rfl rfl)
theorem dX3_firstHour_15 : decode cX3_firstHour 15 = .ok (.invokevirtual 110, 3) := dk_182 0 110 (dk_at dksX3_firstHour_0 15 rfl rfl)
theorem dX3_firstHour_18 : decode cX3_firstHour 18 = .ok (.ireturn, 1) := dk_172 (dk_at dksX3_firstHour_0 18 rfl rfl)
theorem dX3_firstHour_19 : decode cX3_firstHour 19 = .ok (.aload_n 0, 1) := dk_42 (dk_at dksX3_firstHour_0 19 rfl rfl)
theorem dX3_firstHour_20 : decode cX3_firstHour 20 = .ok (.getfield 126, 3) := dk_180 0 126 (dk_at dksX3_firstHour_0 20 rfl rfl)
theorem dX3_firstHour_23 : decode cX3_firstHour 23 = .ok (.iconst 1, 1) := dk_4 (dk_at dksX3_firstHour_0 23 rfl rfl)
theorem dX3_firstHour_24 : decode cX3_firstHour 24 = .ok (.iadd, 1) := dk_96 (dk_at dksX3_firstHour_1 0 rfl rfl)
theorem dX3_firstHour_25 : decode cX3_firstHour 25 = .ok (.istore_n 2, 1) := dk_61 (dk_at dksX3_firstHour_1 1 rfl rfl)
theorem dX3_firstHour_26 : decode cX3_firstHour 26 = .ok (.iload_n 2, 1) := dk_28 (dk_at dksX3_firstHour_1 2 rfl rfl)
theorem dX3_firstHour_27 : decode cX3_firstHour 27 = .ok (.sipush 999, 3) := dk_17 3 231 (dk_at dksX3_firstHour_1 3 rfl rfl)
theorem dX3_firstHour_30 : decode cX3_firstHour 30 = .ok (.if_icmp .gt 60, 3) := dk_163 0 60 (dk_at dksX3_firstHour_1 6 rfl rfl)
theorem dX3_firstHour_33 : decode cX3_firstHour 33 = .ok (.aload_n 0, 1) := dk_42 (dk_at dksX3_firstHour_1 9 rfl rfl)
theorem dX3_firstHour_34 : decode cX3_firstHour 34 = .ok (.iconst 0, 1) := dk_3 (dk_at dksX3_firstHour_1 10 rfl rfl)
theorem dX3_firstHour_35 : decode cX3_firstHour 35 = .ok (.iload_n 2, 1) := dk_28 (dk_at dksX3_firstHour_1 11 rfl rfl)
theorem dX3_firstHour_36 : decode cX3_firstHour 36 = .ok (.invokevirtual 148, 3) := dk_182 0 148 (dk_at dksX3_firstHour_1 12 rfl rfl)
theorem dX3_firstHour_39 : decode cX3_firstHour 39 = .ok (.iconst (-1), 1) := dk_2 (dk_at dksX3_firstHour_1 15 rfl rfl)
theorem dX3_firstHour_40 : decode cX3_firstHour 40 = .ok (.if_icmp .eq 23, 3) := dk_159 0 23 (dk_at dksX3_firstHour_1 16 rfl rfl)
theorem dX3_firstHour_43 : decode cX3_firstHour 43 = .ok (.aload_n 0, 1) := dk_42 (dk_at dksX3_firstHour_1 19 rfl rfl)
theorem dX3_firstHour_44 : decode cX3_firstHour 44 = .ok (.iconst 1, 1) := dk_4 (dk_at dksX3_firstHour_1 20 rfl rfl)
theorem dX3_firstHour_45 : decode cX3_firstHour 45 = .ok (.iload_n 2, 1) := dk_28 (dk_at dksX3_firstHour_1 21 rfl rfl)
theorem dX3_firstHour_46 : decode cX3_firstHour 46 = .ok (.invokevirtual 148, 3) := dk_182 0 148 (dk_at dksX3_firstHour_2 0 rfl rfl)
theorem dX3_firstHour_49 : decode cX3_firstHour 49 = .ok (.iconst (-1), 1) := dk_2 (dk_at dksX3_firstHour_2 3 rfl rfl)
theorem dX3_firstHour_50 : decode cX3_firstHour 50 = .ok (.if_icmp .eq 13, 3) := dk_159 0 13 (dk_at dksX3_firstHour_2 4 rfl rfl)
theorem dX3_firstHour_53 : decode cX3_firstHour 53 = .ok (.aload_n 0, 1) := dk_42 (dk_at dksX3_firstHour_2 7 rfl rfl)
theorem dX3_firstHour_54 : decode cX3_firstHour 54 = .ok (.iconst 2, 1) := dk_5 (dk_at dksX3_firstHour_2 8 rfl rfl)
theorem dX3_firstHour_55 : decode cX3_firstHour 55 = .ok (.iload_n 2, 1) := dk_28 (dk_at dksX3_firstHour_2 9 rfl rfl)
theorem dX3_firstHour_56 : decode cX3_firstHour 56 = .ok (.invokevirtual 148, 3) := dk_182 0 148 (dk_at dksX3_firstHour_2 10 rfl rfl)
theorem dX3_firstHour_59 : decode cX3_firstHour 59 = .ok (.iconst (-1), 1) := dk_2 (dk_at dksX3_firstHour_2 13 rfl rfl)
theorem dX3_firstHour_60 : decode cX3_firstHour 60 = .ok (.if_icmp .ne 7, 3) := dk_160 0 7 (dk_at dksX3_firstHour_2 14 rfl rfl)
theorem dX3_firstHour_63 : decode cX3_firstHour 63 = .ok (.iconst 1, 1) := dk_4 (dk_at dksX3_firstHour_2 17 rfl rfl)
theorem dX3_firstHour_64 : decode cX3_firstHour 64 = .ok (.goto 4, 3) := dk_167 0 4 (dk_at dksX3_firstHour_2 18 rfl rfl)
theorem dX3_firstHour_67 : decode cX3_firstHour 67 = .ok (.iconst 0, 1) := dk_3 (dk_at dksX3_firstHour_2 21 rfl rfl)
theorem dX3_firstHour_68 : decode cX3_firstHour 68 = .ok (.istore_n 3, 1) := dk_62 (dk_at dksX3_firstHour_2 22 rfl rfl)
theorem dX3_firstHour_69 : decode cX3_firstHour 69 = .ok (.iload_n 3, 1) := dk_29 (dk_at dksX3_firstHour_2 23 rfl rfl)
theorem dX3_firstHour_70 : decode cX3_firstHour 70 = .ok (.ifCond .eq 14, 3) := dk_153 0 14 (dk_at dksX3_firstHour_3 0 rfl rfl)
theorem dX3_firstHour_73 : decode cX3_firstHour 73 = .ok (.aload_n 0, 1) := dk_42 (dk_at dksX3_firstHour_3 3 rfl rfl)
theorem dX3_firstHour_74 : decode cX3_firstHour 74 = .ok (.iload_n 1, 1) := dk_27 (dk_at dksX3_firstHour_3 4 rfl rfl)
theorem dX3_firstHour_75 : decode cX3_firstHour 75 = .ok (.iload_n 2, 1) := dk_28 (dk_at dksX3_firstHour_3 5 rfl rfl)
theorem dX3_firstHour_76 : decode cX3_firstHour 76 = .ok (.invokevirtual 145, 3) := dk_182 0 145 (dk_at dksX3_firstHour_3 6 rfl rfl)
theorem dX3_firstHour_79 : decode cX3_firstHour 79 = .ok (.ifCond .ne 5, 3) := dk_154 0 5 (dk_at dksX3_firstHour_3 9 rfl rfl)
theorem dX3_firstHour_82 : decode cX3_firstHour 82 = .ok (.iload_n 2, 1) := dk_28 (dk_at dksX3_firstHour_3 12 rfl rfl)
theorem dX3_firstHour_83 : decode cX3_firstHour 83 = .ok (.ireturn, 1) := dk_172 (dk_at dksX3_firstHour_3 13 rfl rfl)
theorem dX3_firstHour_84 : decode cX3_firstHour 84 = .ok (.iinc 2 1, 3) := dk_132 2 1 (dk_at dksX3_firstHour_3 14 rfl rfl)
theorem dX3_firstHour_87 : decode cX3_firstHour 87 = .ok (.goto (-61), 3) := dk_167 255 195 (dk_at dksX3_firstHour_3 17 rfl rfl)
theorem dX3_firstHour_90 : decode cX3_firstHour 90 = .ok (.aload_n 0, 1) := dk_42 (dk_at dksX3_firstHour_3 20 rfl rfl)
theorem dX3_firstHour_91 : decode cX3_firstHour 91 = .ok (.iconst 2, 1) := dk_5 (dk_at dksX3_firstHour_3 21 rfl rfl)
theorem dX3_firstHour_92 : decode cX3_firstHour 92 = .ok (.invokevirtual 110, 3) := dk_182 0 110 (dk_at dksX3_firstHour_4 0 rfl rfl)
theorem dX3_firstHour_95 : decode cX3_firstHour 95 = .ok (.ireturn, 1) := dk_172 (dk_at dksX3_firstHour_4 3 rfl rfl)
abbrev cX3_pass : ByteArray := prog_9_method_59_code
def yX3_pass : MethodName := ⟨RX3, "pass", "(I)I"⟩
def dkwX3_pass_6 : List UInt8 := [167, 0, 4, 3, 96, 61, 132, 4, 1, 167, 255, 212, 132, 3, 1, 167, 255, 137, 28, 172]
abbrev dktX3_pass_6 : List UInt8 := dkwX3_pass_6 ++ []
def dkwX3_pass_5 : List UInt8 := [182, 0, 148, 54, 5, 28, 21, 5, 2, 159, 0, 16, 42, 21, 5, 182, 0, 159, 153, 0, 7, 4]
abbrev dktX3_pass_5 : List UInt8 := dkwX3_pass_5 ++ dktX3_pass_6
def dkwX3_pass_4 : List UInt8 := [52, 85, 132, 4, 1, 167, 255, 211, 3, 54, 4, 21, 4, 6, 162, 0, 44, 42, 21, 4, 42, 180, 0, 126]
abbrev dktX3_pass_4 : List UInt8 := dkwX3_pass_4 ++ dktX3_pass_5
def dkwX3_pass_3 : List UInt8 := [180, 0, 24, 21, 4, 46, 42, 180, 0, 126, 160, 0, 8, 16, 45, 167, 0, 10, 42, 180, 0, 20, 21, 4]
abbrev dktX3_pass_3 : List UInt8 := dkwX3_pass_3 ++ dktX3_pass_4
def dkwX3_pass_2 : List UInt8 := [96, 181, 0, 126, 3, 54, 4, 21, 4, 42, 180, 0, 52, 162, 0, 42, 42, 180, 0, 20, 21, 4, 42]
abbrev dktX3_pass_2 : List UInt8 := dkwX3_pass_2 ++ dktX3_pass_3
def dkwX3_pass_1 : List UInt8 := [164, 0, 9, 42, 4, 182, 0, 110, 172, 3, 61, 3, 62, 29, 27, 162, 0, 120, 42, 89, 180, 0, 126, 4]
abbrev dktX3_pass_1 : List UInt8 := dkwX3_pass_1 ++ dktX3_pass_2
def dkwX3_pass_0 : List UInt8 := [42, 3, 181, 0, 48, 27, 4, 16, 24, 184, 0, 55, 153, 0, 15, 42, 180, 0, 126, 27, 96, 17, 3, 231]
abbrev dktX3_pass_0 : List UInt8 := dkwX3_pass_0 ++ dktX3_pass_1
theorem dksX3_pass_0 : cX3_pass.data.toList.drop 0 = dktX3_pass_0 := by decide +kernel
theorem dksX3_pass_1 : cX3_pass.data.toList.drop 24 = dktX3_pass_1 := dk_seg dksX3_pass_0 24 rfl rfl
theorem dksX3_pass_2 : cX3_pass.data.toList.drop 48 = dktX3_pass_2 := dk_seg dksX3_pass_1 24 rfl rfl
theorem dksX3_pass_3 : cX3_pass.data.toList.drop 71 = dktX3_pass_3 := dk_seg dksX3_pass_2 23 rfl rfl
theorem dksX3_pass_4 : cX3_pass.data.toList.drop 95 = dktX3_pass_4 := dk_seg dksX3_pass_3 24 rfl rfl
theorem dksX3_pass_5 : cX3_pass.data.toList.drop 119 = dktX3_pass_5 := dk_seg dksX3_pass_4 24 rfl rfl
theorem dksX3_pass_6 : cX3_pass.data.toList.drop 141 = dktX3_pass_6 := dk_seg dksX3_pass_5 22 rfl rfl
theorem dX3_pass_0 : decode cX3_pass 0 = .ok (.aload_n 0, 1) := dk_42 (dk_at dksX3_pass_0 0 rfl rfl)
theorem dX3_pass_1 : decode cX3_pass 1 = .ok (.iconst 0, 1) := dk_3 (dk_at dksX3_pass_0 1 rfl rfl)
theorem dX3_pass_2 : decode cX3_pass 2 = .ok (.putfield 48, 3) := dk_181 0 48 (dk_at dksX3_pass_0 2 rfl rfl)
theorem dX3_pass_5 : decode cX3_pass 5 = .ok (.iload_n 1, 1) := dk_27 (dk_at dksX3_pass_0 5 rfl rfl)
theorem dX3_pass_6 : decode cX3_pass 6 = .ok (.iconst 1, 1) := dk_4 (dk_at dksX3_pass_0 6 rfl rfl)
theorem dX3_pass_7 : decode cX3_pass 7 = .ok (.bipush 24, 2) := dk_16 24 (dk_at dksX3_pass_0 7 rfl rfl)
theorem dX3_pass_9 : decode cX3_pass 9 = .ok (.invokestatic 55, 3) := dk_184 0 55 (dk_at dksX3_pass_0 9 rfl rfl)
theorem dX3_pass_12 : decode cX3_pass 12 = .ok (.ifCond .eq 15, 3) := dk_153 0 15 (dk_at dksX3_pass_0 12 rfl rfl)
theorem dX3_pass_15 : decode cX3_pass 15 = .ok (.aload_n 0, 1) := dk_42 (dk_at dksX3_pass_0 15 rfl rfl)
theorem dX3_pass_16 : decode cX3_pass 16 = .ok (.getfield 126, 3) := dk_180 0 126 (dk_at dksX3_pass_0 16 rfl rfl)
theorem dX3_pass_19 : decode cX3_pass 19 = .ok (.iload_n 1, 1) := dk_27 (dk_at dksX3_pass_0 19 rfl rfl)
theorem dX3_pass_20 : decode cX3_pass 20 = .ok (.iadd, 1) := dk_96 (dk_at dksX3_pass_0 20 rfl rfl)
theorem dX3_pass_21 : decode cX3_pass 21 = .ok (.sipush 999, 3) := dk_17 3 231 (dk_at dksX3_pass_0 21 rfl rfl)
theorem dX3_pass_24 : decode cX3_pass 24 = .ok (.if_icmp .le 9, 3) := dk_164 0 9 (dk_at dksX3_pass_1 0 rfl rfl)
theorem dX3_pass_27 : decode cX3_pass 27 = .ok (.aload_n 0, 1) := dk_42 (dk_at dksX3_pass_1 3 rfl rfl)
theorem dX3_pass_28 : decode cX3_pass 28 = .ok (.iconst 1, 1) := dk_4 (dk_at dksX3_pass_1 4 rfl rfl)
theorem dX3_pass_29 : decode cX3_pass 29 = .ok (.invokevirtual 110, 3) := dk_182 0 110 (dk_at dksX3_pass_1 5 rfl rfl)
theorem dX3_pass_32 : decode cX3_pass 32 = .ok (.ireturn, 1) := dk_172 (dk_at dksX3_pass_1 8 rfl rfl)
theorem dX3_pass_33 : decode cX3_pass 33 = .ok (.iconst 0, 1) := dk_3 (dk_at dksX3_pass_1 9 rfl rfl)
theorem dX3_pass_34 : decode cX3_pass 34 = .ok (.istore_n 2, 1) := dk_61 (dk_at dksX3_pass_1 10 rfl rfl)
theorem dX3_pass_35 : decode cX3_pass 35 = .ok (.iconst 0, 1) := dk_3 (dk_at dksX3_pass_1 11 rfl rfl)
theorem dX3_pass_36 : decode cX3_pass 36 = .ok (.istore_n 3, 1) := dk_62 (dk_at dksX3_pass_1 12 rfl rfl)
theorem dX3_pass_37 : decode cX3_pass 37 = .ok (.iload_n 3, 1) := dk_29 (dk_at dksX3_pass_1 13 rfl rfl)
theorem dX3_pass_38 : decode cX3_pass 38 = .ok (.iload_n 1, 1) := dk_27 (dk_at dksX3_pass_1 14 rfl rfl)
theorem dX3_pass_39 : decode cX3_pass 39 = .ok (.if_icmp .ge 120, 3) := dk_162 0 120 (dk_at dksX3_pass_1 15 rfl rfl)
theorem dX3_pass_42 : decode cX3_pass 42 = .ok (.aload_n 0, 1) := dk_42 (dk_at dksX3_pass_1 18 rfl rfl)
theorem dX3_pass_43 : decode cX3_pass 43 = .ok (.dup, 1) := dk_89 (dk_at dksX3_pass_1 19 rfl rfl)
theorem dX3_pass_44 : decode cX3_pass 44 = .ok (.getfield 126, 3) := dk_180 0 126 (dk_at dksX3_pass_1 20 rfl rfl)
theorem dX3_pass_47 : decode cX3_pass 47 = .ok (.iconst 1, 1) := dk_4 (dk_at dksX3_pass_1 23 rfl rfl)
theorem dX3_pass_48 : decode cX3_pass 48 = .ok (.iadd, 1) := dk_96 (dk_at dksX3_pass_2 0 rfl rfl)
theorem dX3_pass_49 : decode cX3_pass 49 = .ok (.putfield 126, 3) := dk_181 0 126 (dk_at dksX3_pass_2 1 rfl rfl)
theorem dX3_pass_52 : decode cX3_pass 52 = .ok (.iconst 0, 1) := dk_3 (dk_at dksX3_pass_2 4 rfl rfl)
theorem dX3_pass_53 : decode cX3_pass 53 = .ok (.istore 4, 2) := dk_54 4 (dk_at dksX3_pass_2 5 rfl rfl)
theorem dX3_pass_55 : decode cX3_pass 55 = .ok (.iload 4, 2) := dk_21 4 (dk_at dksX3_pass_2 7 rfl rfl)
theorem dX3_pass_57 : decode cX3_pass 57 = .ok (.aload_n 0, 1) := dk_42 (dk_at dksX3_pass_2 9 rfl rfl)
theorem dX3_pass_58 : decode cX3_pass 58 = .ok (.getfield 52, 3) := dk_180 0 52 (dk_at dksX3_pass_2 10 rfl rfl)
theorem dX3_pass_61 : decode cX3_pass 61 = .ok (.if_icmp .ge 42, 3) := dk_162 0 42 (dk_at dksX3_pass_2 13 rfl rfl)
theorem dX3_pass_64 : decode cX3_pass 64 = .ok (.aload_n 0, 1) := dk_42 (dk_at dksX3_pass_2 16 rfl rfl)
theorem dX3_pass_65 : decode cX3_pass 65 = .ok (.getfield 20, 3) := dk_180 0 20 (dk_at dksX3_pass_2 17 rfl rfl)
theorem dX3_pass_68 : decode cX3_pass 68 = .ok (.iload 4, 2) := dk_21 4 (dk_at dksX3_pass_2 20 rfl rfl)
theorem dX3_pass_70 : decode cX3_pass 70 = .ok (.aload_n 0, 1) := dk_42 (dk_at dksX3_pass_2 22 rfl rfl)
theorem dX3_pass_71 : decode cX3_pass 71 = .ok (.getfield 24, 3) := dk_180 0 24 (dk_at dksX3_pass_3 0 rfl rfl)
theorem dX3_pass_74 : decode cX3_pass 74 = .ok (.iload 4, 2) := dk_21 4 (dk_at dksX3_pass_3 3 rfl rfl)
theorem dX3_pass_76 : decode cX3_pass 76 = .ok (.iaload, 1) := dk_46 (dk_at dksX3_pass_3 5 rfl rfl)
theorem dX3_pass_77 : decode cX3_pass 77 = .ok (.aload_n 0, 1) := dk_42 (dk_at dksX3_pass_3 6 rfl rfl)
theorem dX3_pass_78 : decode cX3_pass 78 = .ok (.getfield 126, 3) := dk_180 0 126 (dk_at dksX3_pass_3 7 rfl rfl)
theorem dX3_pass_81 : decode cX3_pass 81 = .ok (.if_icmp .ne 8, 3) := dk_160 0 8 (dk_at dksX3_pass_3 10 rfl rfl)
theorem dX3_pass_84 : decode cX3_pass 84 = .ok (.bipush 45, 2) := dk_16 45 (dk_at dksX3_pass_3 13 rfl rfl)
theorem dX3_pass_86 : decode cX3_pass 86 = .ok (.goto 10, 3) := dk_167 0 10 (dk_at dksX3_pass_3 15 rfl rfl)
theorem dX3_pass_89 : decode cX3_pass 89 = .ok (.aload_n 0, 1) := dk_42 (dk_at dksX3_pass_3 18 rfl rfl)
theorem dX3_pass_90 : decode cX3_pass 90 = .ok (.getfield 20, 3) := dk_180 0 20 (dk_at dksX3_pass_3 19 rfl rfl)
theorem dX3_pass_93 : decode cX3_pass 93 = .ok (.iload 4, 2) := dk_21 4 (dk_at dksX3_pass_3 22 rfl rfl)
theorem dX3_pass_95 : decode cX3_pass 95 = .ok (.caload, 1) := dk_52 (dk_at dksX3_pass_4 0 rfl rfl)
theorem dX3_pass_96 : decode cX3_pass 96 = .ok (.castore, 1) := dk_85 (dk_at dksX3_pass_4 1 rfl rfl)
theorem dX3_pass_97 : decode cX3_pass 97 = .ok (.iinc 4 1, 3) := dk_132 4 1 (dk_at dksX3_pass_4 2 rfl rfl)
theorem dX3_pass_100 : decode cX3_pass 100 = .ok (.goto (-45), 3) := dk_167 255 211 (dk_at dksX3_pass_4 5 rfl rfl)
theorem dX3_pass_103 : decode cX3_pass 103 = .ok (.iconst 0, 1) := dk_3 (dk_at dksX3_pass_4 8 rfl rfl)
theorem dX3_pass_104 : decode cX3_pass 104 = .ok (.istore 4, 2) := dk_54 4 (dk_at dksX3_pass_4 9 rfl rfl)
theorem dX3_pass_106 : decode cX3_pass 106 = .ok (.iload 4, 2) := dk_21 4 (dk_at dksX3_pass_4 11 rfl rfl)
theorem dX3_pass_108 : decode cX3_pass 108 = .ok (.iconst 3, 1) := dk_6 (dk_at dksX3_pass_4 13 rfl rfl)
theorem dX3_pass_109 : decode cX3_pass 109 = .ok (.if_icmp .ge 44, 3) := dk_162 0 44 (dk_at dksX3_pass_4 14 rfl rfl)
theorem dX3_pass_112 : decode cX3_pass 112 = .ok (.aload_n 0, 1) := dk_42 (dk_at dksX3_pass_4 17 rfl rfl)
theorem dX3_pass_113 : decode cX3_pass 113 = .ok (.iload 4, 2) := dk_21 4 (dk_at dksX3_pass_4 18 rfl rfl)
theorem dX3_pass_115 : decode cX3_pass 115 = .ok (.aload_n 0, 1) := dk_42 (dk_at dksX3_pass_4 20 rfl rfl)
theorem dX3_pass_116 : decode cX3_pass 116 = .ok (.getfield 126, 3) := dk_180 0 126 (dk_at dksX3_pass_4 21 rfl rfl)
theorem dX3_pass_119 : decode cX3_pass 119 = .ok (.invokevirtual 148, 3) := dk_182 0 148 (dk_at dksX3_pass_5 0 rfl rfl)
theorem dX3_pass_122 : decode cX3_pass 122 = .ok (.istore 5, 2) := dk_54 5 (dk_at dksX3_pass_5 3 rfl rfl)
theorem dX3_pass_124 : decode cX3_pass 124 = .ok (.iload_n 2, 1) := dk_28 (dk_at dksX3_pass_5 5 rfl rfl)
theorem dX3_pass_125 : decode cX3_pass 125 = .ok (.iload 5, 2) := dk_21 5 (dk_at dksX3_pass_5 6 rfl rfl)
theorem dX3_pass_127 : decode cX3_pass 127 = .ok (.iconst (-1), 1) := dk_2 (dk_at dksX3_pass_5 8 rfl rfl)
theorem dX3_pass_128 : decode cX3_pass 128 = .ok (.if_icmp .eq 16, 3) := dk_159 0 16 (dk_at dksX3_pass_5 9 rfl rfl)
theorem dX3_pass_131 : decode cX3_pass 131 = .ok (.aload_n 0, 1) := dk_42 (dk_at dksX3_pass_5 12 rfl rfl)
theorem dX3_pass_132 : decode cX3_pass 132 = .ok (.iload 5, 2) := dk_21 5 (dk_at dksX3_pass_5 13 rfl rfl)
theorem dX3_pass_134 : decode cX3_pass 134 = .ok (.invokevirtual 159, 3) := dk_182 0 159 (dk_at dksX3_pass_5 15 rfl rfl)
theorem dX3_pass_137 : decode cX3_pass 137 = .ok (.ifCond .eq 7, 3) := dk_153 0 7 (dk_at dksX3_pass_5 18 rfl rfl)
theorem dX3_pass_140 : decode cX3_pass 140 = .ok (.iconst 1, 1) := dk_4 (dk_at dksX3_pass_5 21 rfl rfl)
theorem dX3_pass_141 : decode cX3_pass 141 = .ok (.goto 4, 3) := dk_167 0 4 (dk_at dksX3_pass_6 0 rfl rfl)
theorem dX3_pass_144 : decode cX3_pass 144 = .ok (.iconst 0, 1) := dk_3 (dk_at dksX3_pass_6 3 rfl rfl)
theorem dX3_pass_145 : decode cX3_pass 145 = .ok (.iadd, 1) := dk_96 (dk_at dksX3_pass_6 4 rfl rfl)
theorem dX3_pass_146 : decode cX3_pass 146 = .ok (.istore_n 2, 1) := dk_61 (dk_at dksX3_pass_6 5 rfl rfl)
theorem dX3_pass_147 : decode cX3_pass 147 = .ok (.iinc 4 1, 3) := dk_132 4 1 (dk_at dksX3_pass_6 6 rfl rfl)
theorem dX3_pass_150 : decode cX3_pass 150 = .ok (.goto (-44), 3) := dk_167 255 212 (dk_at dksX3_pass_6 9 rfl rfl)
theorem dX3_pass_153 : decode cX3_pass 153 = .ok (.iinc 3 1, 3) := dk_132 3 1 (dk_at dksX3_pass_6 12 rfl rfl)
theorem dX3_pass_156 : decode cX3_pass 156 = .ok (.goto (-119), 3) := dk_167 255 137 (dk_at dksX3_pass_6 15 rfl rfl)
theorem dX3_pass_159 : decode cX3_pass 159 = .ok (.iload_n 2, 1) := dk_28 (dk_at dksX3_pass_6 18 rfl rfl)
theorem dX3_pass_160 : decode cX3_pass 160 = .ok (.ireturn, 1) := dk_172 (dk_at dksX3_pass_6 19 rfl rfl)
abbrev cX3_leaves : ByteArray := prog_9_method_58_code
def yX3_leaves : MethodName := ⟨RX3, "leaves", "(I)Z"⟩
def dkwX3_leaves_4 : List UInt8 := [181, 0, 155, 4, 172]
abbrev dktX3_leaves_4 : List UInt8 := dkwX3_leaves_4 ++ []
def dkwX3_leaves_3 : List UInt8 := [100, 79, 42, 180, 0, 16, 28, 3, 84, 42, 89, 180, 0, 155, 42, 180, 0, 13, 28, 46, 133, 97]
abbrev dktX3_leaves_3 : List UInt8 := dkwX3_leaves_3 ++ dktX3_leaves_4
def dkwX3_leaves_2 : List UInt8 := [2, 160, 0, 5, 3, 172, 42, 29, 182, 0, 141, 42, 180, 0, 27, 42, 3, 28, 182, 0, 62, 92, 46, 4]
abbrev dktX3_leaves_2 : List UInt8 := dkwX3_leaves_2 ++ dktX3_leaves_3
def dkwX3_leaves_1 : List UInt8 := [167, 0, 4, 2, 62, 42, 180, 0, 45, 27, 29, 2, 160, 0, 8, 16, 109, 167, 0, 5, 16, 100, 85, 29]
abbrev dktX3_leaves_1 : List UInt8 := dkwX3_leaves_1 ++ dktX3_leaves_2
def dkwX3_leaves_0 : List UInt8 := [42, 180, 0, 36, 27, 46, 61, 42, 180, 0, 20, 28, 52, 16, 45, 160, 0, 11, 42, 28, 182, 0, 132]
abbrev dktX3_leaves_0 : List UInt8 := dkwX3_leaves_0 ++ dktX3_leaves_1
theorem dksX3_leaves_0 : cX3_leaves.data.toList.drop 0 = dktX3_leaves_0 := by decide +kernel
theorem dksX3_leaves_1 : cX3_leaves.data.toList.drop 23 = dktX3_leaves_1 := dk_seg dksX3_leaves_0 23 rfl rfl
theorem dksX3_leaves_2 : cX3_leaves.data.toList.drop 47 = dktX3_leaves_2 := dk_seg dksX3_leaves_1 24 rfl rfl
theorem dksX3_leaves_3 : cX3_leaves.data.toList.drop 71 = dktX3_leaves_3 := dk_seg dksX3_leaves_2 24 rfl rfl
theorem dksX3_leaves_4 : cX3_leaves.data.toList.drop 93 = dktX3_leaves_4 := dk_seg dksX3_leaves_3 22 rfl rfl
theorem dX3_leaves_0 : decode cX3_leaves 0 = .ok (.aload_n 0, 1) := dk_42 (dk_at dksX3_leaves_0 0 rfl rfl)
theorem dX3_leaves_1 : decode cX3_leaves 1 = .ok (.getfield 36, 3) := dk_180 0 36 (dk_at dksX3_leaves_0 1 rfl rfl)
theorem dX3_leaves_4 : decode cX3_leaves 4 = .ok (.iload_n 1, 1) := dk_27 (dk_at dksX3_leaves_0 4 rfl rfl)
theorem dX3_leaves_5 : decode cX3_leaves 5 = .ok (.iaload, 1) := dk_46 (dk_at dksX3_leaves_0 5 rfl rfl)
theorem dX3_leaves_6 : decode cX3_leaves 6 = .ok (.istore_n 2, 1) := dk_61 (dk_at dksX3_leaves_0 6 rfl rfl)
theorem dX3_leaves_7 : decode cX3_leaves 7 = .ok (.aload_n 0, 1) := dk_42 (dk_at dksX3_leaves_0 7 rfl rfl)
theorem dX3_leaves_8 : decode cX3_leaves 8 = .ok (.getfield 20, 3) := dk_180 0 20 (dk_at dksX3_leaves_0 8 rfl rfl)
theorem dX3_leaves_11 : decode cX3_leaves 11 = .ok (.iload_n 2, 1) := dk_28 (dk_at dksX3_leaves_0 11 rfl rfl)
theorem dX3_leaves_12 : decode cX3_leaves 12 = .ok (.caload, 1) := dk_52 (dk_at dksX3_leaves_0 12 rfl rfl)
theorem dX3_leaves_13 : decode cX3_leaves 13 = .ok (.bipush 45, 2) := dk_16 45 (dk_at dksX3_leaves_0 13 rfl rfl)
theorem dX3_leaves_15 : decode cX3_leaves 15 = .ok (.if_icmp .ne 11, 3) := dk_160 0 11 (dk_at dksX3_leaves_0 15 rfl rfl)
theorem dX3_leaves_18 : decode cX3_leaves 18 = .ok (.aload_n 0, 1) := dk_42 (dk_at dksX3_leaves_0 18 rfl rfl)
theorem dX3_leaves_19 : decode cX3_leaves 19 = .ok (.iload_n 2, 1) := dk_28 (dk_at dksX3_leaves_0 19 rfl rfl)
theorem dX3_leaves_20 : decode cX3_leaves 20 = .ok (.invokevirtual 132, 3) := dk_182 0 132 (dk_at dksX3_leaves_0 20 rfl rfl)
theorem dX3_leaves_23 : decode cX3_leaves 23 = .ok (.goto 4, 3) := dk_167 0 4 (dk_at dksX3_leaves_1 0 rfl rfl)
theorem dX3_leaves_26 : decode cX3_leaves 26 = .ok (.iconst (-1), 1) := dk_2 (dk_at dksX3_leaves_1 3 rfl rfl)
theorem dX3_leaves_27 : decode cX3_leaves 27 = .ok (.istore_n 3, 1) := dk_62 (dk_at dksX3_leaves_1 4 rfl rfl)
theorem dX3_leaves_28 : decode cX3_leaves 28 = .ok (.aload_n 0, 1) := dk_42 (dk_at dksX3_leaves_1 5 rfl rfl)
theorem dX3_leaves_29 : decode cX3_leaves 29 = .ok (.getfield 45, 3) := dk_180 0 45 (dk_at dksX3_leaves_1 6 rfl rfl)
theorem dX3_leaves_32 : decode cX3_leaves 32 = .ok (.iload_n 1, 1) := dk_27 (dk_at dksX3_leaves_1 9 rfl rfl)
theorem dX3_leaves_33 : decode cX3_leaves 33 = .ok (.iload_n 3, 1) := dk_29 (dk_at dksX3_leaves_1 10 rfl rfl)
theorem dX3_leaves_34 : decode cX3_leaves 34 = .ok (.iconst (-1), 1) := dk_2 (dk_at dksX3_leaves_1 11 rfl rfl)
theorem dX3_leaves_35 : decode cX3_leaves 35 = .ok (.if_icmp .ne 8, 3) := dk_160 0 8 (dk_at dksX3_leaves_1 12 rfl rfl)
theorem dX3_leaves_38 : decode cX3_leaves 38 = .ok (.bipush 109, 2) := dk_16 109 (dk_at dksX3_leaves_1 15 rfl rfl)
theorem dX3_leaves_40 : decode cX3_leaves 40 = .ok (.goto 5, 3) := dk_167 0 5 (dk_at dksX3_leaves_1 17 rfl rfl)
theorem dX3_leaves_43 : decode cX3_leaves 43 = .ok (.bipush 100, 2) := dk_16 100 (dk_at dksX3_leaves_1 20 rfl rfl)
theorem dX3_leaves_45 : decode cX3_leaves 45 = .ok (.castore, 1) := dk_85 (dk_at dksX3_leaves_1 22 rfl rfl)
theorem dX3_leaves_46 : decode cX3_leaves 46 = .ok (.iload_n 3, 1) := dk_29 (dk_at dksX3_leaves_1 23 rfl rfl)
theorem dX3_leaves_47 : decode cX3_leaves 47 = .ok (.iconst (-1), 1) := dk_2 (dk_at dksX3_leaves_2 0 rfl rfl)
theorem dX3_leaves_48 : decode cX3_leaves 48 = .ok (.if_icmp .ne 5, 3) := dk_160 0 5 (dk_at dksX3_leaves_2 1 rfl rfl)
theorem dX3_leaves_51 : decode cX3_leaves 51 = .ok (.iconst 0, 1) := dk_3 (dk_at dksX3_leaves_2 4 rfl rfl)
theorem dX3_leaves_52 : decode cX3_leaves 52 = .ok (.ireturn, 1) := dk_172 (dk_at dksX3_leaves_2 5 rfl rfl)
theorem dX3_leaves_53 : decode cX3_leaves 53 = .ok (.aload_n 0, 1) := dk_42 (dk_at dksX3_leaves_2 6 rfl rfl)
theorem dX3_leaves_54 : decode cX3_leaves 54 = .ok (.iload_n 3, 1) := dk_29 (dk_at dksX3_leaves_2 7 rfl rfl)
theorem dX3_leaves_55 : decode cX3_leaves 55 = .ok (.invokevirtual 141, 3) := dk_182 0 141 (dk_at dksX3_leaves_2 8 rfl rfl)
theorem dX3_leaves_58 : decode cX3_leaves 58 = .ok (.aload_n 0, 1) := dk_42 (dk_at dksX3_leaves_2 11 rfl rfl)
theorem dX3_leaves_59 : decode cX3_leaves 59 = .ok (.getfield 27, 3) := dk_180 0 27 (dk_at dksX3_leaves_2 12 rfl rfl)
theorem dX3_leaves_62 : decode cX3_leaves 62 = .ok (.aload_n 0, 1) := dk_42 (dk_at dksX3_leaves_2 15 rfl rfl)
theorem dX3_leaves_63 : decode cX3_leaves 63 = .ok (.iconst 0, 1) := dk_3 (dk_at dksX3_leaves_2 16 rfl rfl)
theorem dX3_leaves_64 : decode cX3_leaves 64 = .ok (.iload_n 2, 1) := dk_28 (dk_at dksX3_leaves_2 17 rfl rfl)
theorem dX3_leaves_65 : decode cX3_leaves 65 = .ok (.invokevirtual 62, 3) := dk_182 0 62 (dk_at dksX3_leaves_2 18 rfl rfl)
theorem dX3_leaves_68 : decode cX3_leaves 68 = .ok (.dup2, 1) := dk_92 (dk_at dksX3_leaves_2 21 rfl rfl)
theorem dX3_leaves_69 : decode cX3_leaves 69 = .ok (.iaload, 1) := dk_46 (dk_at dksX3_leaves_2 22 rfl rfl)
theorem dX3_leaves_70 : decode cX3_leaves 70 = .ok (.iconst 1, 1) := dk_4 (dk_at dksX3_leaves_2 23 rfl rfl)
theorem dX3_leaves_71 : decode cX3_leaves 71 = .ok (.isub, 1) := dk_100 (dk_at dksX3_leaves_3 0 rfl rfl)
theorem dX3_leaves_72 : decode cX3_leaves 72 = .ok (.iastore, 1) := dk_79 (dk_at dksX3_leaves_3 1 rfl rfl)
theorem dX3_leaves_73 : decode cX3_leaves 73 = .ok (.aload_n 0, 1) := dk_42 (dk_at dksX3_leaves_3 2 rfl rfl)
theorem dX3_leaves_74 : decode cX3_leaves 74 = .ok (.getfield 16, 3) := dk_180 0 16 (dk_at dksX3_leaves_3 3 rfl rfl)
theorem dX3_leaves_77 : decode cX3_leaves 77 = .ok (.iload_n 2, 1) := dk_28 (dk_at dksX3_leaves_3 6 rfl rfl)
theorem dX3_leaves_78 : decode cX3_leaves 78 = .ok (.iconst 0, 1) := dk_3 (dk_at dksX3_leaves_3 7 rfl rfl)
theorem dX3_leaves_79 : decode cX3_leaves 79 = .ok (.bastore, 1) := dk_84 (dk_at dksX3_leaves_3 8 rfl rfl)
theorem dX3_leaves_80 : decode cX3_leaves 80 = .ok (.aload_n 0, 1) := dk_42 (dk_at dksX3_leaves_3 9 rfl rfl)
theorem dX3_leaves_81 : decode cX3_leaves 81 = .ok (.dup, 1) := dk_89 (dk_at dksX3_leaves_3 10 rfl rfl)
theorem dX3_leaves_82 : decode cX3_leaves 82 = .ok (.getfield 155, 3) := dk_180 0 155 (dk_at dksX3_leaves_3 11 rfl rfl)
theorem dX3_leaves_85 : decode cX3_leaves 85 = .ok (.aload_n 0, 1) := dk_42 (dk_at dksX3_leaves_3 14 rfl rfl)
theorem dX3_leaves_86 : decode cX3_leaves 86 = .ok (.getfield 13, 3) := dk_180 0 13 (dk_at dksX3_leaves_3 15 rfl rfl)
theorem dX3_leaves_89 : decode cX3_leaves 89 = .ok (.iload_n 2, 1) := dk_28 (dk_at dksX3_leaves_3 18 rfl rfl)
theorem dX3_leaves_90 : decode cX3_leaves 90 = .ok (.iaload, 1) := dk_46 (dk_at dksX3_leaves_3 19 rfl rfl)
theorem dX3_leaves_91 : decode cX3_leaves 91 = .ok (.i2l, 1) := dk_133 (dk_at dksX3_leaves_3 20 rfl rfl)
theorem dX3_leaves_92 : decode cX3_leaves 92 = .ok (.ladd, 1) := dk_97 (dk_at dksX3_leaves_3 21 rfl rfl)
theorem dX3_leaves_93 : decode cX3_leaves 93 = .ok (.putfield 155, 3) := dk_181 0 155 (dk_at dksX3_leaves_4 0 rfl rfl)
theorem dX3_leaves_96 : decode cX3_leaves 96 = .ok (.iconst 1, 1) := dk_4 (dk_at dksX3_leaves_4 3 rfl rfl)
theorem dX3_leaves_97 : decode cX3_leaves 97 = .ok (.ireturn, 1) := dk_172 (dk_at dksX3_leaves_4 4 rfl rfl)
abbrev cX3_now : ByteArray := prog_9_method_60_code
def yX3_now : MethodName := ⟨RX3, "now", "()I"⟩
def dkwX3_now_0 : List UInt8 := [42, 3, 181, 0, 48, 42, 180, 0, 126, 172]
abbrev dktX3_now_0 : List UInt8 := dkwX3_now_0 ++ []
theorem dksX3_now_0 : cX3_now.data.toList.drop 0 = dktX3_now_0 := by decide +kernel
theorem dX3_now_0 : decode cX3_now 0 = .ok (.aload_n 0, 1) := dk_42 (dk_at dksX3_now_0 0 rfl rfl)
theorem dX3_now_1 : decode cX3_now 1 = .ok (.iconst 0, 1) := dk_3 (dk_at dksX3_now_0 1 rfl rfl)
theorem dX3_now_2 : decode cX3_now 2 = .ok (.putfield 48, 3) := dk_181 0 48 (dk_at dksX3_now_0 2 rfl rfl)
theorem dX3_now_5 : decode cX3_now 5 = .ok (.aload_n 0, 1) := dk_42 (dk_at dksX3_now_0 5 rfl rfl)
theorem dX3_now_6 : decode cX3_now 6 = .ok (.getfield 126, 3) := dk_180 0 126 (dk_at dksX3_now_0 6 rfl rfl)
theorem dX3_now_9 : decode cX3_now 9 = .ok (.ireturn, 1) := dk_172 (dk_at dksX3_now_0 9 rfl rfl)
abbrev cX3_weightLeft : ByteArray := prog_9_method_61_code
def yX3_weightLeft : MethodName := ⟨RX3, "weightLeft", "()J"⟩
def dkwX3_weightLeft_0 : List UInt8 := [42, 3, 181, 0, 48, 42, 180, 0, 155, 173]
abbrev dktX3_weightLeft_0 : List UInt8 := dkwX3_weightLeft_0 ++ []
theorem dksX3_weightLeft_0 : cX3_weightLeft.data.toList.drop 0 = dktX3_weightLeft_0 := by decide +kernel
theorem dX3_weightLeft_0 : decode cX3_weightLeft 0 = .ok (.aload_n 0, 1) := dk_42 (dk_at dksX3_weightLeft_0 0 rfl rfl)
theorem dX3_weightLeft_1 : decode cX3_weightLeft 1 = .ok (.iconst 0, 1) := dk_3 (dk_at dksX3_weightLeft_0 1 rfl rfl)
theorem dX3_weightLeft_2 : decode cX3_weightLeft 2 = .ok (.putfield 48, 3) := dk_181 0 48 (dk_at dksX3_weightLeft_0 2 rfl rfl)
theorem dX3_weightLeft_5 : decode cX3_weightLeft 5 = .ok (.aload_n 0, 1) := dk_42 (dk_at dksX3_weightLeft_0 5 rfl rfl)
theorem dX3_weightLeft_6 : decode cX3_weightLeft 6 = .ok (.getfield 155, 3) := dk_180 0 155 (dk_at dksX3_weightLeft_0 6 rfl rfl)
theorem dX3_weightLeft_9 : decode cX3_weightLeft 9 = .ok (.lreturn, 1) := dk_173 (dk_at dksX3_weightLeft_0 9 rfl rfl)
abbrev cX3_doneShare : ByteArray := prog_9_method_62_code
def yX3_doneShare : MethodName := ⟨RX3, "doneShare", "()F"⟩
def dkwX3_doneShare_1 : List UInt8 := [96, 60, 27, 154, 0, 10, 42, 4, 181, 0, 48, 11, 174, 42, 16, 100, 182, 0, 151, 134, 27, 134, 110, 174]
abbrev dktX3_doneShare_1 : List UInt8 := dkwX3_doneShare_1 ++ []
def dkwX3_doneShare_0 : List UInt8 := [42, 3, 181, 0, 48, 42, 16, 100, 182, 0, 151, 42, 16, 109, 182, 0, 151, 96, 42, 16, 103, 182, 0, 151]
abbrev dktX3_doneShare_0 : List UInt8 := dkwX3_doneShare_0 ++ dktX3_doneShare_1
theorem dksX3_doneShare_0 : cX3_doneShare.data.toList.drop 0 = dktX3_doneShare_0 := by decide +kernel
theorem dksX3_doneShare_1 : cX3_doneShare.data.toList.drop 24 = dktX3_doneShare_1 := dk_seg dksX3_doneShare_0 24 rfl rfl
theorem dX3_doneShare_0 : decode cX3_doneShare 0 = .ok (.aload_n 0, 1) := dk_42 (dk_at dksX3_doneShare_0 0 rfl rfl)
theorem dX3_doneShare_1 : decode cX3_doneShare 1 = .ok (.iconst 0, 1) := dk_3 (dk_at dksX3_doneShare_0 1 rfl rfl)
theorem dX3_doneShare_2 : decode cX3_doneShare 2 = .ok (.putfield 48, 3) := dk_181 0 48 (dk_at dksX3_doneShare_0 2 rfl rfl)
theorem dX3_doneShare_5 : decode cX3_doneShare 5 = .ok (.aload_n 0, 1) := dk_42 (dk_at dksX3_doneShare_0 5 rfl rfl)
theorem dX3_doneShare_6 : decode cX3_doneShare 6 = .ok (.bipush 100, 2) := dk_16 100 (dk_at dksX3_doneShare_0 6 rfl rfl)
theorem dX3_doneShare_8 : decode cX3_doneShare 8 = .ok (.invokevirtual 151, 3) := dk_182 0 151 (dk_at dksX3_doneShare_0 8 rfl rfl)
theorem dX3_doneShare_11 : decode cX3_doneShare 11 = .ok (.aload_n 0, 1) := dk_42 (dk_at dksX3_doneShare_0 11 rfl rfl)
theorem dX3_doneShare_12 : decode cX3_doneShare 12 = .ok (.bipush 109, 2) := dk_16 109 (dk_at dksX3_doneShare_0 12 rfl rfl)
theorem dX3_doneShare_14 : decode cX3_doneShare 14 = .ok (.invokevirtual 151, 3) := dk_182 0 151 (dk_at dksX3_doneShare_0 14 rfl rfl)
theorem dX3_doneShare_17 : decode cX3_doneShare 17 = .ok (.iadd, 1) := dk_96 (dk_at dksX3_doneShare_0 17 rfl rfl)
theorem dX3_doneShare_18 : decode cX3_doneShare 18 = .ok (.aload_n 0, 1) := dk_42 (dk_at dksX3_doneShare_0 18 rfl rfl)
theorem dX3_doneShare_19 : decode cX3_doneShare 19 = .ok (.bipush 103, 2) := dk_16 103 (dk_at dksX3_doneShare_0 19 rfl rfl)
theorem dX3_doneShare_21 : decode cX3_doneShare 21 = .ok (.invokevirtual 151, 3) := dk_182 0 151 (dk_at dksX3_doneShare_0 21 rfl rfl)
theorem dX3_doneShare_24 : decode cX3_doneShare 24 = .ok (.iadd, 1) := dk_96 (dk_at dksX3_doneShare_1 0 rfl rfl)
theorem dX3_doneShare_25 : decode cX3_doneShare 25 = .ok (.istore_n 1, 1) := dk_60 (dk_at dksX3_doneShare_1 1 rfl rfl)
theorem dX3_doneShare_26 : decode cX3_doneShare 26 = .ok (.iload_n 1, 1) := dk_27 (dk_at dksX3_doneShare_1 2 rfl rfl)
theorem dX3_doneShare_27 : decode cX3_doneShare 27 = .ok (.ifCond .ne 10, 3) := dk_154 0 10 (dk_at dksX3_doneShare_1 3 rfl rfl)
theorem dX3_doneShare_30 : decode cX3_doneShare 30 = .ok (.aload_n 0, 1) := dk_42 (dk_at dksX3_doneShare_1 6 rfl rfl)
theorem dX3_doneShare_31 : decode cX3_doneShare 31 = .ok (.iconst 1, 1) := dk_4 (dk_at dksX3_doneShare_1 7 rfl rfl)
theorem dX3_doneShare_32 : decode cX3_doneShare 32 = .ok (.putfield 48, 3) := dk_181 0 48 (dk_at dksX3_doneShare_1 8 rfl rfl)
theorem dX3_doneShare_35 : decode cX3_doneShare 35 = .ok (.fconst 0, 1) := dk_11 (dk_at dksX3_doneShare_1 11 rfl rfl)
theorem dX3_doneShare_36 : decode cX3_doneShare 36 = .ok (.freturn, 1) := dk_174 (dk_at dksX3_doneShare_1 12 rfl rfl)
theorem dX3_doneShare_37 : decode cX3_doneShare 37 = .ok (.aload_n 0, 1) := dk_42 (dk_at dksX3_doneShare_1 13 rfl rfl)
theorem dX3_doneShare_38 : decode cX3_doneShare 38 = .ok (.bipush 100, 2) := dk_16 100 (dk_at dksX3_doneShare_1 14 rfl rfl)
theorem dX3_doneShare_40 : decode cX3_doneShare 40 = .ok (.invokevirtual 151, 3) := dk_182 0 151 (dk_at dksX3_doneShare_1 16 rfl rfl)
theorem dX3_doneShare_43 : decode cX3_doneShare 43 = .ok (.i2f, 1) := dk_134 (dk_at dksX3_doneShare_1 19 rfl rfl)
theorem dX3_doneShare_44 : decode cX3_doneShare 44 = .ok (.iload_n 1, 1) := dk_27 (dk_at dksX3_doneShare_1 20 rfl rfl)
theorem dX3_doneShare_45 : decode cX3_doneShare 45 = .ok (.i2f, 1) := dk_134 (dk_at dksX3_doneShare_1 21 rfl rfl)
theorem dX3_doneShare_46 : decode cX3_doneShare 46 = .ok (.fdiv, 1) := dk_110 (dk_at dksX3_doneShare_1 22 rfl rfl)
theorem dX3_doneShare_47 : decode cX3_doneShare 47 = .ok (.freturn, 1) := dk_174 (dk_at dksX3_doneShare_1 23 rfl rfl)
theorem q65 : (Jvm.Cond.initialized "QuaylockModel") ∈ lw_all := lw_g (lw_at lw_m1 8 rfl) rfl
theorem q899 : (Jvm.Cond.selects "QuaylockModel" ({ cls := "java/lang/Object", name := "getClass", desc := "()Ljava/lang/Class;" } : Jvm.MethodName) ({ cls := "java/lang/Object", name := "getClass", desc := "()Ljava/lang/Class;" } : Jvm.MethodName)) ∈ lw_all := lw_g (lw_at lw_m4 122 rfl) rfl
theorem q1382 : (Jvm.Cond.instantiable "QuaylockModel" (19 : Nat)) ∈ lw_all := lw_g (lw_at lw_m6 125 rfl) rfl
theorem q1384 : (Jvm.Cond.instanceMethod ({ cls := "QuaylockModel", name := "<init>", desc := "()V" } : Jvm.MethodName)) ∈ lw_all := lw_g (lw_at lw_m6 127 rfl) rfl
theorem q1385 : (Jvm.Cond.code ({ cls := "QuaylockModel", name := "<init>", desc := "()V" } : Jvm.MethodName) prog_9_method_1_code (1 : Nat) (Option.none : Option Jvm.ClassFile.FieldType)) ∈ lw_all := lw_g (lw_at lw_m6 128 rfl) rfl
theorem q1386 : (Jvm.Cond.methodLink "QuaylockModel" (1 : Nat) ({ cls := "java/lang/Object", name := "<init>", desc := "()V" } : Jvm.MethodName)) ∈ lw_all := lw_g (lw_at lw_m6 129 rfl) rfl
theorem q1387 : (Jvm.Cond.fieldLink "QuaylockModel" (48 : Nat) "QuaylockModel" "code" "I") ∈ lw_all := lw_g (lw_at lw_m6 130 rfl) rfl
theorem q1388 : (Jvm.Cond.fieldLink "QuaylockModel" (126 : Nat) "QuaylockModel" "now" "I") ∈ lw_all := lw_g (lw_at lw_m6 131 rfl) rfl
theorem q1389 : (Jvm.Cond.fieldLink "QuaylockModel" (59 : Nat) "QuaylockModel" "stacks" "I") ∈ lw_all := lw_g (lw_at lw_m6 132 rfl) rfl
theorem q1390 : (Jvm.Cond.fieldLink "QuaylockModel" (7 : Nat) "QuaylockModel" "reaches" "[I") ∈ lw_all := lw_g (lw_at lw_m6 133 rfl) rfl
theorem q1391 : (Jvm.Cond.fieldLink "QuaylockModel" (52 : Nat) "QuaylockModel" "boxes" "I") ∈ lw_all := lw_g (lw_at lw_m6 134 rfl) rfl
theorem q1392 : (Jvm.Cond.fieldLink "QuaylockModel" (13 : Nat) "QuaylockModel" "weights" "[I") ∈ lw_all := lw_g (lw_at lw_m6 135 rfl) rfl
theorem q1393 : (Jvm.Cond.fieldLink "QuaylockModel" (16 : Nat) "QuaylockModel" "inside" "[Z") ∈ lw_all := lw_g (lw_at lw_m6 136 rfl) rfl
theorem q1394 : (Jvm.Cond.fieldLink "QuaylockModel" (20 : Nat) "QuaylockModel" "holds" "[C") ∈ lw_all := lw_g (lw_at lw_m6 137 rfl) rfl
theorem q1395 : (Jvm.Cond.fieldLink "QuaylockModel" (24 : Nat) "QuaylockModel" "untils" "[I") ∈ lw_all := lw_g (lw_at lw_m6 138 rfl) rfl
theorem q1396 : (Jvm.Cond.fieldLink "QuaylockModel" (27 : Nat) "QuaylockModel" "heights" "[I") ∈ lw_all := lw_g (lw_at lw_m6 139 rfl) rfl
theorem q1397 : (Jvm.Cond.fieldLink "QuaylockModel" (30 : Nat) "QuaylockModel" "piles" "[I") ∈ lw_all := lw_g (lw_at lw_m6 140 rfl) rfl
theorem q1398 : (Jvm.Cond.fieldLink "QuaylockModel" (33 : Nat) "QuaylockModel" "plan" "[I") ∈ lw_all := lw_g (lw_at lw_m6 141 rfl) rfl
theorem q1399 : (Jvm.Cond.fieldLink "QuaylockModel" (108 : Nat) "QuaylockModel" "moves" "I") ∈ lw_all := lw_g (lw_at lw_m6 142 rfl) rfl
theorem q1400 : (Jvm.Cond.fieldLink "QuaylockModel" (123 : Nat) "QuaylockModel" "appointments" "I") ∈ lw_all := lw_g (lw_at lw_m6 143 rfl) rfl
theorem q1401 : (Jvm.Cond.fieldLink "QuaylockModel" (36 : Nat) "QuaylockModel" "appointed" "[I") ∈ lw_all := lw_g (lw_at lw_m6 144 rfl) rfl
theorem q1402 : (Jvm.Cond.fieldLink "QuaylockModel" (39 : Nat) "QuaylockModel" "hours" "[I") ∈ lw_all := lw_g (lw_at lw_m6 145 rfl) rfl
theorem q1403 : (Jvm.Cond.fieldLink "QuaylockModel" (42 : Nat) "QuaylockModel" "lanes" "[I") ∈ lw_all := lw_g (lw_at lw_m6 146 rfl) rfl
theorem q1404 : (Jvm.Cond.fieldLink "QuaylockModel" (45 : Nat) "QuaylockModel" "states" "[C") ∈ lw_all := lw_g (lw_at lw_m6 147 rfl) rfl
theorem q1405 : (Jvm.Cond.fieldLink "QuaylockModel" (155 : Nat) "QuaylockModel" "left" "J") ∈ lw_all := lw_g (lw_at lw_m6 148 rfl) rfl
theorem q1406 : (Jvm.Cond.lays "QuaylockModel" "QuaylockModel" "code" "I") ∈ lw_all := lw_g (lw_at lw_m6 149 rfl) rfl
theorem q1407 : (Jvm.Cond.soleField "QuaylockModel" "code") ∈ lw_all := lw_g (lw_at lw_m6 150 rfl) rfl
theorem q1408 : (Jvm.Cond.lays "QuaylockModel" "QuaylockModel" "now" "I") ∈ lw_all := lw_g (lw_at lw_m6 151 rfl) rfl
theorem q1409 : (Jvm.Cond.soleField "QuaylockModel" "now") ∈ lw_all := lw_g (lw_at lw_m6 152 rfl) rfl
theorem q1410 : (Jvm.Cond.lays "QuaylockModel" "QuaylockModel" "stacks" "I") ∈ lw_all := lw_g (lw_at lw_m6 153 rfl) rfl
theorem q1411 : (Jvm.Cond.soleField "QuaylockModel" "stacks") ∈ lw_all := lw_g (lw_at lw_m6 154 rfl) rfl
theorem q1412 : (Jvm.Cond.laysFinal "QuaylockModel" "QuaylockModel" "reaches" "[I") ∈ lw_all := lw_g (lw_at lw_m6 155 rfl) rfl
theorem q1413 : (Jvm.Cond.soleField "QuaylockModel" "reaches") ∈ lw_all := lw_g (lw_at lw_m6 156 rfl) rfl
theorem q1414 : (Jvm.Cond.lays "QuaylockModel" "QuaylockModel" "boxes" "I") ∈ lw_all := lw_g (lw_at lw_m6 157 rfl) rfl
theorem q1415 : (Jvm.Cond.soleField "QuaylockModel" "boxes") ∈ lw_all := lw_g (lw_at lw_m6 158 rfl) rfl
theorem q1416 : (Jvm.Cond.laysFinal "QuaylockModel" "QuaylockModel" "weights" "[I") ∈ lw_all := lw_g (lw_at lw_m6 159 rfl) rfl
theorem q1417 : (Jvm.Cond.soleField "QuaylockModel" "weights") ∈ lw_all := lw_g (lw_at lw_m6 160 rfl) rfl
theorem q1418 : (Jvm.Cond.laysFinal "QuaylockModel" "QuaylockModel" "inside" "[Z") ∈ lw_all := lw_g (lw_at lw_m6 161 rfl) rfl
theorem q1419 : (Jvm.Cond.soleField "QuaylockModel" "inside") ∈ lw_all := lw_g (lw_at lw_m6 162 rfl) rfl
theorem q1420 : (Jvm.Cond.laysFinal "QuaylockModel" "QuaylockModel" "holds" "[C") ∈ lw_all := lw_g (lw_at lw_m6 163 rfl) rfl
theorem q1421 : (Jvm.Cond.soleField "QuaylockModel" "holds") ∈ lw_all := lw_g (lw_at lw_m6 164 rfl) rfl
theorem q1422 : (Jvm.Cond.laysFinal "QuaylockModel" "QuaylockModel" "untils" "[I") ∈ lw_all := lw_g (lw_at lw_m6 165 rfl) rfl
theorem q1423 : (Jvm.Cond.soleField "QuaylockModel" "untils") ∈ lw_all := lw_g (lw_at lw_m6 166 rfl) rfl
theorem q1424 : (Jvm.Cond.laysFinal "QuaylockModel" "QuaylockModel" "heights" "[I") ∈ lw_all := lw_g (lw_at lw_m6 167 rfl) rfl
theorem q1425 : (Jvm.Cond.soleField "QuaylockModel" "heights") ∈ lw_all := lw_g (lw_at lw_m6 168 rfl) rfl
theorem q1426 : (Jvm.Cond.laysFinal "QuaylockModel" "QuaylockModel" "piles" "[I") ∈ lw_all := lw_g (lw_at lw_m6 169 rfl) rfl
theorem q1427 : (Jvm.Cond.soleField "QuaylockModel" "piles") ∈ lw_all := lw_g (lw_at lw_m6 170 rfl) rfl
theorem q1428 : (Jvm.Cond.laysFinal "QuaylockModel" "QuaylockModel" "plan" "[I") ∈ lw_all := lw_g (lw_at lw_m6 171 rfl) rfl
theorem q1429 : (Jvm.Cond.soleField "QuaylockModel" "plan") ∈ lw_all := lw_g (lw_at lw_m6 172 rfl) rfl
theorem q1430 : (Jvm.Cond.lays "QuaylockModel" "QuaylockModel" "moves" "I") ∈ lw_all := lw_g (lw_at lw_m6 173 rfl) rfl
theorem q1431 : (Jvm.Cond.soleField "QuaylockModel" "moves") ∈ lw_all := lw_g (lw_at lw_m6 174 rfl) rfl
theorem q1432 : (Jvm.Cond.lays "QuaylockModel" "QuaylockModel" "appointments" "I") ∈ lw_all := lw_g (lw_at lw_m6 175 rfl) rfl
theorem q1433 : (Jvm.Cond.soleField "QuaylockModel" "appointments") ∈ lw_all := lw_g (lw_at lw_m6 176 rfl) rfl
theorem q1434 : (Jvm.Cond.laysFinal "QuaylockModel" "QuaylockModel" "appointed" "[I") ∈ lw_all := lw_g (lw_at lw_m6 177 rfl) rfl
theorem q1435 : (Jvm.Cond.soleField "QuaylockModel" "appointed") ∈ lw_all := lw_g (lw_at lw_m6 178 rfl) rfl
theorem q1436 : (Jvm.Cond.laysFinal "QuaylockModel" "QuaylockModel" "hours" "[I") ∈ lw_all := lw_g (lw_at lw_m6 179 rfl) rfl
theorem q1437 : (Jvm.Cond.soleField "QuaylockModel" "hours") ∈ lw_all := lw_g (lw_at lw_m6 180 rfl) rfl
theorem q1438 : (Jvm.Cond.laysFinal "QuaylockModel" "QuaylockModel" "lanes" "[I") ∈ lw_all := lw_g (lw_at lw_m6 181 rfl) rfl
theorem q1439 : (Jvm.Cond.soleField "QuaylockModel" "lanes") ∈ lw_all := lw_g (lw_at lw_m6 182 rfl) rfl
theorem q1440 : (Jvm.Cond.laysFinal "QuaylockModel" "QuaylockModel" "states" "[C") ∈ lw_all := lw_g (lw_at lw_m6 183 rfl) rfl
theorem q1441 : (Jvm.Cond.soleField "QuaylockModel" "states") ∈ lw_all := lw_g (lw_at lw_m6 184 rfl) rfl
theorem q1442 : (Jvm.Cond.lays "QuaylockModel" "QuaylockModel" "left" "J") ∈ lw_all := lw_g (lw_at lw_m6 185 rfl) rfl
theorem q1443 : (Jvm.Cond.soleField "QuaylockModel" "left") ∈ lw_all := lw_g (lw_at lw_m6 186 rfl) rfl
theorem q1444 : (Jvm.Cond.superclass "QuaylockModel" "java/lang/Object") ∈ lw_all := lw_g (lw_at lw_m6 187 rfl) rfl
theorem q1448 : (Jvm.Cond.instanceMethod ({ cls := "QuaylockModel", name := "thrown", desc := "()I" } : Jvm.MethodName)) ∈ lw_all := lw_g (lw_at lw_m6 191 rfl) rfl
theorem q1449 : (Jvm.Cond.selects "QuaylockModel" ({ cls := "QuaylockModel", name := "thrown", desc := "()I" } : Jvm.MethodName) ({ cls := "QuaylockModel", name := "thrown", desc := "()I" } : Jvm.MethodName)) ∈ lw_all := lw_g (lw_at lw_m6 192 rfl) rfl
theorem q1450 : (Jvm.Cond.code ({ cls := "QuaylockModel", name := "thrown", desc := "()I" } : Jvm.MethodName) prog_9_method_2_code (1 : Nat) (Option.some Jvm.ClassFile.FieldType.int)) ∈ lw_all := lw_g (lw_at lw_m6 193 rfl) rfl
theorem q1452 : (Jvm.Cond.instanceMethod ({ cls := "QuaylockModel", name := "addStack", desc := "(I)I" } : Jvm.MethodName)) ∈ lw_all := lw_g (lw_at lw_m6 195 rfl) rfl
theorem q1453 : (Jvm.Cond.selects "QuaylockModel" ({ cls := "QuaylockModel", name := "addStack", desc := "(I)I" } : Jvm.MethodName) ({ cls := "QuaylockModel", name := "addStack", desc := "(I)I" } : Jvm.MethodName)) ∈ lw_all := lw_g (lw_at lw_m6 196 rfl) rfl
theorem q1454 : (Jvm.Cond.code ({ cls := "QuaylockModel", name := "addStack", desc := "(I)I" } : Jvm.MethodName) prog_9_method_22_code (2 : Nat) (Option.some Jvm.ClassFile.FieldType.int)) ∈ lw_all := lw_g (lw_at lw_m6 197 rfl) rfl
theorem q1455 : (Jvm.Cond.methodLink "QuaylockModel" (55 : Nat) ({ cls := "QuaylockModel", name := "in", desc := "(III)Z" } : Jvm.MethodName)) ∈ lw_all := lw_g (lw_at lw_m6 198 rfl) rfl
theorem q1456 : (Jvm.Cond.static ({ cls := "QuaylockModel", name := "in", desc := "(III)Z" } : Jvm.MethodName)) ∈ lw_all := lw_g (lw_at lw_m6 199 rfl) rfl
theorem q1457 : (Jvm.Cond.code ({ cls := "QuaylockModel", name := "in", desc := "(III)Z" } : Jvm.MethodName) prog_9_method_3_code (3 : Nat) (Option.some Jvm.ClassFile.FieldType.boolean)) ∈ lw_all := lw_g (lw_at lw_m6 200 rfl) rfl
theorem q1458 : (Jvm.Cond.methodLink "QuaylockModel" (110 : Nat) ({ cls := "QuaylockModel", name := "fails", desc := "(I)I" } : Jvm.MethodName)) ∈ lw_all := lw_g (lw_at lw_m6 201 rfl) rfl
theorem q1459 : (Jvm.Cond.privateMethod ({ cls := "QuaylockModel", name := "fails", desc := "(I)I" } : Jvm.MethodName)) ∈ lw_tbl := lw_at lw_m6 202 rfl
theorem q1460 : (Jvm.Cond.instanceMethod ({ cls := "QuaylockModel", name := "fails", desc := "(I)I" } : Jvm.MethodName)) ∈ lw_all := lw_g (lw_at lw_m6 203 rfl) rfl
theorem q1461 : (Jvm.Cond.code ({ cls := "QuaylockModel", name := "fails", desc := "(I)I" } : Jvm.MethodName) prog_9_method_4_code (2 : Nat) (Option.some Jvm.ClassFile.FieldType.int)) ∈ lw_all := lw_g (lw_at lw_m6 204 rfl) rfl
theorem q1463 : (Jvm.Cond.instanceMethod ({ cls := "QuaylockModel", name := "addBox", desc := "(II)I" } : Jvm.MethodName)) ∈ lw_all := lw_g (lw_at lw_m6 206 rfl) rfl
theorem q1464 : (Jvm.Cond.selects "QuaylockModel" ({ cls := "QuaylockModel", name := "addBox", desc := "(II)I" } : Jvm.MethodName) ({ cls := "QuaylockModel", name := "addBox", desc := "(II)I" } : Jvm.MethodName)) ∈ lw_all := lw_g (lw_at lw_m6 207 rfl) rfl
theorem q1465 : (Jvm.Cond.code ({ cls := "QuaylockModel", name := "addBox", desc := "(II)I" } : Jvm.MethodName) prog_9_method_24_code (3 : Nat) (Option.some Jvm.ClassFile.FieldType.int)) ∈ lw_all := lw_g (lw_at lw_m6 208 rfl) rfl
theorem q1466 : (Jvm.Cond.methodLink "QuaylockModel" (113 : Nat) ({ cls := "QuaylockModel", name := "isStack", desc := "(I)Z" } : Jvm.MethodName)) ∈ lw_all := lw_g (lw_at lw_m6 209 rfl) rfl
theorem q1467 : (Jvm.Cond.privateMethod ({ cls := "QuaylockModel", name := "isStack", desc := "(I)Z" } : Jvm.MethodName)) ∈ lw_tbl := lw_at lw_m6 210 rfl
theorem q1468 : (Jvm.Cond.instanceMethod ({ cls := "QuaylockModel", name := "isStack", desc := "(I)Z" } : Jvm.MethodName)) ∈ lw_all := lw_g (lw_at lw_m6 211 rfl) rfl
theorem q1469 : (Jvm.Cond.code ({ cls := "QuaylockModel", name := "isStack", desc := "(I)Z" } : Jvm.MethodName) prog_9_method_6_code (2 : Nat) (Option.some Jvm.ClassFile.FieldType.boolean)) ∈ lw_all := lw_g (lw_at lw_m6 212 rfl) rfl
theorem q1470 : (Jvm.Cond.methodLink "QuaylockModel" (77 : Nat) ({ cls := "QuaylockModel", name := "takes", desc := "(III)Z" } : Jvm.MethodName)) ∈ lw_all := lw_g (lw_at lw_m6 213 rfl) rfl
theorem q1471 : (Jvm.Cond.privateMethod ({ cls := "QuaylockModel", name := "takes", desc := "(III)Z" } : Jvm.MethodName)) ∈ lw_tbl := lw_at lw_m6 214 rfl
theorem q1472 : (Jvm.Cond.instanceMethod ({ cls := "QuaylockModel", name := "takes", desc := "(III)Z" } : Jvm.MethodName)) ∈ lw_all := lw_g (lw_at lw_m6 215 rfl) rfl
theorem q1473 : (Jvm.Cond.code ({ cls := "QuaylockModel", name := "takes", desc := "(III)Z" } : Jvm.MethodName) prog_9_method_12_code (4 : Nat) (Option.some Jvm.ClassFile.FieldType.boolean)) ∈ lw_all := lw_g (lw_at lw_m6 216 rfl) rfl
theorem q1474 : (Jvm.Cond.methodLink "QuaylockModel" (66 : Nat) ({ cls := "QuaylockModel", name := "topOf", desc := "(II)I" } : Jvm.MethodName)) ∈ lw_all := lw_g (lw_at lw_m6 217 rfl) rfl
theorem q1475 : (Jvm.Cond.privateMethod ({ cls := "QuaylockModel", name := "topOf", desc := "(II)I" } : Jvm.MethodName)) ∈ lw_tbl := lw_at lw_m6 218 rfl
theorem q1476 : (Jvm.Cond.instanceMethod ({ cls := "QuaylockModel", name := "topOf", desc := "(II)I" } : Jvm.MethodName)) ∈ lw_all := lw_g (lw_at lw_m6 219 rfl) rfl
theorem q1477 : (Jvm.Cond.code ({ cls := "QuaylockModel", name := "topOf", desc := "(II)I" } : Jvm.MethodName) prog_9_method_10_code (4 : Nat) (Option.some Jvm.ClassFile.FieldType.int)) ∈ lw_all := lw_g (lw_at lw_m6 220 rfl) rfl
theorem q1478 : (Jvm.Cond.methodLink "QuaylockModel" (116 : Nat) ({ cls := "QuaylockModel", name := "insideNow", desc := "()I" } : Jvm.MethodName)) ∈ lw_all := lw_g (lw_at lw_m6 221 rfl) rfl
theorem q1479 : (Jvm.Cond.privateMethod ({ cls := "QuaylockModel", name := "insideNow", desc := "()I" } : Jvm.MethodName)) ∈ lw_tbl := lw_at lw_m6 222 rfl
theorem q1480 : (Jvm.Cond.instanceMethod ({ cls := "QuaylockModel", name := "insideNow", desc := "()I" } : Jvm.MethodName)) ∈ lw_all := lw_g (lw_at lw_m6 223 rfl) rfl
theorem q1481 : (Jvm.Cond.code ({ cls := "QuaylockModel", name := "insideNow", desc := "()I" } : Jvm.MethodName) prog_9_method_23_code (3 : Nat) (Option.some Jvm.ClassFile.FieldType.int)) ∈ lw_all := lw_g (lw_at lw_m6 224 rfl) rfl
theorem q1482 : (Jvm.Cond.methodLink "QuaylockModel" (80 : Nat) ({ cls := "QuaylockModel", name := "lays", desc := "(III)V" } : Jvm.MethodName)) ∈ lw_all := lw_g (lw_at lw_m6 225 rfl) rfl
theorem q1483 : (Jvm.Cond.privateMethod ({ cls := "QuaylockModel", name := "lays", desc := "(III)V" } : Jvm.MethodName)) ∈ lw_tbl := lw_at lw_m6 226 rfl
theorem q1484 : (Jvm.Cond.instanceMethod ({ cls := "QuaylockModel", name := "lays", desc := "(III)V" } : Jvm.MethodName)) ∈ lw_all := lw_g (lw_at lw_m6 227 rfl) rfl
theorem q1485 : (Jvm.Cond.code ({ cls := "QuaylockModel", name := "lays", desc := "(III)V" } : Jvm.MethodName) prog_9_method_13_code (4 : Nat) (Option.none : Option Jvm.ClassFile.FieldType)) ∈ lw_all := lw_g (lw_at lw_m6 228 rfl) rfl
theorem q1487 : (Jvm.Cond.instanceMethod ({ cls := "QuaylockModel", name := "boxes", desc := "()I" } : Jvm.MethodName)) ∈ lw_all := lw_g (lw_at lw_m6 230 rfl) rfl
theorem q1488 : (Jvm.Cond.selects "QuaylockModel" ({ cls := "QuaylockModel", name := "boxes", desc := "()I" } : Jvm.MethodName) ({ cls := "QuaylockModel", name := "boxes", desc := "()I" } : Jvm.MethodName)) ∈ lw_all := lw_g (lw_at lw_m6 231 rfl) rfl
theorem q1489 : (Jvm.Cond.code ({ cls := "QuaylockModel", name := "boxes", desc := "()I" } : Jvm.MethodName) prog_9_method_25_code (1 : Nat) (Option.some Jvm.ClassFile.FieldType.int)) ∈ lw_all := lw_g (lw_at lw_m6 232 rfl) rfl
theorem q1491 : (Jvm.Cond.instanceMethod ({ cls := "QuaylockModel", name := "isInYard", desc := "(I)Z" } : Jvm.MethodName)) ∈ lw_all := lw_g (lw_at lw_m6 234 rfl) rfl
theorem q1492 : (Jvm.Cond.selects "QuaylockModel" ({ cls := "QuaylockModel", name := "isInYard", desc := "(I)Z" } : Jvm.MethodName) ({ cls := "QuaylockModel", name := "isInYard", desc := "(I)Z" } : Jvm.MethodName)) ∈ lw_all := lw_g (lw_at lw_m6 235 rfl) rfl
theorem q1493 : (Jvm.Cond.code ({ cls := "QuaylockModel", name := "isInYard", desc := "(I)Z" } : Jvm.MethodName) prog_9_method_26_code (2 : Nat) (Option.some Jvm.ClassFile.FieldType.boolean)) ∈ lw_all := lw_g (lw_at lw_m6 236 rfl) rfl
theorem q1494 : (Jvm.Cond.methodLink "QuaylockModel" (120 : Nat) ({ cls := "QuaylockModel", name := "isBox", desc := "(I)Z" } : Jvm.MethodName)) ∈ lw_all := lw_g (lw_at lw_m6 237 rfl) rfl
theorem q1495 : (Jvm.Cond.privateMethod ({ cls := "QuaylockModel", name := "isBox", desc := "(I)Z" } : Jvm.MethodName)) ∈ lw_tbl := lw_at lw_m6 238 rfl
theorem q1496 : (Jvm.Cond.instanceMethod ({ cls := "QuaylockModel", name := "isBox", desc := "(I)Z" } : Jvm.MethodName)) ∈ lw_all := lw_g (lw_at lw_m6 239 rfl) rfl
theorem q1497 : (Jvm.Cond.code ({ cls := "QuaylockModel", name := "isBox", desc := "(I)Z" } : Jvm.MethodName) prog_9_method_5_code (2 : Nat) (Option.some Jvm.ClassFile.FieldType.boolean)) ∈ lw_all := lw_g (lw_at lw_m7 0 rfl) rfl
theorem q1499 : (Jvm.Cond.instanceMethod ({ cls := "QuaylockModel", name := "weight", desc := "(I)I" } : Jvm.MethodName)) ∈ lw_all := lw_g (lw_at lw_m7 2 rfl) rfl
theorem q1500 : (Jvm.Cond.selects "QuaylockModel" ({ cls := "QuaylockModel", name := "weight", desc := "(I)I" } : Jvm.MethodName) ({ cls := "QuaylockModel", name := "weight", desc := "(I)I" } : Jvm.MethodName)) ∈ lw_all := lw_g (lw_at lw_m7 3 rfl) rfl
theorem q1501 : (Jvm.Cond.code ({ cls := "QuaylockModel", name := "weight", desc := "(I)I" } : Jvm.MethodName) prog_9_method_27_code (2 : Nat) (Option.some Jvm.ClassFile.FieldType.int)) ∈ lw_all := lw_g (lw_at lw_m7 4 rfl) rfl
theorem q1503 : (Jvm.Cond.instanceMethod ({ cls := "QuaylockModel", name := "stackOf", desc := "(I)I" } : Jvm.MethodName)) ∈ lw_all := lw_g (lw_at lw_m7 6 rfl) rfl
theorem q1504 : (Jvm.Cond.selects "QuaylockModel" ({ cls := "QuaylockModel", name := "stackOf", desc := "(I)I" } : Jvm.MethodName) ({ cls := "QuaylockModel", name := "stackOf", desc := "(I)I" } : Jvm.MethodName)) ∈ lw_all := lw_g (lw_at lw_m7 7 rfl) rfl
theorem q1505 : (Jvm.Cond.code ({ cls := "QuaylockModel", name := "stackOf", desc := "(I)I" } : Jvm.MethodName) prog_9_method_28_code (2 : Nat) (Option.some Jvm.ClassFile.FieldType.int)) ∈ lw_all := lw_g (lw_at lw_m7 8 rfl) rfl
theorem q1506 : (Jvm.Cond.methodLink "QuaylockModel" (62 : Nat) ({ cls := "QuaylockModel", name := "placeOf", desc := "(II)I" } : Jvm.MethodName)) ∈ lw_all := lw_g (lw_at lw_m7 9 rfl) rfl
theorem q1507 : (Jvm.Cond.privateMethod ({ cls := "QuaylockModel", name := "placeOf", desc := "(II)I" } : Jvm.MethodName)) ∈ lw_tbl := lw_at lw_m7 10 rfl
theorem q1508 : (Jvm.Cond.instanceMethod ({ cls := "QuaylockModel", name := "placeOf", desc := "(II)I" } : Jvm.MethodName)) ∈ lw_all := lw_g (lw_at lw_m7 11 rfl) rfl
theorem q1509 : (Jvm.Cond.code ({ cls := "QuaylockModel", name := "placeOf", desc := "(II)I" } : Jvm.MethodName) prog_9_method_8_code (5 : Nat) (Option.some Jvm.ClassFile.FieldType.int)) ∈ lw_all := lw_g (lw_at lw_m7 12 rfl) rfl
theorem q1511 : (Jvm.Cond.instanceMethod ({ cls := "QuaylockModel", name := "level", desc := "(I)I" } : Jvm.MethodName)) ∈ lw_all := lw_g (lw_at lw_m7 14 rfl) rfl
theorem q1512 : (Jvm.Cond.selects "QuaylockModel" ({ cls := "QuaylockModel", name := "level", desc := "(I)I" } : Jvm.MethodName) ({ cls := "QuaylockModel", name := "level", desc := "(I)I" } : Jvm.MethodName)) ∈ lw_all := lw_g (lw_at lw_m7 15 rfl) rfl
theorem q1513 : (Jvm.Cond.code ({ cls := "QuaylockModel", name := "level", desc := "(I)I" } : Jvm.MethodName) prog_9_method_29_code (2 : Nat) (Option.some Jvm.ClassFile.FieldType.int)) ∈ lw_all := lw_g (lw_at lw_m7 16 rfl) rfl
theorem q1514 : (Jvm.Cond.methodLink "QuaylockModel" (98 : Nat) ({ cls := "QuaylockModel", name := "levelOf", desc := "(II)I" } : Jvm.MethodName)) ∈ lw_all := lw_g (lw_at lw_m7 17 rfl) rfl
theorem q1515 : (Jvm.Cond.privateMethod ({ cls := "QuaylockModel", name := "levelOf", desc := "(II)I" } : Jvm.MethodName)) ∈ lw_tbl := lw_at lw_m7 18 rfl
theorem q1516 : (Jvm.Cond.instanceMethod ({ cls := "QuaylockModel", name := "levelOf", desc := "(II)I" } : Jvm.MethodName)) ∈ lw_all := lw_g (lw_at lw_m7 19 rfl) rfl
theorem q1517 : (Jvm.Cond.code ({ cls := "QuaylockModel", name := "levelOf", desc := "(II)I" } : Jvm.MethodName) prog_9_method_9_code (5 : Nat) (Option.some Jvm.ClassFile.FieldType.int)) ∈ lw_all := lw_g (lw_at lw_m7 20 rfl) rfl
theorem q1519 : (Jvm.Cond.instanceMethod ({ cls := "QuaylockModel", name := "above", desc := "(I)I" } : Jvm.MethodName)) ∈ lw_all := lw_g (lw_at lw_m7 22 rfl) rfl
theorem q1520 : (Jvm.Cond.selects "QuaylockModel" ({ cls := "QuaylockModel", name := "above", desc := "(I)I" } : Jvm.MethodName) ({ cls := "QuaylockModel", name := "above", desc := "(I)I" } : Jvm.MethodName)) ∈ lw_all := lw_g (lw_at lw_m7 23 rfl) rfl
theorem q1521 : (Jvm.Cond.code ({ cls := "QuaylockModel", name := "above", desc := "(I)I" } : Jvm.MethodName) prog_9_method_30_code (2 : Nat) (Option.some Jvm.ClassFile.FieldType.int)) ∈ lw_all := lw_g (lw_at lw_m7 24 rfl) rfl
theorem q1522 : (Jvm.Cond.methodLink "QuaylockModel" (101 : Nat) ({ cls := "QuaylockModel", name := "aboveOf", desc := "(I)I" } : Jvm.MethodName)) ∈ lw_all := lw_g (lw_at lw_m7 25 rfl) rfl
theorem q1523 : (Jvm.Cond.privateMethod ({ cls := "QuaylockModel", name := "aboveOf", desc := "(I)I" } : Jvm.MethodName)) ∈ lw_tbl := lw_at lw_m7 26 rfl
theorem q1524 : (Jvm.Cond.instanceMethod ({ cls := "QuaylockModel", name := "aboveOf", desc := "(I)I" } : Jvm.MethodName)) ∈ lw_all := lw_g (lw_at lw_m7 27 rfl) rfl
theorem q1525 : (Jvm.Cond.code ({ cls := "QuaylockModel", name := "aboveOf", desc := "(I)I" } : Jvm.MethodName) prog_9_method_19_code (2 : Nat) (Option.some Jvm.ClassFile.FieldType.int)) ∈ lw_all := lw_g (lw_at lw_m7 28 rfl) rfl
theorem q1527 : (Jvm.Cond.instanceMethod ({ cls := "QuaylockModel", name := "height", desc := "(I)I" } : Jvm.MethodName)) ∈ lw_all := lw_g (lw_at lw_m7 30 rfl) rfl
theorem q1528 : (Jvm.Cond.selects "QuaylockModel" ({ cls := "QuaylockModel", name := "height", desc := "(I)I" } : Jvm.MethodName) ({ cls := "QuaylockModel", name := "height", desc := "(I)I" } : Jvm.MethodName)) ∈ lw_all := lw_g (lw_at lw_m7 31 rfl) rfl
theorem q1529 : (Jvm.Cond.code ({ cls := "QuaylockModel", name := "height", desc := "(I)I" } : Jvm.MethodName) prog_9_method_31_code (2 : Nat) (Option.some Jvm.ClassFile.FieldType.int)) ∈ lw_all := lw_g (lw_at lw_m7 32 rfl) rfl
theorem q1531 : (Jvm.Cond.instanceMethod ({ cls := "QuaylockModel", name := "boxAt", desc := "(II)I" } : Jvm.MethodName)) ∈ lw_all := lw_g (lw_at lw_m7 34 rfl) rfl
theorem q1532 : (Jvm.Cond.selects "QuaylockModel" ({ cls := "QuaylockModel", name := "boxAt", desc := "(II)I" } : Jvm.MethodName) ({ cls := "QuaylockModel", name := "boxAt", desc := "(II)I" } : Jvm.MethodName)) ∈ lw_all := lw_g (lw_at lw_m7 35 rfl) rfl
theorem q1533 : (Jvm.Cond.code ({ cls := "QuaylockModel", name := "boxAt", desc := "(II)I" } : Jvm.MethodName) prog_9_method_32_code (3 : Nat) (Option.some Jvm.ClassFile.FieldType.int)) ∈ lw_all := lw_g (lw_at lw_m7 36 rfl) rfl
theorem q1535 : (Jvm.Cond.instanceMethod ({ cls := "QuaylockModel", name := "hold", desc := "(ICI)I" } : Jvm.MethodName)) ∈ lw_all := lw_g (lw_at lw_m7 38 rfl) rfl
theorem q1536 : (Jvm.Cond.selects "QuaylockModel" ({ cls := "QuaylockModel", name := "hold", desc := "(ICI)I" } : Jvm.MethodName) ({ cls := "QuaylockModel", name := "hold", desc := "(ICI)I" } : Jvm.MethodName)) ∈ lw_all := lw_g (lw_at lw_m7 39 rfl) rfl
theorem q1537 : (Jvm.Cond.code ({ cls := "QuaylockModel", name := "hold", desc := "(ICI)I" } : Jvm.MethodName) prog_9_method_34_code (5 : Nat) (Option.some Jvm.ClassFile.FieldType.int)) ∈ lw_all := lw_g (lw_at lw_m7 40 rfl) rfl
theorem q1538 : (Jvm.Cond.methodLink "QuaylockModel" (129 : Nat) ({ cls := "QuaylockModel", name := "appointmentIn", desc := "(I)I" } : Jvm.MethodName)) ∈ lw_all := lw_g (lw_at lw_m7 41 rfl) rfl
theorem q1539 : (Jvm.Cond.privateMethod ({ cls := "QuaylockModel", name := "appointmentIn", desc := "(I)I" } : Jvm.MethodName)) ∈ lw_tbl := lw_at lw_m7 42 rfl
theorem q1540 : (Jvm.Cond.instanceMethod ({ cls := "QuaylockModel", name := "appointmentIn", desc := "(I)I" } : Jvm.MethodName)) ∈ lw_all := lw_g (lw_at lw_m7 43 rfl) rfl
theorem q1541 : (Jvm.Cond.code ({ cls := "QuaylockModel", name := "appointmentIn", desc := "(I)I" } : Jvm.MethodName) prog_9_method_33_code (3 : Nat) (Option.some Jvm.ClassFile.FieldType.int)) ∈ lw_all := lw_g (lw_at lw_m7 44 rfl) rfl
theorem q1543 : (Jvm.Cond.instanceMethod ({ cls := "QuaylockModel", name := "release", desc := "(I)I" } : Jvm.MethodName)) ∈ lw_all := lw_g (lw_at lw_m7 46 rfl) rfl
theorem q1544 : (Jvm.Cond.selects "QuaylockModel" ({ cls := "QuaylockModel", name := "release", desc := "(I)I" } : Jvm.MethodName) ({ cls := "QuaylockModel", name := "release", desc := "(I)I" } : Jvm.MethodName)) ∈ lw_all := lw_g (lw_at lw_m7 47 rfl) rfl
theorem q1545 : (Jvm.Cond.code ({ cls := "QuaylockModel", name := "release", desc := "(I)I" } : Jvm.MethodName) prog_9_method_35_code (2 : Nat) (Option.some Jvm.ClassFile.FieldType.int)) ∈ lw_all := lw_g (lw_at lw_m7 48 rfl) rfl
theorem q1547 : (Jvm.Cond.instanceMethod ({ cls := "QuaylockModel", name := "holdOf", desc := "(I)C" } : Jvm.MethodName)) ∈ lw_all := lw_g (lw_at lw_m7 50 rfl) rfl
theorem q1548 : (Jvm.Cond.selects "QuaylockModel" ({ cls := "QuaylockModel", name := "holdOf", desc := "(I)C" } : Jvm.MethodName) ({ cls := "QuaylockModel", name := "holdOf", desc := "(I)C" } : Jvm.MethodName)) ∈ lw_all := lw_g (lw_at lw_m7 51 rfl) rfl
theorem q1549 : (Jvm.Cond.code ({ cls := "QuaylockModel", name := "holdOf", desc := "(I)C" } : Jvm.MethodName) prog_9_method_36_code (2 : Nat) (Option.some Jvm.ClassFile.FieldType.char)) ∈ lw_all := lw_g (lw_at lw_m7 52 rfl) rfl
theorem q1551 : (Jvm.Cond.instanceMethod ({ cls := "QuaylockModel", name := "heldUntil", desc := "(I)I" } : Jvm.MethodName)) ∈ lw_all := lw_g (lw_at lw_m7 54 rfl) rfl
theorem q1552 : (Jvm.Cond.selects "QuaylockModel" ({ cls := "QuaylockModel", name := "heldUntil", desc := "(I)I" } : Jvm.MethodName) ({ cls := "QuaylockModel", name := "heldUntil", desc := "(I)I" } : Jvm.MethodName)) ∈ lw_all := lw_g (lw_at lw_m7 55 rfl) rfl
theorem q1553 : (Jvm.Cond.code ({ cls := "QuaylockModel", name := "heldUntil", desc := "(I)I" } : Jvm.MethodName) prog_9_method_37_code (2 : Nat) (Option.some Jvm.ClassFile.FieldType.int)) ∈ lw_all := lw_g (lw_at lw_m7 56 rfl) rfl
theorem q1555 : (Jvm.Cond.instanceMethod ({ cls := "QuaylockModel", name := "pinnedAbove", desc := "(I)I" } : Jvm.MethodName)) ∈ lw_all := lw_g (lw_at lw_m7 58 rfl) rfl
theorem q1556 : (Jvm.Cond.selects "QuaylockModel" ({ cls := "QuaylockModel", name := "pinnedAbove", desc := "(I)I" } : Jvm.MethodName) ({ cls := "QuaylockModel", name := "pinnedAbove", desc := "(I)I" } : Jvm.MethodName)) ∈ lw_all := lw_g (lw_at lw_m7 59 rfl) rfl
theorem q1557 : (Jvm.Cond.code ({ cls := "QuaylockModel", name := "pinnedAbove", desc := "(I)I" } : Jvm.MethodName) prog_9_method_38_code (5 : Nat) (Option.some Jvm.ClassFile.FieldType.int)) ∈ lw_all := lw_g (lw_at lw_m7 60 rfl) rfl
theorem q1558 : (Jvm.Cond.methodLink "QuaylockModel" (73 : Nat) ({ cls := "QuaylockModel", name := "isPinned", desc := "(I)Z" } : Jvm.MethodName)) ∈ lw_all := lw_g (lw_at lw_m7 61 rfl) rfl
theorem q1559 : (Jvm.Cond.privateMethod ({ cls := "QuaylockModel", name := "isPinned", desc := "(I)Z" } : Jvm.MethodName)) ∈ lw_tbl := lw_at lw_m7 62 rfl
theorem q1560 : (Jvm.Cond.instanceMethod ({ cls := "QuaylockModel", name := "isPinned", desc := "(I)Z" } : Jvm.MethodName)) ∈ lw_all := lw_g (lw_at lw_m7 63 rfl) rfl
theorem q1561 : (Jvm.Cond.code ({ cls := "QuaylockModel", name := "isPinned", desc := "(I)Z" } : Jvm.MethodName) prog_9_method_7_code (2 : Nat) (Option.some Jvm.ClassFile.FieldType.boolean)) ∈ lw_all := lw_g (lw_at lw_m7 64 rfl) rfl
theorem q1563 : (Jvm.Cond.instanceMethod ({ cls := "QuaylockModel", name := "why", desc := "(II)C" } : Jvm.MethodName)) ∈ lw_all := lw_g (lw_at lw_m7 66 rfl) rfl
theorem q1564 : (Jvm.Cond.selects "QuaylockModel" ({ cls := "QuaylockModel", name := "why", desc := "(II)C" } : Jvm.MethodName) ({ cls := "QuaylockModel", name := "why", desc := "(II)C" } : Jvm.MethodName)) ∈ lw_all := lw_g (lw_at lw_m7 67 rfl) rfl
theorem q1565 : (Jvm.Cond.code ({ cls := "QuaylockModel", name := "why", desc := "(II)C" } : Jvm.MethodName) prog_9_method_39_code (4 : Nat) (Option.some Jvm.ClassFile.FieldType.char)) ∈ lw_all := lw_g (lw_at lw_m7 68 rfl) rfl
theorem q1566 : (Jvm.Cond.methodLink "QuaylockModel" (69 : Nat) ({ cls := "QuaylockModel", name := "isTop", desc := "(II)Z" } : Jvm.MethodName)) ∈ lw_all := lw_g (lw_at lw_m7 69 rfl) rfl
theorem q1567 : (Jvm.Cond.privateMethod ({ cls := "QuaylockModel", name := "isTop", desc := "(II)Z" } : Jvm.MethodName)) ∈ lw_tbl := lw_at lw_m7 70 rfl
theorem q1568 : (Jvm.Cond.instanceMethod ({ cls := "QuaylockModel", name := "isTop", desc := "(II)Z" } : Jvm.MethodName)) ∈ lw_all := lw_g (lw_at lw_m7 71 rfl) rfl
theorem q1569 : (Jvm.Cond.code ({ cls := "QuaylockModel", name := "isTop", desc := "(II)Z" } : Jvm.MethodName) prog_9_method_11_code (3 : Nat) (Option.some Jvm.ClassFile.FieldType.boolean)) ∈ lw_all := lw_g (lw_at lw_m7 72 rfl) rfl
theorem q1571 : (Jvm.Cond.instanceMethod ({ cls := "QuaylockModel", name := "move", desc := "(II)I" } : Jvm.MethodName)) ∈ lw_all := lw_g (lw_at lw_m7 74 rfl) rfl
theorem q1572 : (Jvm.Cond.selects "QuaylockModel" ({ cls := "QuaylockModel", name := "move", desc := "(II)I" } : Jvm.MethodName) ({ cls := "QuaylockModel", name := "move", desc := "(II)I" } : Jvm.MethodName)) ∈ lw_all := lw_g (lw_at lw_m7 75 rfl) rfl
theorem q1573 : (Jvm.Cond.code ({ cls := "QuaylockModel", name := "move", desc := "(II)I" } : Jvm.MethodName) prog_9_method_40_code (3 : Nat) (Option.some Jvm.ClassFile.FieldType.int)) ∈ lw_all := lw_g (lw_at lw_m7 76 rfl) rfl
theorem q1574 : (Jvm.Cond.methodLink "QuaylockModel" (84 : Nat) ({ cls := "QuaylockModel", name := "canMove", desc := "(III)Z" } : Jvm.MethodName)) ∈ lw_all := lw_g (lw_at lw_m7 77 rfl) rfl
theorem q1575 : (Jvm.Cond.privateMethod ({ cls := "QuaylockModel", name := "canMove", desc := "(III)Z" } : Jvm.MethodName)) ∈ lw_tbl := lw_at lw_m7 78 rfl
theorem q1576 : (Jvm.Cond.instanceMethod ({ cls := "QuaylockModel", name := "canMove", desc := "(III)Z" } : Jvm.MethodName)) ∈ lw_all := lw_g (lw_at lw_m7 79 rfl) rfl
theorem q1577 : (Jvm.Cond.code ({ cls := "QuaylockModel", name := "canMove", desc := "(III)Z" } : Jvm.MethodName) prog_9_method_14_code (4 : Nat) (Option.some Jvm.ClassFile.FieldType.boolean)) ∈ lw_all := lw_g (lw_at lw_m7 80 rfl) rfl
theorem q1578 : (Jvm.Cond.methodLink "QuaylockModel" (95 : Nat) ({ cls := "QuaylockModel", name := "moves", desc := "(III)V" } : Jvm.MethodName)) ∈ lw_all := lw_g (lw_at lw_m7 81 rfl) rfl
theorem q1579 : (Jvm.Cond.privateMethod ({ cls := "QuaylockModel", name := "moves", desc := "(III)V" } : Jvm.MethodName)) ∈ lw_tbl := lw_at lw_m7 82 rfl
theorem q1580 : (Jvm.Cond.instanceMethod ({ cls := "QuaylockModel", name := "moves", desc := "(III)V" } : Jvm.MethodName)) ∈ lw_all := lw_g (lw_at lw_m7 83 rfl) rfl
theorem q1581 : (Jvm.Cond.code ({ cls := "QuaylockModel", name := "moves", desc := "(III)V" } : Jvm.MethodName) prog_9_method_15_code (4 : Nat) (Option.none : Option Jvm.ClassFile.FieldType)) ∈ lw_all := lw_g (lw_at lw_m7 84 rfl) rfl
theorem q1583 : (Jvm.Cond.instanceMethod ({ cls := "QuaylockModel", name := "planLength", desc := "(I)I" } : Jvm.MethodName)) ∈ lw_all := lw_g (lw_at lw_m7 86 rfl) rfl
theorem q1584 : (Jvm.Cond.selects "QuaylockModel" ({ cls := "QuaylockModel", name := "planLength", desc := "(I)I" } : Jvm.MethodName) ({ cls := "QuaylockModel", name := "planLength", desc := "(I)I" } : Jvm.MethodName)) ∈ lw_all := lw_g (lw_at lw_m7 87 rfl) rfl
theorem q1585 : (Jvm.Cond.code ({ cls := "QuaylockModel", name := "planLength", desc := "(I)I" } : Jvm.MethodName) prog_9_method_42_code (2 : Nat) (Option.some Jvm.ClassFile.FieldType.int)) ∈ lw_all := lw_g (lw_at lw_m7 88 rfl) rfl
theorem q1586 : (Jvm.Cond.methodLink "QuaylockModel" (135 : Nat) ({ cls := "QuaylockModel", name := "planned", desc := "(I)I" } : Jvm.MethodName)) ∈ lw_all := lw_g (lw_at lw_m7 89 rfl) rfl
theorem q1587 : (Jvm.Cond.privateMethod ({ cls := "QuaylockModel", name := "planned", desc := "(I)I" } : Jvm.MethodName)) ∈ lw_tbl := lw_at lw_m7 90 rfl
theorem q1588 : (Jvm.Cond.instanceMethod ({ cls := "QuaylockModel", name := "planned", desc := "(I)I" } : Jvm.MethodName)) ∈ lw_all := lw_g (lw_at lw_m7 91 rfl) rfl
theorem q1589 : (Jvm.Cond.code ({ cls := "QuaylockModel", name := "planned", desc := "(I)I" } : Jvm.MethodName) prog_9_method_41_code (3 : Nat) (Option.some Jvm.ClassFile.FieldType.int)) ∈ lw_all := lw_g (lw_at lw_m7 92 rfl) rfl
theorem q1590 : (Jvm.Cond.methodLink "QuaylockModel" (132 : Nat) ({ cls := "QuaylockModel", name := "plans", desc := "(I)I" } : Jvm.MethodName)) ∈ lw_all := lw_g (lw_at lw_m7 93 rfl) rfl
theorem q1591 : (Jvm.Cond.privateMethod ({ cls := "QuaylockModel", name := "plans", desc := "(I)I" } : Jvm.MethodName)) ∈ lw_tbl := lw_at lw_m7 94 rfl
theorem q1592 : (Jvm.Cond.instanceMethod ({ cls := "QuaylockModel", name := "plans", desc := "(I)I" } : Jvm.MethodName)) ∈ lw_all := lw_g (lw_at lw_m7 95 rfl) rfl
theorem q1593 : (Jvm.Cond.code ({ cls := "QuaylockModel", name := "plans", desc := "(I)I" } : Jvm.MethodName) prog_9_method_20_code (3 : Nat) (Option.some Jvm.ClassFile.FieldType.int)) ∈ lw_all := lw_g (lw_at lw_m7 96 rfl) rfl
theorem q1594 : (Jvm.Cond.methodLink "QuaylockModel" (105 : Nat) ({ cls := "QuaylockModel", name := "finds", desc := "(II)Z" } : Jvm.MethodName)) ∈ lw_all := lw_g (lw_at lw_m7 97 rfl) rfl
theorem q1595 : (Jvm.Cond.privateMethod ({ cls := "QuaylockModel", name := "finds", desc := "(II)Z" } : Jvm.MethodName)) ∈ lw_tbl := lw_at lw_m7 98 rfl
theorem q1596 : (Jvm.Cond.instanceMethod ({ cls := "QuaylockModel", name := "finds", desc := "(II)Z" } : Jvm.MethodName)) ∈ lw_all := lw_g (lw_at lw_m7 99 rfl) rfl
theorem q1597 : (Jvm.Cond.code ({ cls := "QuaylockModel", name := "finds", desc := "(II)Z" } : Jvm.MethodName) prog_9_method_18_code (6 : Nat) (Option.some Jvm.ClassFile.FieldType.boolean)) ∈ lw_all := lw_g (lw_at lw_m7 100 rfl) rfl
theorem q1598 : (Jvm.Cond.methodLink "QuaylockModel" (87 : Nat) ({ cls := "QuaylockModel", name := "nextMove", desc := "(III)I" } : Jvm.MethodName)) ∈ lw_all := lw_g (lw_at lw_m7 101 rfl) rfl
theorem q1599 : (Jvm.Cond.privateMethod ({ cls := "QuaylockModel", name := "nextMove", desc := "(III)I" } : Jvm.MethodName)) ∈ lw_tbl := lw_at lw_m7 102 rfl
theorem q1600 : (Jvm.Cond.instanceMethod ({ cls := "QuaylockModel", name := "nextMove", desc := "(III)I" } : Jvm.MethodName)) ∈ lw_all := lw_g (lw_at lw_m7 103 rfl) rfl
theorem q1601 : (Jvm.Cond.code ({ cls := "QuaylockModel", name := "nextMove", desc := "(III)I" } : Jvm.MethodName) prog_9_method_17_code (5 : Nat) (Option.some Jvm.ClassFile.FieldType.int)) ∈ lw_all := lw_g (lw_at lw_m7 104 rfl) rfl
theorem q1602 : (Jvm.Cond.methodLink "QuaylockModel" (91 : Nat) ({ cls := "QuaylockModel", name := "copies", desc := "(II)V" } : Jvm.MethodName)) ∈ lw_all := lw_g (lw_at lw_m7 105 rfl) rfl
theorem q1603 : (Jvm.Cond.privateMethod ({ cls := "QuaylockModel", name := "copies", desc := "(II)V" } : Jvm.MethodName)) ∈ lw_tbl := lw_at lw_m7 106 rfl
theorem q1604 : (Jvm.Cond.instanceMethod ({ cls := "QuaylockModel", name := "copies", desc := "(II)V" } : Jvm.MethodName)) ∈ lw_all := lw_g (lw_at lw_m7 107 rfl) rfl
theorem q1605 : (Jvm.Cond.code ({ cls := "QuaylockModel", name := "copies", desc := "(II)V" } : Jvm.MethodName) prog_9_method_16_code (4 : Nat) (Option.none : Option Jvm.ClassFile.FieldType)) ∈ lw_all := lw_g (lw_at lw_m7 108 rfl) rfl
theorem q1607 : (Jvm.Cond.instanceMethod ({ cls := "QuaylockModel", name := "planByTrying", desc := "(I)I" } : Jvm.MethodName)) ∈ lw_all := lw_g (lw_at lw_m7 110 rfl) rfl
theorem q1608 : (Jvm.Cond.selects "QuaylockModel" ({ cls := "QuaylockModel", name := "planByTrying", desc := "(I)I" } : Jvm.MethodName) ({ cls := "QuaylockModel", name := "planByTrying", desc := "(I)I" } : Jvm.MethodName)) ∈ lw_all := lw_g (lw_at lw_m7 111 rfl) rfl
theorem q1609 : (Jvm.Cond.code ({ cls := "QuaylockModel", name := "planByTrying", desc := "(I)I" } : Jvm.MethodName) prog_9_method_43_code (2 : Nat) (Option.some Jvm.ClassFile.FieldType.int)) ∈ lw_all := lw_g (lw_at lw_m7 112 rfl) rfl
theorem q1611 : (Jvm.Cond.instanceMethod ({ cls := "QuaylockModel", name := "planBox", desc := "(II)I" } : Jvm.MethodName)) ∈ lw_all := lw_g (lw_at lw_m7 114 rfl) rfl
theorem q1612 : (Jvm.Cond.selects "QuaylockModel" ({ cls := "QuaylockModel", name := "planBox", desc := "(II)I" } : Jvm.MethodName) ({ cls := "QuaylockModel", name := "planBox", desc := "(II)I" } : Jvm.MethodName)) ∈ lw_all := lw_g (lw_at lw_m7 115 rfl) rfl
theorem q1613 : (Jvm.Cond.code ({ cls := "QuaylockModel", name := "planBox", desc := "(II)I" } : Jvm.MethodName) prog_9_method_45_code (3 : Nat) (Option.some Jvm.ClassFile.FieldType.int)) ∈ lw_all := lw_g (lw_at lw_m7 116 rfl) rfl
theorem q1614 : (Jvm.Cond.methodLink "QuaylockModel" (138 : Nat) ({ cls := "QuaylockModel", name := "plannedAt", desc := "(II)I" } : Jvm.MethodName)) ∈ lw_all := lw_g (lw_at lw_m7 117 rfl) rfl
theorem q1615 : (Jvm.Cond.privateMethod ({ cls := "QuaylockModel", name := "plannedAt", desc := "(II)I" } : Jvm.MethodName)) ∈ lw_tbl := lw_at lw_m7 118 rfl
theorem q1616 : (Jvm.Cond.instanceMethod ({ cls := "QuaylockModel", name := "plannedAt", desc := "(II)I" } : Jvm.MethodName)) ∈ lw_all := lw_g (lw_at lw_m7 119 rfl) rfl
theorem q1617 : (Jvm.Cond.code ({ cls := "QuaylockModel", name := "plannedAt", desc := "(II)I" } : Jvm.MethodName) prog_9_method_44_code (4 : Nat) (Option.some Jvm.ClassFile.FieldType.int)) ∈ lw_all := lw_g (lw_at lw_m7 120 rfl) rfl
theorem q1619 : (Jvm.Cond.instanceMethod ({ cls := "QuaylockModel", name := "planStack", desc := "(II)I" } : Jvm.MethodName)) ∈ lw_all := lw_g (lw_at lw_m7 122 rfl) rfl
theorem q1620 : (Jvm.Cond.selects "QuaylockModel" ({ cls := "QuaylockModel", name := "planStack", desc := "(II)I" } : Jvm.MethodName) ({ cls := "QuaylockModel", name := "planStack", desc := "(II)I" } : Jvm.MethodName)) ∈ lw_all := lw_g (lw_at lw_m7 123 rfl) rfl
theorem q1621 : (Jvm.Cond.code ({ cls := "QuaylockModel", name := "planStack", desc := "(II)I" } : Jvm.MethodName) prog_9_method_46_code (3 : Nat) (Option.some Jvm.ClassFile.FieldType.int)) ∈ lw_all := lw_g (lw_at lw_m7 124 rfl) rfl
theorem q1623 : (Jvm.Cond.instanceMethod ({ cls := "QuaylockModel", name := "dig", desc := "(I)I" } : Jvm.MethodName)) ∈ lw_all := lw_g (lw_at lw_m7 126 rfl) rfl
theorem q1624 : (Jvm.Cond.selects "QuaylockModel" ({ cls := "QuaylockModel", name := "dig", desc := "(I)I" } : Jvm.MethodName) ({ cls := "QuaylockModel", name := "dig", desc := "(I)I" } : Jvm.MethodName)) ∈ lw_all := lw_g (lw_at lw_m7 127 rfl) rfl
theorem q1625 : (Jvm.Cond.code ({ cls := "QuaylockModel", name := "dig", desc := "(I)I" } : Jvm.MethodName) prog_9_method_47_code (3 : Nat) (Option.some Jvm.ClassFile.FieldType.int)) ∈ lw_all := lw_g (lw_at lw_m7 128 rfl) rfl
theorem q1626 : (Jvm.Cond.methodLink "QuaylockModel" (141 : Nat) ({ cls := "QuaylockModel", name := "makes", desc := "(I)V" } : Jvm.MethodName)) ∈ lw_all := lw_g (lw_at lw_m7 129 rfl) rfl
theorem q1627 : (Jvm.Cond.privateMethod ({ cls := "QuaylockModel", name := "makes", desc := "(I)V" } : Jvm.MethodName)) ∈ lw_tbl := lw_at lw_m7 130 rfl
theorem q1628 : (Jvm.Cond.instanceMethod ({ cls := "QuaylockModel", name := "makes", desc := "(I)V" } : Jvm.MethodName)) ∈ lw_all := lw_g (lw_at lw_m7 131 rfl) rfl
theorem q1629 : (Jvm.Cond.code ({ cls := "QuaylockModel", name := "makes", desc := "(I)V" } : Jvm.MethodName) prog_9_method_21_code (3 : Nat) (Option.none : Option Jvm.ClassFile.FieldType)) ∈ lw_all := lw_g (lw_at lw_m7 132 rfl) rfl
theorem q1631 : (Jvm.Cond.instanceMethod ({ cls := "QuaylockModel", name := "moves", desc := "()I" } : Jvm.MethodName)) ∈ lw_all := lw_g (lw_at lw_m7 134 rfl) rfl
theorem q1632 : (Jvm.Cond.selects "QuaylockModel" ({ cls := "QuaylockModel", name := "moves", desc := "()I" } : Jvm.MethodName) ({ cls := "QuaylockModel", name := "moves", desc := "()I" } : Jvm.MethodName)) ∈ lw_all := lw_g (lw_at lw_m7 135 rfl) rfl
theorem q1633 : (Jvm.Cond.code ({ cls := "QuaylockModel", name := "moves", desc := "()I" } : Jvm.MethodName) prog_9_method_48_code (1 : Nat) (Option.some Jvm.ClassFile.FieldType.int)) ∈ lw_all := lw_g (lw_at lw_m7 136 rfl) rfl
theorem q1635 : (Jvm.Cond.instanceMethod ({ cls := "QuaylockModel", name := "book", desc := "(III)I" } : Jvm.MethodName)) ∈ lw_all := lw_g (lw_at lw_m7 138 rfl) rfl
theorem q1636 : (Jvm.Cond.selects "QuaylockModel" ({ cls := "QuaylockModel", name := "book", desc := "(III)I" } : Jvm.MethodName) ({ cls := "QuaylockModel", name := "book", desc := "(III)I" } : Jvm.MethodName)) ∈ lw_all := lw_g (lw_at lw_m7 139 rfl) rfl
theorem q1637 : (Jvm.Cond.code ({ cls := "QuaylockModel", name := "book", desc := "(III)I" } : Jvm.MethodName) prog_9_method_51_code (4 : Nat) (Option.some Jvm.ClassFile.FieldType.int)) ∈ lw_all := lw_g (lw_at lw_m7 140 rfl) rfl
theorem q1638 : (Jvm.Cond.methodLink "QuaylockModel" (145 : Nat) ({ cls := "QuaylockModel", name := "isHeldIn", desc := "(II)Z" } : Jvm.MethodName)) ∈ lw_all := lw_g (lw_at lw_m7 141 rfl) rfl
theorem q1639 : (Jvm.Cond.privateMethod ({ cls := "QuaylockModel", name := "isHeldIn", desc := "(II)Z" } : Jvm.MethodName)) ∈ lw_tbl := lw_at lw_m7 142 rfl
theorem q1640 : (Jvm.Cond.instanceMethod ({ cls := "QuaylockModel", name := "isHeldIn", desc := "(II)Z" } : Jvm.MethodName)) ∈ lw_all := lw_g (lw_at lw_m7 143 rfl) rfl
theorem q1641 : (Jvm.Cond.code ({ cls := "QuaylockModel", name := "isHeldIn", desc := "(II)Z" } : Jvm.MethodName) prog_9_method_50_code (3 : Nat) (Option.some Jvm.ClassFile.FieldType.boolean)) ∈ lw_all := lw_g (lw_at lw_m7 144 rfl) rfl
theorem q1642 : (Jvm.Cond.methodLink "QuaylockModel" (148 : Nat) ({ cls := "QuaylockModel", name := "bookedIn", desc := "(II)I" } : Jvm.MethodName)) ∈ lw_all := lw_g (lw_at lw_m7 145 rfl) rfl
theorem q1643 : (Jvm.Cond.privateMethod ({ cls := "QuaylockModel", name := "bookedIn", desc := "(II)I" } : Jvm.MethodName)) ∈ lw_tbl := lw_at lw_m7 146 rfl
theorem q1644 : (Jvm.Cond.instanceMethod ({ cls := "QuaylockModel", name := "bookedIn", desc := "(II)I" } : Jvm.MethodName)) ∈ lw_all := lw_g (lw_at lw_m7 147 rfl) rfl
theorem q1645 : (Jvm.Cond.code ({ cls := "QuaylockModel", name := "bookedIn", desc := "(II)I" } : Jvm.MethodName) prog_9_method_49_code (4 : Nat) (Option.some Jvm.ClassFile.FieldType.int)) ∈ lw_all := lw_g (lw_at lw_m7 148 rfl) rfl
theorem q1647 : (Jvm.Cond.instanceMethod ({ cls := "QuaylockModel", name := "cancel", desc := "(I)I" } : Jvm.MethodName)) ∈ lw_all := lw_g (lw_at lw_m7 150 rfl) rfl
theorem q1648 : (Jvm.Cond.selects "QuaylockModel" ({ cls := "QuaylockModel", name := "cancel", desc := "(I)I" } : Jvm.MethodName) ({ cls := "QuaylockModel", name := "cancel", desc := "(I)I" } : Jvm.MethodName)) ∈ lw_all := lw_g (lw_at lw_m7 151 rfl) rfl
theorem q1649 : (Jvm.Cond.code ({ cls := "QuaylockModel", name := "cancel", desc := "(I)I" } : Jvm.MethodName) prog_9_method_53_code (2 : Nat) (Option.some Jvm.ClassFile.FieldType.int)) ∈ lw_all := lw_g (lw_at lw_m7 152 rfl) rfl
theorem q1650 : (Jvm.Cond.methodLink "QuaylockModel" (151 : Nat) ({ cls := "QuaylockModel", name := "counted", desc := "(C)I" } : Jvm.MethodName)) ∈ lw_all := lw_g (lw_at lw_m7 153 rfl) rfl
theorem q1651 : (Jvm.Cond.privateMethod ({ cls := "QuaylockModel", name := "counted", desc := "(C)I" } : Jvm.MethodName)) ∈ lw_tbl := lw_at lw_m7 154 rfl
theorem q1652 : (Jvm.Cond.instanceMethod ({ cls := "QuaylockModel", name := "counted", desc := "(C)I" } : Jvm.MethodName)) ∈ lw_all := lw_g (lw_at lw_m7 155 rfl) rfl
theorem q1653 : (Jvm.Cond.code ({ cls := "QuaylockModel", name := "counted", desc := "(C)I" } : Jvm.MethodName) prog_9_method_52_code (4 : Nat) (Option.some Jvm.ClassFile.FieldType.int)) ∈ lw_all := lw_g (lw_at lw_m7 156 rfl) rfl
theorem q1655 : (Jvm.Cond.instanceMethod ({ cls := "QuaylockModel", name := "stateOf", desc := "(I)C" } : Jvm.MethodName)) ∈ lw_all := lw_g (lw_at lw_m7 158 rfl) rfl
theorem q1656 : (Jvm.Cond.selects "QuaylockModel" ({ cls := "QuaylockModel", name := "stateOf", desc := "(I)C" } : Jvm.MethodName) ({ cls := "QuaylockModel", name := "stateOf", desc := "(I)C" } : Jvm.MethodName)) ∈ lw_all := lw_g (lw_at lw_m7 159 rfl) rfl
theorem q1657 : (Jvm.Cond.code ({ cls := "QuaylockModel", name := "stateOf", desc := "(I)C" } : Jvm.MethodName) prog_9_method_54_code (2 : Nat) (Option.some Jvm.ClassFile.FieldType.char)) ∈ lw_all := lw_g (lw_at lw_m7 160 rfl) rfl
theorem q1659 : (Jvm.Cond.instanceMethod ({ cls := "QuaylockModel", name := "appointmentOf", desc := "(I)I" } : Jvm.MethodName)) ∈ lw_all := lw_g (lw_at lw_m7 162 rfl) rfl
theorem q1660 : (Jvm.Cond.selects "QuaylockModel" ({ cls := "QuaylockModel", name := "appointmentOf", desc := "(I)I" } : Jvm.MethodName) ({ cls := "QuaylockModel", name := "appointmentOf", desc := "(I)I" } : Jvm.MethodName)) ∈ lw_all := lw_g (lw_at lw_m7 163 rfl) rfl
theorem q1661 : (Jvm.Cond.code ({ cls := "QuaylockModel", name := "appointmentOf", desc := "(I)I" } : Jvm.MethodName) prog_9_method_55_code (3 : Nat) (Option.some Jvm.ClassFile.FieldType.int)) ∈ lw_all := lw_g (lw_at lw_m7 164 rfl) rfl
theorem q1663 : (Jvm.Cond.instanceMethod ({ cls := "QuaylockModel", name := "inLane", desc := "(II)I" } : Jvm.MethodName)) ∈ lw_all := lw_g (lw_at lw_m7 166 rfl) rfl
theorem q1664 : (Jvm.Cond.selects "QuaylockModel" ({ cls := "QuaylockModel", name := "inLane", desc := "(II)I" } : Jvm.MethodName) ({ cls := "QuaylockModel", name := "inLane", desc := "(II)I" } : Jvm.MethodName)) ∈ lw_all := lw_g (lw_at lw_m7 167 rfl) rfl
theorem q1665 : (Jvm.Cond.code ({ cls := "QuaylockModel", name := "inLane", desc := "(II)I" } : Jvm.MethodName) prog_9_method_56_code (3 : Nat) (Option.some Jvm.ClassFile.FieldType.int)) ∈ lw_all := lw_g (lw_at lw_m7 168 rfl) rfl
theorem q1667 : (Jvm.Cond.instanceMethod ({ cls := "QuaylockModel", name := "firstHour", desc := "(I)I" } : Jvm.MethodName)) ∈ lw_all := lw_g (lw_at lw_m7 170 rfl) rfl
theorem q1668 : (Jvm.Cond.selects "QuaylockModel" ({ cls := "QuaylockModel", name := "firstHour", desc := "(I)I" } : Jvm.MethodName) ({ cls := "QuaylockModel", name := "firstHour", desc := "(I)I" } : Jvm.MethodName)) ∈ lw_all := lw_g (lw_at lw_m7 171 rfl) rfl
theorem q1669 : (Jvm.Cond.code ({ cls := "QuaylockModel", name := "firstHour", desc := "(I)I" } : Jvm.MethodName) prog_9_method_57_code (4 : Nat) (Option.some Jvm.ClassFile.FieldType.int)) ∈ lw_all := lw_g (lw_at lw_m7 172 rfl) rfl
theorem q1671 : (Jvm.Cond.instanceMethod ({ cls := "QuaylockModel", name := "pass", desc := "(I)I" } : Jvm.MethodName)) ∈ lw_all := lw_g (lw_at lw_m7 174 rfl) rfl
theorem q1672 : (Jvm.Cond.selects "QuaylockModel" ({ cls := "QuaylockModel", name := "pass", desc := "(I)I" } : Jvm.MethodName) ({ cls := "QuaylockModel", name := "pass", desc := "(I)I" } : Jvm.MethodName)) ∈ lw_all := lw_g (lw_at lw_m7 175 rfl) rfl
theorem q1673 : (Jvm.Cond.code ({ cls := "QuaylockModel", name := "pass", desc := "(I)I" } : Jvm.MethodName) prog_9_method_59_code (6 : Nat) (Option.some Jvm.ClassFile.FieldType.int)) ∈ lw_all := lw_g (lw_at lw_m7 176 rfl) rfl
theorem q1674 : (Jvm.Cond.methodLink "QuaylockModel" (159 : Nat) ({ cls := "QuaylockModel", name := "leaves", desc := "(I)Z" } : Jvm.MethodName)) ∈ lw_all := lw_g (lw_at lw_m7 177 rfl) rfl
theorem q1675 : (Jvm.Cond.privateMethod ({ cls := "QuaylockModel", name := "leaves", desc := "(I)Z" } : Jvm.MethodName)) ∈ lw_tbl := lw_at lw_m7 178 rfl
theorem q1676 : (Jvm.Cond.instanceMethod ({ cls := "QuaylockModel", name := "leaves", desc := "(I)Z" } : Jvm.MethodName)) ∈ lw_all := lw_g (lw_at lw_m7 179 rfl) rfl
theorem q1677 : (Jvm.Cond.code ({ cls := "QuaylockModel", name := "leaves", desc := "(I)Z" } : Jvm.MethodName) prog_9_method_58_code (4 : Nat) (Option.some Jvm.ClassFile.FieldType.boolean)) ∈ lw_all := lw_g (lw_at lw_m7 180 rfl) rfl
theorem q1679 : (Jvm.Cond.instanceMethod ({ cls := "QuaylockModel", name := "now", desc := "()I" } : Jvm.MethodName)) ∈ lw_all := lw_g (lw_at lw_m7 182 rfl) rfl
theorem q1680 : (Jvm.Cond.selects "QuaylockModel" ({ cls := "QuaylockModel", name := "now", desc := "()I" } : Jvm.MethodName) ({ cls := "QuaylockModel", name := "now", desc := "()I" } : Jvm.MethodName)) ∈ lw_all := lw_g (lw_at lw_m7 183 rfl) rfl
theorem q1681 : (Jvm.Cond.code ({ cls := "QuaylockModel", name := "now", desc := "()I" } : Jvm.MethodName) prog_9_method_60_code (1 : Nat) (Option.some Jvm.ClassFile.FieldType.int)) ∈ lw_all := lw_g (lw_at lw_m7 184 rfl) rfl
theorem q1683 : (Jvm.Cond.instanceMethod ({ cls := "QuaylockModel", name := "weightLeft", desc := "()J" } : Jvm.MethodName)) ∈ lw_all := lw_g (lw_at lw_m7 186 rfl) rfl
theorem q1684 : (Jvm.Cond.selects "QuaylockModel" ({ cls := "QuaylockModel", name := "weightLeft", desc := "()J" } : Jvm.MethodName) ({ cls := "QuaylockModel", name := "weightLeft", desc := "()J" } : Jvm.MethodName)) ∈ lw_all := lw_g (lw_at lw_m7 187 rfl) rfl
theorem q1685 : (Jvm.Cond.code ({ cls := "QuaylockModel", name := "weightLeft", desc := "()J" } : Jvm.MethodName) prog_9_method_61_code (1 : Nat) (Option.some Jvm.ClassFile.FieldType.long)) ∈ lw_all := lw_g (lw_at lw_m7 188 rfl) rfl
theorem q1687 : (Jvm.Cond.instanceMethod ({ cls := "QuaylockModel", name := "doneShare", desc := "()F" } : Jvm.MethodName)) ∈ lw_all := lw_g (lw_at lw_m7 190 rfl) rfl
theorem q1688 : (Jvm.Cond.selects "QuaylockModel" ({ cls := "QuaylockModel", name := "doneShare", desc := "()F" } : Jvm.MethodName) ({ cls := "QuaylockModel", name := "doneShare", desc := "()F" } : Jvm.MethodName)) ∈ lw_all := lw_g (lw_at lw_m7 191 rfl) rfl
theorem q1689 : (Jvm.Cond.code ({ cls := "QuaylockModel", name := "doneShare", desc := "()F" } : Jvm.MethodName) prog_9_method_62_code (2 : Nat) (Option.some Jvm.ClassFile.FieldType.float)) ∈ lw_all := lw_g (lw_at lw_m7 192 rfl) rfl
theorem q1703 : (Jvm.Cond.castable "QuaylockModel" "java/lang/Object") ∈ lw_tbl := lw_at lw_m7 206 rfl
theorem in_X3 : ∀ w ∈ wsX30, w ∈ lw_all := lw_in wsX30 [1406, 1408, 1410, 1412, 1414, 1416, 1418, 1420, 1422, 1424, 1426, 1428, 1430, 1432, 1434, 1436, 1438, 1440, 1442] (by decide +kernel) (by decide +kernel)
