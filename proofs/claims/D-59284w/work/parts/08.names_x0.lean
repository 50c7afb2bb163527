/-! CourierClashLaw -/
set_option maxRecDepth 100000
def RX0 : String := "CourierClashLaw"
abbrev cX0_addStreet : ByteArray := method_3_code
def yX0_addStreet : MethodName := ⟨RX0, "addStreet", "(LCourierClash;IIZ[J)I"⟩
def dkwX0_addStreet_1 : List UInt8 := [58, 5, 6, 172, 3, 172]
abbrev dktX0_addStreet_1 : List UInt8 := dkwX0_addStreet_1 ++ []
def dkwX0_addStreet_0 : List UInt8 := [25, 4, 3, 42, 27, 28, 29, 182, 0, 7, 133, 80, 167, 0, 15, 58, 5, 4, 172, 58, 5, 5, 172]
abbrev dktX0_addStreet_0 : List UInt8 := dkwX0_addStreet_0 ++ dktX0_addStreet_1
theorem dksX0_addStreet_0 : cX0_addStreet.data.toList.drop 0 = dktX0_addStreet_0 := by decide +kernel
theorem dksX0_addStreet_1 : cX0_addStreet.data.toList.drop 23 = dktX0_addStreet_1 := dk_seg dksX0_addStreet_0 23 rfl rfl
theorem dX0_addStreet_0 : decode cX0_addStreet 0 = .ok (.aload 4, 2) := dk_25 4 (dk_at dksX0_addStreet_0 0 rfl rfl)
theorem dX0_addStreet_2 : decode cX0_addStreet 2 = .ok (.iconst 0, 1) := dk_3 (dk_at dksX0_addStreet_0 2 rfl rfl)
theorem dX0_addStreet_3 : decode cX0_addStreet 3 = .ok (.aload_n 0, 1) := dk_42 (dk_at dksX0_addStreet_0 3 rfl rfl)
theorem dX0_addStreet_4 : decode cX0_addStreet 4 = .ok (.iload_n 1, 1) := dk_27 (dk_at dksX0_addStreet_0 4 rfl rfl)
theorem dX0_addStreet_5 : decode cX0_addStreet 5 = .ok (.iload_n 2, 1) := dk_28 (dk_at dksX0_addStreet_0 5 rfl rfl)
theorem dX0_addStreet_6 : decode cX0_addStreet 6 = .ok (.iload_n 3, 1) := dk_29 (dk_at dksX0_addStreet_0 6 rfl rfl)
theorem dX0_addStreet_7 : decode cX0_addStreet 7 = .ok (.invokevirtual 7, 3) := dk_182 0 7 (dk_at dksX0_addStreet_0 7 rfl rfl)
theorem dX0_addStreet_10 : decode cX0_addStreet 10 = .ok (.i2l, 1) := dk_133 (dk_at dksX0_addStreet_0 10 rfl rfl)
theorem dX0_addStreet_11 : decode cX0_addStreet 11 = .ok (.lastore, 1) := dk_80 (dk_at dksX0_addStreet_0 11 rfl rfl)
theorem dX0_addStreet_12 : decode cX0_addStreet 12 = .ok (.goto 15, 3) := dk_167 0 15 (dk_at dksX0_addStreet_0 12 rfl rfl)
theorem dX0_addStreet_15 : decode cX0_addStreet 15 = .ok (.astore 5, 2) := dk_58 5 (dk_at dksX0_addStreet_0 15 rfl rfl)
theorem dX0_addStreet_17 : decode cX0_addStreet 17 = .ok (.iconst 1, 1) := dk_4 (dk_at dksX0_addStreet_0 17 rfl rfl)
theorem dX0_addStreet_18 : decode cX0_addStreet 18 = .ok (.ireturn, 1) := dk_172 (dk_at dksX0_addStreet_0 18 rfl rfl)
theorem dX0_addStreet_19 : decode cX0_addStreet 19 = .ok (.astore 5, 2) := dk_58 5 (dk_at dksX0_addStreet_0 19 rfl rfl)
theorem dX0_addStreet_21 : decode cX0_addStreet 21 = .ok (.iconst 2, 1) := dk_5 (dk_at dksX0_addStreet_0 21 rfl rfl)
theorem dX0_addStreet_22 : decode cX0_addStreet 22 = .ok (.ireturn, 1) := dk_172 (dk_at dksX0_addStreet_0 22 rfl rfl)
theorem dX0_addStreet_23 : decode cX0_addStreet 23 = .ok (.astore 5, 2) := dk_58 5 (dk_at dksX0_addStreet_1 0 rfl rfl)
theorem dX0_addStreet_25 : decode cX0_addStreet 25 = .ok (.iconst 3, 1) := dk_6 (dk_at dksX0_addStreet_1 2 rfl rfl)
theorem dX0_addStreet_26 : decode cX0_addStreet 26 = .ok (.ireturn, 1) := dk_172 (dk_at dksX0_addStreet_1 3 rfl rfl)
theorem dX0_addStreet_27 : decode cX0_addStreet 27 = .ok (.iconst 0, 1) := dk_3 (dk_at dksX0_addStreet_1 4 rfl rfl)
theorem dX0_addStreet_28 : decode cX0_addStreet 28 = .ok (.ireturn, 1) := dk_172 (dk_at dksX0_addStreet_1 5 rfl rfl)
abbrev cX0_toggleStreet : ByteArray := method_4_code
def yX0_toggleStreet : MethodName := ⟨RX0, "toggleStreet", "(LCourierClash;I[J)I"⟩
def dkwX0_toggleStreet_0 : List UInt8 := [44, 3, 42, 27, 182, 0, 19, 153, 0, 7, 10, 167, 0, 4, 9, 80, 167, 0, 6, 78, 4, 172, 3, 172]
abbrev dktX0_toggleStreet_0 : List UInt8 := dkwX0_toggleStreet_0 ++ []
theorem dksX0_toggleStreet_0 : cX0_toggleStreet.data.toList.drop 0 = dktX0_toggleStreet_0 := by decide +kernel
theorem dX0_toggleStreet_0 : decode cX0_toggleStreet 0 = .ok (.aload_n 2, 1) := dk_44 (dk_at dksX0_toggleStreet_0 0 rfl rfl)
theorem dX0_toggleStreet_1 : decode cX0_toggleStreet 1 = .ok (.iconst 0, 1) := dk_3 (dk_at dksX0_toggleStreet_0 1 rfl rfl)
theorem dX0_toggleStreet_2 : decode cX0_toggleStreet 2 = .ok (.aload_n 0, 1) := dk_42 (dk_at dksX0_toggleStreet_0 2 rfl rfl)
theorem dX0_toggleStreet_3 : decode cX0_toggleStreet 3 = .ok (.iload_n 1, 1) := dk_27 (dk_at dksX0_toggleStreet_0 3 rfl rfl)
theorem dX0_toggleStreet_4 : decode cX0_toggleStreet 4 = .ok (.invokevirtual 19, 3) := dk_182 0 19 (dk_at dksX0_toggleStreet_0 4 rfl rfl)
theorem dX0_toggleStreet_7 : decode cX0_toggleStreet 7 = .ok (.ifCond .eq 7, 3) := dk_153 0 7 (dk_at dksX0_toggleStreet_0 7 rfl rfl)
theorem dX0_toggleStreet_10 : decode cX0_toggleStreet 10 = .ok (.lconst 1, 1) := dk_10 (dk_at dksX0_toggleStreet_0 10 rfl rfl)
theorem dX0_toggleStreet_11 : decode cX0_toggleStreet 11 = .ok (.goto 4, 3) := dk_167 0 4 (dk_at dksX0_toggleStreet_0 11 rfl rfl)
theorem dX0_toggleStreet_14 : decode cX0_toggleStreet 14 = .ok (.lconst 0, 1) := dk_9 (dk_at dksX0_toggleStreet_0 14 rfl rfl)
theorem dX0_toggleStreet_15 : decode cX0_toggleStreet 15 = .ok (.lastore, 1) := dk_80 (dk_at dksX0_toggleStreet_0 15 rfl rfl)
theorem dX0_toggleStreet_16 : decode cX0_toggleStreet 16 = .ok (.goto 6, 3) := dk_167 0 6 (dk_at dksX0_toggleStreet_0 16 rfl rfl)
theorem dX0_toggleStreet_19 : decode cX0_toggleStreet 19 = .ok (.astore_n 3, 1) := dk_78 (dk_at dksX0_toggleStreet_0 19 rfl rfl)
theorem dX0_toggleStreet_20 : decode cX0_toggleStreet 20 = .ok (.iconst 1, 1) := dk_4 (dk_at dksX0_toggleStreet_0 20 rfl rfl)
theorem dX0_toggleStreet_21 : decode cX0_toggleStreet 21 = .ok (.ireturn, 1) := dk_172 (dk_at dksX0_toggleStreet_0 21 rfl rfl)
theorem dX0_toggleStreet_22 : decode cX0_toggleStreet 22 = .ok (.iconst 0, 1) := dk_3 (dk_at dksX0_toggleStreet_0 22 rfl rfl)
theorem dX0_toggleStreet_23 : decode cX0_toggleStreet 23 = .ok (.ireturn, 1) := dk_172 (dk_at dksX0_toggleStreet_0 23 rfl rfl)
abbrev cX0_place : ByteArray := method_5_code
def yX0_place : MethodName := ⟨RX0, "place", "(LCourierClash;II[J)I"⟩
def dkwX0_place_0 : List UInt8 := [45, 3, 42, 27, 28, 182, 0, 23, 133, 80, 167, 0, 11, 58, 4, 4, 172, 58, 4, 5, 172, 3, 172]
abbrev dktX0_place_0 : List UInt8 := dkwX0_place_0 ++ []
theorem dksX0_place_0 : cX0_place.data.toList.drop 0 = dktX0_place_0 := by decide +kernel
theorem dX0_place_0 : decode cX0_place 0 = .ok (.aload_n 3, 1) := dk_45 (dk_at dksX0_place_0 0 rfl rfl)
theorem dX0_place_1 : decode cX0_place 1 = .ok (.iconst 0, 1) := dk_3 (dk_at dksX0_place_0 1 rfl rfl)
theorem dX0_place_2 : decode cX0_place 2 = .ok (.aload_n 0, 1) := dk_42 (dk_at dksX0_place_0 2 rfl rfl)
theorem dX0_place_3 : decode cX0_place 3 = .ok (.iload_n 1, 1) := dk_27 (dk_at dksX0_place_0 3 rfl rfl)
theorem dX0_place_4 : decode cX0_place 4 = .ok (.iload_n 2, 1) := dk_28 (dk_at dksX0_place_0 4 rfl rfl)
theorem dX0_place_5 : decode cX0_place 5 = .ok (.invokevirtual 23, 3) := dk_182 0 23 (dk_at dksX0_place_0 5 rfl rfl)
theorem dX0_place_8 : decode cX0_place 8 = .ok (.i2l, 1) := dk_133 (dk_at dksX0_place_0 8 rfl rfl)
theorem dX0_place_9 : decode cX0_place 9 = .ok (.lastore, 1) := dk_80 (dk_at dksX0_place_0 9 rfl rfl)
theorem dX0_place_10 : decode cX0_place 10 = .ok (.goto 11, 3) := dk_167 0 11 (dk_at dksX0_place_0 10 rfl rfl)
theorem dX0_place_13 : decode cX0_place 13 = .ok (.astore 4, 2) := dk_58 4 (dk_at dksX0_place_0 13 rfl rfl)
theorem dX0_place_15 : decode cX0_place 15 = .ok (.iconst 1, 1) := dk_4 (dk_at dksX0_place_0 15 rfl rfl)
theorem dX0_place_16 : decode cX0_place 16 = .ok (.ireturn, 1) := dk_172 (dk_at dksX0_place_0 16 rfl rfl)
theorem dX0_place_17 : decode cX0_place 17 = .ok (.astore 4, 2) := dk_58 4 (dk_at dksX0_place_0 17 rfl rfl)
theorem dX0_place_19 : decode cX0_place 19 = .ok (.iconst 2, 1) := dk_5 (dk_at dksX0_place_0 19 rfl rfl)
theorem dX0_place_20 : decode cX0_place 20 = .ok (.ireturn, 1) := dk_172 (dk_at dksX0_place_0 20 rfl rfl)
theorem dX0_place_21 : decode cX0_place 21 = .ok (.iconst 0, 1) := dk_3 (dk_at dksX0_place_0 21 rfl rfl)
theorem dX0_place_22 : decode cX0_place 22 = .ok (.ireturn, 1) := dk_172 (dk_at dksX0_place_0 22 rfl rfl)
abbrev cX0_toggleVan : ByteArray := method_6_code
def yX0_toggleVan : MethodName := ⟨RX0, "toggleVan", "(LCourierClash;I[J)I"⟩
def dkwX0_toggleVan_1 : List UInt8 := [172, 3, 172]
abbrev dktX0_toggleVan_1 : List UInt8 := dkwX0_toggleVan_1 ++ []
def dkwX0_toggleVan_0 : List UInt8 := [44, 3, 42, 27, 182, 0, 27, 153, 0, 7, 10, 167, 0, 4, 9, 80, 167, 0, 9, 78, 4, 172, 78, 5]
abbrev dktX0_toggleVan_0 : List UInt8 := dkwX0_toggleVan_0 ++ dktX0_toggleVan_1
theorem dksX0_toggleVan_0 : cX0_toggleVan.data.toList.drop 0 = dktX0_toggleVan_0 := by decide +kernel
theorem dksX0_toggleVan_1 : cX0_toggleVan.data.toList.drop 24 = dktX0_toggleVan_1 := dk_seg dksX0_toggleVan_0 24 rfl rfl
theorem dX0_toggleVan_0 : decode cX0_toggleVan 0 = .ok (.aload_n 2, 1) := dk_44 (dk_at dksX0_toggleVan_0 0 rfl rfl)
theorem dX0_toggleVan_1 : decode cX0_toggleVan 1 = .ok (.iconst 0, 1) := dk_3 (dk_at dksX0_toggleVan_0 1 rfl rfl)
theorem dX0_toggleVan_2 : decode cX0_toggleVan 2 = .ok (.aload_n 0, 1) := dk_42 (dk_at dksX0_toggleVan_0 2 rfl rfl)
theorem dX0_toggleVan_3 : decode cX0_toggleVan 3 = .ok (.iload_n 1, 1) := dk_27 (dk_at dksX0_toggleVan_0 3 rfl rfl)
theorem dX0_toggleVan_4 : decode cX0_toggleVan 4 = .ok (.invokevirtual 27, 3) := dk_182 0 27 (dk_at dksX0_toggleVan_0 4 rfl rfl)
theorem dX0_toggleVan_7 : decode cX0_toggleVan 7 = .ok (.ifCond .eq 7, 3) := dk_153 0 7 (dk_at dksX0_toggleVan_0 7 rfl rfl)
theorem dX0_toggleVan_10 : decode cX0_toggleVan 10 = .ok (.lconst 1, 1) := dk_10 (dk_at dksX0_toggleVan_0 10 rfl rfl)
theorem dX0_toggleVan_11 : decode cX0_toggleVan 11 = .ok (.goto 4, 3) := dk_167 0 4 (dk_at dksX0_toggleVan_0 11 rfl rfl)
theorem dX0_toggleVan_14 : decode cX0_toggleVan 14 = .ok (.lconst 0, 1) := dk_9 (dk_at dksX0_toggleVan_0 14 rfl rfl)
theorem dX0_toggleVan_15 : decode cX0_toggleVan 15 = .ok (.lastore, 1) := dk_80 (dk_at dksX0_toggleVan_0 15 rfl rfl)
theorem dX0_toggleVan_16 : decode cX0_toggleVan 16 = .ok (.goto 9, 3) := dk_167 0 9 (dk_at dksX0_toggleVan_0 16 rfl rfl)
theorem dX0_toggleVan_19 : decode cX0_toggleVan 19 = .ok (.astore_n 3, 1) := dk_78 (dk_at dksX0_toggleVan_0 19 rfl rfl)
theorem dX0_toggleVan_20 : decode cX0_toggleVan 20 = .ok (.iconst 1, 1) := dk_4 (dk_at dksX0_toggleVan_0 20 rfl rfl)
theorem dX0_toggleVan_21 : decode cX0_toggleVan 21 = .ok (.ireturn, 1) := dk_172 (dk_at dksX0_toggleVan_0 21 rfl rfl)
theorem dX0_toggleVan_22 : decode cX0_toggleVan 22 = .ok (.astore_n 3, 1) := dk_78 (dk_at dksX0_toggleVan_0 22 rfl rfl)
theorem dX0_toggleVan_23 : decode cX0_toggleVan 23 = .ok (.iconst 2, 1) := dk_5 (dk_at dksX0_toggleVan_0 23 rfl rfl)
theorem dX0_toggleVan_24 : decode cX0_toggleVan 24 = .ok (.ireturn, 1) := dk_172 (dk_at dksX0_toggleVan_1 0 rfl rfl)
theorem dX0_toggleVan_25 : decode cX0_toggleVan 25 = .ok (.iconst 0, 1) := dk_3 (dk_at dksX0_toggleVan_1 1 rfl rfl)
theorem dX0_toggleVan_26 : decode cX0_toggleVan 26 = .ok (.ireturn, 1) := dk_172 (dk_at dksX0_toggleVan_1 2 rfl rfl)
abbrev cX0_setCapacity : ByteArray := method_7_code
def yX0_setCapacity : MethodName := ⟨RX0, "setCapacity", "(LCourierClash;I[J)I"⟩
def dkwX0_setCapacity_0 : List UInt8 := [44, 3, 42, 27, 182, 0, 30, 133, 80, 167, 0, 9, 78, 4, 172, 78, 5, 172, 3, 172]
abbrev dktX0_setCapacity_0 : List UInt8 := dkwX0_setCapacity_0 ++ []
theorem dksX0_setCapacity_0 : cX0_setCapacity.data.toList.drop 0 = dktX0_setCapacity_0 := by decide +kernel
theorem dX0_setCapacity_0 : decode cX0_setCapacity 0 = .ok (.aload_n 2, 1) := dk_44 (dk_at dksX0_setCapacity_0 0 rfl rfl)
theorem dX0_setCapacity_1 : decode cX0_setCapacity 1 = .ok (.iconst 0, 1) := dk_3 (dk_at dksX0_setCapacity_0 1 rfl rfl)
theorem dX0_setCapacity_2 : decode cX0_setCapacity 2 = .ok (.aload_n 0, 1) := dk_42 (dk_at dksX0_setCapacity_0 2 rfl rfl)
theorem dX0_setCapacity_3 : decode cX0_setCapacity 3 = .ok (.iload_n 1, 1) := dk_27 (dk_at dksX0_setCapacity_0 3 rfl rfl)
theorem dX0_setCapacity_4 : decode cX0_setCapacity 4 = .ok (.invokevirtual 30, 3) := dk_182 0 30 (dk_at dksX0_setCapacity_0 4 rfl rfl)
theorem dX0_setCapacity_7 : decode cX0_setCapacity 7 = .ok (.i2l, 1) := dk_133 (dk_at dksX0_setCapacity_0 7 rfl rfl)
theorem dX0_setCapacity_8 : decode cX0_setCapacity 8 = .ok (.lastore, 1) := dk_80 (dk_at dksX0_setCapacity_0 8 rfl rfl)
theorem dX0_setCapacity_9 : decode cX0_setCapacity 9 = .ok (.goto 9, 3) := dk_167 0 9 (dk_at dksX0_setCapacity_0 9 rfl rfl)
theorem dX0_setCapacity_12 : decode cX0_setCapacity 12 = .ok (.astore_n 3, 1) := dk_78 (dk_at dksX0_setCapacity_0 12 rfl rfl)
theorem dX0_setCapacity_13 : decode cX0_setCapacity 13 = .ok (.iconst 1, 1) := dk_4 (dk_at dksX0_setCapacity_0 13 rfl rfl)
theorem dX0_setCapacity_14 : decode cX0_setCapacity 14 = .ok (.ireturn, 1) := dk_172 (dk_at dksX0_setCapacity_0 14 rfl rfl)
theorem dX0_setCapacity_15 : decode cX0_setCapacity 15 = .ok (.astore_n 3, 1) := dk_78 (dk_at dksX0_setCapacity_0 15 rfl rfl)
theorem dX0_setCapacity_16 : decode cX0_setCapacity 16 = .ok (.iconst 2, 1) := dk_5 (dk_at dksX0_setCapacity_0 16 rfl rfl)
theorem dX0_setCapacity_17 : decode cX0_setCapacity 17 = .ok (.ireturn, 1) := dk_172 (dk_at dksX0_setCapacity_0 17 rfl rfl)
theorem dX0_setCapacity_18 : decode cX0_setCapacity 18 = .ok (.iconst 0, 1) := dk_3 (dk_at dksX0_setCapacity_0 18 rfl rfl)
theorem dX0_setCapacity_19 : decode cX0_setCapacity 19 = .ok (.ireturn, 1) := dk_172 (dk_at dksX0_setCapacity_0 19 rfl rfl)
abbrev cX0_addParcel : ByteArray := method_8_code
def yX0_addParcel : MethodName := ⟨RX0, "addParcel", "(LCourierClash;IIII[J)I"⟩
def dkwX0_addParcel_1 : List UInt8 := [172, 58, 6, 6, 172, 3, 172]
abbrev dktX0_addParcel_1 : List UInt8 := dkwX0_addParcel_1 ++ []
def dkwX0_addParcel_0 : List UInt8 := [25, 5, 3, 42, 27, 28, 29, 21, 4, 182, 0, 34, 133, 80, 167, 0, 15, 58, 6, 4, 172, 58, 6, 5]
abbrev dktX0_addParcel_0 : List UInt8 := dkwX0_addParcel_0 ++ dktX0_addParcel_1
theorem dksX0_addParcel_0 : cX0_addParcel.data.toList.drop 0 = dktX0_addParcel_0 := by decide +kernel
theorem dksX0_addParcel_1 : cX0_addParcel.data.toList.drop 24 = dktX0_addParcel_1 := dk_seg dksX0_addParcel_0 24 rfl rfl
theorem dX0_addParcel_0 : decode cX0_addParcel 0 = .ok (.aload 5, 2) := dk_25 5 (dk_at dksX0_addParcel_0 0 rfl rfl)
theorem dX0_addParcel_2 : decode cX0_addParcel 2 = .ok (.iconst 0, 1) := dk_3 (dk_at dksX0_addParcel_0 2 rfl rfl)
theorem dX0_addParcel_3 : decode cX0_addParcel 3 = .ok (.aload_n 0, 1) := dk_42 (dk_at dksX0_addParcel_0 3 rfl rfl)
theorem dX0_addParcel_4 : decode cX0_addParcel 4 = .ok (.iload_n 1, 1) := dk_27 (dk_at dksX0_addParcel_0 4 rfl rfl)
theorem dX0_addParcel_5 : decode cX0_addParcel 5 = .ok (.iload_n 2, 1) := dk_28 (dk_at dksX0_addParcel_0 5 rfl rfl)
theorem dX0_addParcel_6 : decode cX0_addParcel 6 = .ok (.iload_n 3, 1) := dk_29 (dk_at dksX0_addParcel_0 6 rfl rfl)
theorem dX0_addParcel_7 : decode cX0_addParcel 7 = .ok (.iload 4, 2) := dk_21 4 (dk_at dksX0_addParcel_0 7 rfl rfl)
theorem dX0_addParcel_9 : decode cX0_addParcel 9 = .ok (.invokevirtual 34, 3) := dk_182 0 34 (dk_at dksX0_addParcel_0 9 rfl rfl)
theorem dX0_addParcel_12 : decode cX0_addParcel 12 = .ok (.i2l, 1) := dk_133 (dk_at dksX0_addParcel_0 12 rfl rfl)
theorem dX0_addParcel_13 : decode cX0_addParcel 13 = .ok (.lastore, 1) := dk_80 (dk_at dksX0_addParcel_0 13 rfl rfl)
theorem dX0_addParcel_14 : decode cX0_addParcel 14 = .ok (.goto 15, 3) := dk_167 0 15 (dk_at dksX0_addParcel_0 14 rfl rfl)
theorem dX0_addParcel_17 : decode cX0_addParcel 17 = .ok (.astore 6, 2) := dk_58 6 (dk_at dksX0_addParcel_0 17 rfl rfl)
theorem dX0_addParcel_19 : decode cX0_addParcel 19 = .ok (.iconst 1, 1) := dk_4 (dk_at dksX0_addParcel_0 19 rfl rfl)
theorem dX0_addParcel_20 : decode cX0_addParcel 20 = .ok (.ireturn, 1) := dk_172 (dk_at dksX0_addParcel_0 20 rfl rfl)
theorem dX0_addParcel_21 : decode cX0_addParcel 21 = .ok (.astore 6, 2) := dk_58 6 (dk_at dksX0_addParcel_0 21 rfl rfl)
theorem dX0_addParcel_23 : decode cX0_addParcel 23 = .ok (.iconst 2, 1) := dk_5 (dk_at dksX0_addParcel_0 23 rfl rfl)
theorem dX0_addParcel_24 : decode cX0_addParcel 24 = .ok (.ireturn, 1) := dk_172 (dk_at dksX0_addParcel_1 0 rfl rfl)
theorem dX0_addParcel_25 : decode cX0_addParcel 25 = .ok (.astore 6, 2) := dk_58 6 (dk_at dksX0_addParcel_1 1 rfl rfl)
theorem dX0_addParcel_27 : decode cX0_addParcel 27 = .ok (.iconst 3, 1) := dk_6 (dk_at dksX0_addParcel_1 3 rfl rfl)
theorem dX0_addParcel_28 : decode cX0_addParcel 28 = .ok (.ireturn, 1) := dk_172 (dk_at dksX0_addParcel_1 4 rfl rfl)
theorem dX0_addParcel_29 : decode cX0_addParcel 29 = .ok (.iconst 0, 1) := dk_3 (dk_at dksX0_addParcel_1 5 rfl rfl)
theorem dX0_addParcel_30 : decode cX0_addParcel 30 = .ok (.ireturn, 1) := dk_172 (dk_at dksX0_addParcel_1 6 rfl rfl)
abbrev cX0_setLimit : ByteArray := method_9_code
def yX0_setLimit : MethodName := ⟨RX0, "setLimit", "(LCourierClash;I[J)I"⟩
def dkwX0_setLimit_0 : List UInt8 := [44, 3, 42, 27, 182, 0, 38, 133, 80, 167, 0, 6, 78, 4, 172, 3, 172]
abbrev dktX0_setLimit_0 : List UInt8 := dkwX0_setLimit_0 ++ []
theorem dksX0_setLimit_0 : cX0_setLimit.data.toList.drop 0 = dktX0_setLimit_0 := by decide +kernel
theorem dX0_setLimit_0 : decode cX0_setLimit 0 = .ok (.aload_n 2, 1) := dk_44 (dk_at dksX0_setLimit_0 0 rfl rfl)
theorem dX0_setLimit_1 : decode cX0_setLimit 1 = .ok (.iconst 0, 1) := dk_3 (dk_at dksX0_setLimit_0 1 rfl rfl)
theorem dX0_setLimit_2 : decode cX0_setLimit 2 = .ok (.aload_n 0, 1) := dk_42 (dk_at dksX0_setLimit_0 2 rfl rfl)
theorem dX0_setLimit_3 : decode cX0_setLimit 3 = .ok (.iload_n 1, 1) := dk_27 (dk_at dksX0_setLimit_0 3 rfl rfl)
theorem dX0_setLimit_4 : decode cX0_setLimit 4 = .ok (.invokevirtual 38, 3) := dk_182 0 38 (dk_at dksX0_setLimit_0 4 rfl rfl)
theorem dX0_setLimit_7 : decode cX0_setLimit 7 = .ok (.i2l, 1) := dk_133 (dk_at dksX0_setLimit_0 7 rfl rfl)
theorem dX0_setLimit_8 : decode cX0_setLimit 8 = .ok (.lastore, 1) := dk_80 (dk_at dksX0_setLimit_0 8 rfl rfl)
theorem dX0_setLimit_9 : decode cX0_setLimit 9 = .ok (.goto 6, 3) := dk_167 0 6 (dk_at dksX0_setLimit_0 9 rfl rfl)
theorem dX0_setLimit_12 : decode cX0_setLimit 12 = .ok (.astore_n 3, 1) := dk_78 (dk_at dksX0_setLimit_0 12 rfl rfl)
theorem dX0_setLimit_13 : decode cX0_setLimit 13 = .ok (.iconst 1, 1) := dk_4 (dk_at dksX0_setLimit_0 13 rfl rfl)
theorem dX0_setLimit_14 : decode cX0_setLimit 14 = .ok (.ireturn, 1) := dk_172 (dk_at dksX0_setLimit_0 14 rfl rfl)
theorem dX0_setLimit_15 : decode cX0_setLimit 15 = .ok (.iconst 0, 1) := dk_3 (dk_at dksX0_setLimit_0 15 rfl rfl)
theorem dX0_setLimit_16 : decode cX0_setLimit 16 = .ok (.ireturn, 1) := dk_172 (dk_at dksX0_setLimit_0 16 rfl rfl)
abbrev cX0_order : ByteArray := method_10_code
def yX0_order : MethodName := ⟨RX0, "order", "(LCourierClash;II[J)I"⟩
def dkwX0_order_0 : List UInt8 := [45, 3, 42, 27, 28, 182, 0, 41, 133, 80, 167, 0, 11, 58, 4, 4, 172, 58, 4, 5, 172, 3, 172]
abbrev dktX0_order_0 : List UInt8 := dkwX0_order_0 ++ []
theorem dksX0_order_0 : cX0_order.data.toList.drop 0 = dktX0_order_0 := by decide +kernel
theorem dX0_order_0 : decode cX0_order 0 = .ok (.aload_n 3, 1) := dk_45 (dk_at dksX0_order_0 0 rfl rfl)
theorem dX0_order_1 : decode cX0_order 1 = .ok (.iconst 0, 1) := dk_3 (dk_at dksX0_order_0 1 rfl rfl)
theorem dX0_order_2 : decode cX0_order 2 = .ok (.aload_n 0, 1) := dk_42 (dk_at dksX0_order_0 2 rfl rfl)
theorem dX0_order_3 : decode cX0_order 3 = .ok (.iload_n 1, 1) := dk_27 (dk_at dksX0_order_0 3 rfl rfl)
theorem dX0_order_4 : decode cX0_order 4 = .ok (.iload_n 2, 1) := dk_28 (dk_at dksX0_order_0 4 rfl rfl)
theorem dX0_order_5 : decode cX0_order 5 = .ok (.invokevirtual 41, 3) := dk_182 0 41 (dk_at dksX0_order_0 5 rfl rfl)
theorem dX0_order_8 : decode cX0_order 8 = .ok (.i2l, 1) := dk_133 (dk_at dksX0_order_0 8 rfl rfl)
theorem dX0_order_9 : decode cX0_order 9 = .ok (.lastore, 1) := dk_80 (dk_at dksX0_order_0 9 rfl rfl)
theorem dX0_order_10 : decode cX0_order 10 = .ok (.goto 11, 3) := dk_167 0 11 (dk_at dksX0_order_0 10 rfl rfl)
theorem dX0_order_13 : decode cX0_order 13 = .ok (.astore 4, 2) := dk_58 4 (dk_at dksX0_order_0 13 rfl rfl)
theorem dX0_order_15 : decode cX0_order 15 = .ok (.iconst 1, 1) := dk_4 (dk_at dksX0_order_0 15 rfl rfl)
theorem dX0_order_16 : decode cX0_order 16 = .ok (.ireturn, 1) := dk_172 (dk_at dksX0_order_0 16 rfl rfl)
theorem dX0_order_17 : decode cX0_order 17 = .ok (.astore 4, 2) := dk_58 4 (dk_at dksX0_order_0 17 rfl rfl)
theorem dX0_order_19 : decode cX0_order 19 = .ok (.iconst 2, 1) := dk_5 (dk_at dksX0_order_0 19 rfl rfl)
theorem dX0_order_20 : decode cX0_order 20 = .ok (.ireturn, 1) := dk_172 (dk_at dksX0_order_0 20 rfl rfl)
theorem dX0_order_21 : decode cX0_order 21 = .ok (.iconst 0, 1) := dk_3 (dk_at dksX0_order_0 21 rfl rfl)
theorem dX0_order_22 : decode cX0_order 22 = .ok (.ireturn, 1) := dk_172 (dk_at dksX0_order_0 22 rfl rfl)
abbrev cX0_takeBack : ByteArray := method_11_code
def yX0_takeBack : MethodName := ⟨RX0, "takeBack", "(LCourierClash;I[J)I"⟩
def dkwX0_takeBack_0 : List UInt8 := [44, 3, 42, 27, 182, 0, 44, 153, 0, 7, 10, 167, 0, 4, 9, 80, 167, 0, 6, 78, 4, 172, 3, 172]
abbrev dktX0_takeBack_0 : List UInt8 := dkwX0_takeBack_0 ++ []
theorem dksX0_takeBack_0 : cX0_takeBack.data.toList.drop 0 = dktX0_takeBack_0 := by decide +kernel
theorem dX0_takeBack_0 : decode cX0_takeBack 0 = .ok (.aload_n 2, 1) := dk_44 (dk_at dksX0_takeBack_0 0 rfl rfl)
theorem dX0_takeBack_1 : decode cX0_takeBack 1 = .ok (.iconst 0, 1) := dk_3 (dk_at dksX0_takeBack_0 1 rfl rfl)
theorem dX0_takeBack_2 : decode cX0_takeBack 2 = .ok (.aload_n 0, 1) := dk_42 (dk_at dksX0_takeBack_0 2 rfl rfl)
theorem dX0_takeBack_3 : decode cX0_takeBack 3 = .ok (.iload_n 1, 1) := dk_27 (dk_at dksX0_takeBack_0 3 rfl rfl)
theorem dX0_takeBack_4 : decode cX0_takeBack 4 = .ok (.invokevirtual 44, 3) := dk_182 0 44 (dk_at dksX0_takeBack_0 4 rfl rfl)
theorem dX0_takeBack_7 : decode cX0_takeBack 7 = .ok (.ifCond .eq 7, 3) := dk_153 0 7 (dk_at dksX0_takeBack_0 7 rfl rfl)
theorem dX0_takeBack_10 : decode cX0_takeBack 10 = .ok (.lconst 1, 1) := dk_10 (dk_at dksX0_takeBack_0 10 rfl rfl)
theorem dX0_takeBack_11 : decode cX0_takeBack 11 = .ok (.goto 4, 3) := dk_167 0 4 (dk_at dksX0_takeBack_0 11 rfl rfl)
theorem dX0_takeBack_14 : decode cX0_takeBack 14 = .ok (.lconst 0, 1) := dk_9 (dk_at dksX0_takeBack_0 14 rfl rfl)
theorem dX0_takeBack_15 : decode cX0_takeBack 15 = .ok (.lastore, 1) := dk_80 (dk_at dksX0_takeBack_0 15 rfl rfl)
theorem dX0_takeBack_16 : decode cX0_takeBack 16 = .ok (.goto 6, 3) := dk_167 0 6 (dk_at dksX0_takeBack_0 16 rfl rfl)
theorem dX0_takeBack_19 : decode cX0_takeBack 19 = .ok (.astore_n 3, 1) := dk_78 (dk_at dksX0_takeBack_0 19 rfl rfl)
theorem dX0_takeBack_20 : decode cX0_takeBack 20 = .ok (.iconst 1, 1) := dk_4 (dk_at dksX0_takeBack_0 20 rfl rfl)
theorem dX0_takeBack_21 : decode cX0_takeBack 21 = .ok (.ireturn, 1) := dk_172 (dk_at dksX0_takeBack_0 21 rfl rfl)
theorem dX0_takeBack_22 : decode cX0_takeBack 22 = .ok (.iconst 0, 1) := dk_3 (dk_at dksX0_takeBack_0 22 rfl rfl)
theorem dX0_takeBack_23 : decode cX0_takeBack 23 = .ok (.ireturn, 1) := dk_172 (dk_at dksX0_takeBack_0 23 rfl rfl)
abbrev cX0_turn : ByteArray := method_12_code
def yX0_turn : MethodName := ⟨RX0, "turn", "(LCourierClash;[J)I"⟩
def dkwX0_turn_0 : List UInt8 := [43, 3, 42, 182, 0, 47, 133, 80, 167, 0, 6, 77, 4, 172, 3, 172]
abbrev dktX0_turn_0 : List UInt8 := dkwX0_turn_0 ++ []
theorem dksX0_turn_0 : cX0_turn.data.toList.drop 0 = dktX0_turn_0 := by decide +kernel
theorem dX0_turn_0 : decode cX0_turn 0 = .ok (.aload_n 1, 1) := dk_43 (dk_at dksX0_turn_0 0 rfl rfl)
theorem dX0_turn_1 : decode cX0_turn 1 = .ok (.iconst 0, 1) := dk_3 (dk_at dksX0_turn_0 1 rfl rfl)
theorem dX0_turn_2 : decode cX0_turn 2 = .ok (.aload_n 0, 1) := dk_42 (dk_at dksX0_turn_0 2 rfl rfl)
theorem dX0_turn_3 : decode cX0_turn 3 = .ok (.invokevirtual 47, 3) := dk_182 0 47 (dk_at dksX0_turn_0 3 rfl rfl)
theorem dX0_turn_6 : decode cX0_turn 6 = .ok (.i2l, 1) := dk_133 (dk_at dksX0_turn_0 6 rfl rfl)
theorem dX0_turn_7 : decode cX0_turn 7 = .ok (.lastore, 1) := dk_80 (dk_at dksX0_turn_0 7 rfl rfl)
theorem dX0_turn_8 : decode cX0_turn 8 = .ok (.goto 6, 3) := dk_167 0 6 (dk_at dksX0_turn_0 8 rfl rfl)
theorem dX0_turn_11 : decode cX0_turn 11 = .ok (.astore_n 2, 1) := dk_77 (dk_at dksX0_turn_0 11 rfl rfl)
theorem dX0_turn_12 : decode cX0_turn 12 = .ok (.iconst 1, 1) := dk_4 (dk_at dksX0_turn_0 12 rfl rfl)
theorem dX0_turn_13 : decode cX0_turn 13 = .ok (.ireturn, 1) := dk_172 (dk_at dksX0_turn_0 13 rfl rfl)
theorem dX0_turn_14 : decode cX0_turn 14 = .ok (.iconst 0, 1) := dk_3 (dk_at dksX0_turn_0 14 rfl rfl)
theorem dX0_turn_15 : decode cX0_turn 15 = .ok (.ireturn, 1) := dk_172 (dk_at dksX0_turn_0 15 rfl rfl)
abbrev cX0_append : ByteArray := method_13_code
def yX0_append : MethodName := ⟨RX0, "append", "(LCourierClash;I[J)I"⟩
def dkwX0_append_0 : List UInt8 := [44, 3, 42, 27, 182, 0, 51, 133, 80, 167, 0, 9, 78, 4, 172, 78, 5, 172, 3, 172]
abbrev dktX0_append_0 : List UInt8 := dkwX0_append_0 ++ []
theorem dksX0_append_0 : cX0_append.data.toList.drop 0 = dktX0_append_0 := by decide +kernel
theorem dX0_append_0 : decode cX0_append 0 = .ok (.aload_n 2, 1) := dk_44 (dk_at dksX0_append_0 0 rfl rfl)
theorem dX0_append_1 : decode cX0_append 1 = .ok (.iconst 0, 1) := dk_3 (dk_at dksX0_append_0 1 rfl rfl)
theorem dX0_append_2 : decode cX0_append 2 = .ok (.aload_n 0, 1) := dk_42 (dk_at dksX0_append_0 2 rfl rfl)
theorem dX0_append_3 : decode cX0_append 3 = .ok (.iload_n 1, 1) := dk_27 (dk_at dksX0_append_0 3 rfl rfl)
theorem dX0_append_4 : decode cX0_append 4 = .ok (.invokevirtual 51, 3) := dk_182 0 51 (dk_at dksX0_append_0 4 rfl rfl)
theorem dX0_append_7 : decode cX0_append 7 = .ok (.i2l, 1) := dk_133 (dk_at dksX0_append_0 7 rfl rfl)
theorem dX0_append_8 : decode cX0_append 8 = .ok (.lastore, 1) := dk_80 (dk_at dksX0_append_0 8 rfl rfl)
theorem dX0_append_9 : decode cX0_append 9 = .ok (.goto 9, 3) := dk_167 0 9 (dk_at dksX0_append_0 9 rfl rfl)
theorem dX0_append_12 : decode cX0_append 12 = .ok (.astore_n 3, 1) := dk_78 (dk_at dksX0_append_0 12 rfl rfl)
theorem dX0_append_13 : decode cX0_append 13 = .ok (.iconst 1, 1) := dk_4 (dk_at dksX0_append_0 13 rfl rfl)
theorem dX0_append_14 : decode cX0_append 14 = .ok (.ireturn, 1) := dk_172 (dk_at dksX0_append_0 14 rfl rfl)
theorem dX0_append_15 : decode cX0_append 15 = .ok (.astore_n 3, 1) := dk_78 (dk_at dksX0_append_0 15 rfl rfl)
theorem dX0_append_16 : decode cX0_append 16 = .ok (.iconst 2, 1) := dk_5 (dk_at dksX0_append_0 16 rfl rfl)
theorem dX0_append_17 : decode cX0_append 17 = .ok (.ireturn, 1) := dk_172 (dk_at dksX0_append_0 17 rfl rfl)
theorem dX0_append_18 : decode cX0_append 18 = .ok (.iconst 0, 1) := dk_3 (dk_at dksX0_append_0 18 rfl rfl)
theorem dX0_append_19 : decode cX0_append 19 = .ok (.ireturn, 1) := dk_172 (dk_at dksX0_append_0 19 rfl rfl)
abbrev cX0_play : ByteArray := method_14_code
def yX0_play : MethodName := ⟨RX0, "play", "(LCourierClash;[J)I"⟩
def dkwX0_play_0 : List UInt8 := [43, 3, 42, 182, 0, 54, 133, 80, 167, 0, 6, 77, 4, 172, 3, 172]
abbrev dktX0_play_0 : List UInt8 := dkwX0_play_0 ++ []
theorem dksX0_play_0 : cX0_play.data.toList.drop 0 = dktX0_play_0 := by decide +kernel
theorem dX0_play_0 : decode cX0_play 0 = .ok (.aload_n 1, 1) := dk_43 (dk_at dksX0_play_0 0 rfl rfl)
theorem dX0_play_1 : decode cX0_play 1 = .ok (.iconst 0, 1) := dk_3 (dk_at dksX0_play_0 1 rfl rfl)
theorem dX0_play_2 : decode cX0_play 2 = .ok (.aload_n 0, 1) := dk_42 (dk_at dksX0_play_0 2 rfl rfl)
theorem dX0_play_3 : decode cX0_play 3 = .ok (.invokevirtual 54, 3) := dk_182 0 54 (dk_at dksX0_play_0 3 rfl rfl)
theorem dX0_play_6 : decode cX0_play 6 = .ok (.i2l, 1) := dk_133 (dk_at dksX0_play_0 6 rfl rfl)
theorem dX0_play_7 : decode cX0_play 7 = .ok (.lastore, 1) := dk_80 (dk_at dksX0_play_0 7 rfl rfl)
theorem dX0_play_8 : decode cX0_play 8 = .ok (.goto 6, 3) := dk_167 0 6 (dk_at dksX0_play_0 8 rfl rfl)
theorem dX0_play_11 : decode cX0_play 11 = .ok (.astore_n 2, 1) := dk_77 (dk_at dksX0_play_0 11 rfl rfl)
theorem dX0_play_12 : decode cX0_play 12 = .ok (.iconst 1, 1) := dk_4 (dk_at dksX0_play_0 12 rfl rfl)
theorem dX0_play_13 : decode cX0_play 13 = .ok (.ireturn, 1) := dk_172 (dk_at dksX0_play_0 13 rfl rfl)
theorem dX0_play_14 : decode cX0_play 14 = .ok (.iconst 0, 1) := dk_3 (dk_at dksX0_play_0 14 rfl rfl)
theorem dX0_play_15 : decode cX0_play 15 = .ok (.ireturn, 1) := dk_172 (dk_at dksX0_play_0 15 rfl rfl)
abbrev cX0_stoppedPart : ByteArray := method_15_code
def yX0_stoppedPart : MethodName := ⟨RX0, "stoppedPart", "(LCourierClash;[J)I"⟩
def dkwX0_stoppedPart_0 : List UInt8 := [43, 3, 42, 182, 0, 57, 133, 80, 167, 0, 6, 77, 4, 172, 3, 172]
abbrev dktX0_stoppedPart_0 : List UInt8 := dkwX0_stoppedPart_0 ++ []
theorem dksX0_stoppedPart_0 : cX0_stoppedPart.data.toList.drop 0 = dktX0_stoppedPart_0 := by decide +kernel
theorem dX0_stoppedPart_0 : decode cX0_stoppedPart 0 = .ok (.aload_n 1, 1) := dk_43 (dk_at dksX0_stoppedPart_0 0 rfl rfl)
theorem dX0_stoppedPart_1 : decode cX0_stoppedPart 1 = .ok (.iconst 0, 1) := dk_3 (dk_at dksX0_stoppedPart_0 1 rfl rfl)
theorem dX0_stoppedPart_2 : decode cX0_stoppedPart 2 = .ok (.aload_n 0, 1) := dk_42 (dk_at dksX0_stoppedPart_0 2 rfl rfl)
theorem dX0_stoppedPart_3 : decode cX0_stoppedPart 3 = .ok (.invokevirtual 57, 3) := dk_182 0 57 (dk_at dksX0_stoppedPart_0 3 rfl rfl)
theorem dX0_stoppedPart_6 : decode cX0_stoppedPart 6 = .ok (.i2l, 1) := dk_133 (dk_at dksX0_stoppedPart_0 6 rfl rfl)
theorem dX0_stoppedPart_7 : decode cX0_stoppedPart 7 = .ok (.lastore, 1) := dk_80 (dk_at dksX0_stoppedPart_0 7 rfl rfl)
theorem dX0_stoppedPart_8 : decode cX0_stoppedPart 8 = .ok (.goto 6, 3) := dk_167 0 6 (dk_at dksX0_stoppedPart_0 8 rfl rfl)
theorem dX0_stoppedPart_11 : decode cX0_stoppedPart 11 = .ok (.astore_n 2, 1) := dk_77 (dk_at dksX0_stoppedPart_0 11 rfl rfl)
theorem dX0_stoppedPart_12 : decode cX0_stoppedPart 12 = .ok (.iconst 1, 1) := dk_4 (dk_at dksX0_stoppedPart_0 12 rfl rfl)
theorem dX0_stoppedPart_13 : decode cX0_stoppedPart 13 = .ok (.ireturn, 1) := dk_172 (dk_at dksX0_stoppedPart_0 13 rfl rfl)
theorem dX0_stoppedPart_14 : decode cX0_stoppedPart 14 = .ok (.iconst 0, 1) := dk_3 (dk_at dksX0_stoppedPart_0 14 rfl rfl)
theorem dX0_stoppedPart_15 : decode cX0_stoppedPart 15 = .ok (.ireturn, 1) := dk_172 (dk_at dksX0_stoppedPart_0 15 rfl rfl)
abbrev cX0_undo : ByteArray := method_16_code
def yX0_undo : MethodName := ⟨RX0, "undo", "(LCourierClash;[J)I"⟩
def dkwX0_undo_0 : List UInt8 := [43, 3, 42, 182, 0, 60, 133, 80, 167, 0, 6, 77, 4, 172, 3, 172]
abbrev dktX0_undo_0 : List UInt8 := dkwX0_undo_0 ++ []
theorem dksX0_undo_0 : cX0_undo.data.toList.drop 0 = dktX0_undo_0 := by decide +kernel
theorem dX0_undo_0 : decode cX0_undo 0 = .ok (.aload_n 1, 1) := dk_43 (dk_at dksX0_undo_0 0 rfl rfl)
theorem dX0_undo_1 : decode cX0_undo 1 = .ok (.iconst 0, 1) := dk_3 (dk_at dksX0_undo_0 1 rfl rfl)
theorem dX0_undo_2 : decode cX0_undo 2 = .ok (.aload_n 0, 1) := dk_42 (dk_at dksX0_undo_0 2 rfl rfl)
theorem dX0_undo_3 : decode cX0_undo 3 = .ok (.invokevirtual 60, 3) := dk_182 0 60 (dk_at dksX0_undo_0 3 rfl rfl)
theorem dX0_undo_6 : decode cX0_undo 6 = .ok (.i2l, 1) := dk_133 (dk_at dksX0_undo_0 6 rfl rfl)
theorem dX0_undo_7 : decode cX0_undo 7 = .ok (.lastore, 1) := dk_80 (dk_at dksX0_undo_0 7 rfl rfl)
theorem dX0_undo_8 : decode cX0_undo 8 = .ok (.goto 6, 3) := dk_167 0 6 (dk_at dksX0_undo_0 8 rfl rfl)
theorem dX0_undo_11 : decode cX0_undo 11 = .ok (.astore_n 2, 1) := dk_77 (dk_at dksX0_undo_0 11 rfl rfl)
theorem dX0_undo_12 : decode cX0_undo 12 = .ok (.iconst 1, 1) := dk_4 (dk_at dksX0_undo_0 12 rfl rfl)
theorem dX0_undo_13 : decode cX0_undo 13 = .ok (.ireturn, 1) := dk_172 (dk_at dksX0_undo_0 13 rfl rfl)
theorem dX0_undo_14 : decode cX0_undo 14 = .ok (.iconst 0, 1) := dk_3 (dk_at dksX0_undo_0 14 rfl rfl)
theorem dX0_undo_15 : decode cX0_undo 15 = .ok (.ireturn, 1) := dk_172 (dk_at dksX0_undo_0 15 rfl rfl)
abbrev cX0_restore : ByteArray := method_17_code
def yX0_restore : MethodName := ⟨RX0, "restore", "(LCourierClash;[J)I"⟩
def dkwX0_restore_0 : List UInt8 := [43, 3, 42, 182, 0, 63, 133, 80, 167, 0, 6, 77, 4, 172, 3, 172]
abbrev dktX0_restore_0 : List UInt8 := dkwX0_restore_0 ++ []
theorem dksX0_restore_0 : cX0_restore.data.toList.drop 0 = dktX0_restore_0 := by decide +kernel
theorem dX0_restore_0 : decode cX0_restore 0 = .ok (.aload_n 1, 1) := dk_43 (dk_at dksX0_restore_0 0 rfl rfl)
theorem dX0_restore_1 : decode cX0_restore 1 = .ok (.iconst 0, 1) := dk_3 (dk_at dksX0_restore_0 1 rfl rfl)
theorem dX0_restore_2 : decode cX0_restore 2 = .ok (.aload_n 0, 1) := dk_42 (dk_at dksX0_restore_0 2 rfl rfl)
theorem dX0_restore_3 : decode cX0_restore 3 = .ok (.invokevirtual 63, 3) := dk_182 0 63 (dk_at dksX0_restore_0 3 rfl rfl)
theorem dX0_restore_6 : decode cX0_restore 6 = .ok (.i2l, 1) := dk_133 (dk_at dksX0_restore_0 6 rfl rfl)
theorem dX0_restore_7 : decode cX0_restore 7 = .ok (.lastore, 1) := dk_80 (dk_at dksX0_restore_0 7 rfl rfl)
theorem dX0_restore_8 : decode cX0_restore 8 = .ok (.goto 6, 3) := dk_167 0 6 (dk_at dksX0_restore_0 8 rfl rfl)
theorem dX0_restore_11 : decode cX0_restore 11 = .ok (.astore_n 2, 1) := dk_77 (dk_at dksX0_restore_0 11 rfl rfl)
theorem dX0_restore_12 : decode cX0_restore 12 = .ok (.iconst 1, 1) := dk_4 (dk_at dksX0_restore_0 12 rfl rfl)
theorem dX0_restore_13 : decode cX0_restore 13 = .ok (.ireturn, 1) := dk_172 (dk_at dksX0_restore_0 13 rfl rfl)
theorem dX0_restore_14 : decode cX0_restore 14 = .ok (.iconst 0, 1) := dk_3 (dk_at dksX0_restore_0 14 rfl rfl)
theorem dX0_restore_15 : decode cX0_restore 15 = .ok (.ireturn, 1) := dk_172 (dk_at dksX0_restore_0 15 rfl rfl)
abbrev cX0_fromOf : ByteArray := method_18_code
def yX0_fromOf : MethodName := ⟨RX0, "fromOf", "(LCourierClash;I[J)I"⟩
def dkwX0_fromOf_0 : List UInt8 := [44, 3, 42, 27, 182, 0, 66, 133, 80, 167, 0, 6, 78, 4, 172, 3, 172]
abbrev dktX0_fromOf_0 : List UInt8 := dkwX0_fromOf_0 ++ []
theorem dksX0_fromOf_0 : cX0_fromOf.data.toList.drop 0 = dktX0_fromOf_0 := by decide +kernel
theorem dX0_fromOf_0 : decode cX0_fromOf 0 = .ok (.aload_n 2, 1) := dk_44 (dk_at dksX0_fromOf_0 0 rfl rfl)
theorem dX0_fromOf_1 : decode cX0_fromOf 1 = .ok (.iconst 0, 1) := dk_3 (dk_at dksX0_fromOf_0 1 rfl rfl)
theorem dX0_fromOf_2 : decode cX0_fromOf 2 = .ok (.aload_n 0, 1) := dk_42 (dk_at dksX0_fromOf_0 2 rfl rfl)
theorem dX0_fromOf_3 : decode cX0_fromOf 3 = .ok (.iload_n 1, 1) := dk_27 (dk_at dksX0_fromOf_0 3 rfl rfl)
theorem dX0_fromOf_4 : decode cX0_fromOf 4 = .ok (.invokevirtual 66, 3) := dk_182 0 66 (dk_at dksX0_fromOf_0 4 rfl rfl)
theorem dX0_fromOf_7 : decode cX0_fromOf 7 = .ok (.i2l, 1) := dk_133 (dk_at dksX0_fromOf_0 7 rfl rfl)
theorem dX0_fromOf_8 : decode cX0_fromOf 8 = .ok (.lastore, 1) := dk_80 (dk_at dksX0_fromOf_0 8 rfl rfl)
theorem dX0_fromOf_9 : decode cX0_fromOf 9 = .ok (.goto 6, 3) := dk_167 0 6 (dk_at dksX0_fromOf_0 9 rfl rfl)
theorem dX0_fromOf_12 : decode cX0_fromOf 12 = .ok (.astore_n 3, 1) := dk_78 (dk_at dksX0_fromOf_0 12 rfl rfl)
theorem dX0_fromOf_13 : decode cX0_fromOf 13 = .ok (.iconst 1, 1) := dk_4 (dk_at dksX0_fromOf_0 13 rfl rfl)
theorem dX0_fromOf_14 : decode cX0_fromOf 14 = .ok (.ireturn, 1) := dk_172 (dk_at dksX0_fromOf_0 14 rfl rfl)
theorem dX0_fromOf_15 : decode cX0_fromOf 15 = .ok (.iconst 0, 1) := dk_3 (dk_at dksX0_fromOf_0 15 rfl rfl)
theorem dX0_fromOf_16 : decode cX0_fromOf 16 = .ok (.ireturn, 1) := dk_172 (dk_at dksX0_fromOf_0 16 rfl rfl)
abbrev cX0_toOf : ByteArray := method_19_code
def yX0_toOf : MethodName := ⟨RX0, "toOf", "(LCourierClash;I[J)I"⟩
def dkwX0_toOf_0 : List UInt8 := [44, 3, 42, 27, 182, 0, 69, 133, 80, 167, 0, 6, 78, 4, 172, 3, 172]
abbrev dktX0_toOf_0 : List UInt8 := dkwX0_toOf_0 ++ []
theorem dksX0_toOf_0 : cX0_toOf.data.toList.drop 0 = dktX0_toOf_0 := by decide +kernel
theorem dX0_toOf_0 : decode cX0_toOf 0 = .ok (.aload_n 2, 1) := dk_44 (dk_at dksX0_toOf_0 0 rfl rfl)
theorem dX0_toOf_1 : decode cX0_toOf 1 = .ok (.iconst 0, 1) := dk_3 (dk_at dksX0_toOf_0 1 rfl rfl)
theorem dX0_toOf_2 : decode cX0_toOf 2 = .ok (.aload_n 0, 1) := dk_42 (dk_at dksX0_toOf_0 2 rfl rfl)
theorem dX0_toOf_3 : decode cX0_toOf 3 = .ok (.iload_n 1, 1) := dk_27 (dk_at dksX0_toOf_0 3 rfl rfl)
theorem dX0_toOf_4 : decode cX0_toOf 4 = .ok (.invokevirtual 69, 3) := dk_182 0 69 (dk_at dksX0_toOf_0 4 rfl rfl)
theorem dX0_toOf_7 : decode cX0_toOf 7 = .ok (.i2l, 1) := dk_133 (dk_at dksX0_toOf_0 7 rfl rfl)
theorem dX0_toOf_8 : decode cX0_toOf 8 = .ok (.lastore, 1) := dk_80 (dk_at dksX0_toOf_0 8 rfl rfl)
theorem dX0_toOf_9 : decode cX0_toOf 9 = .ok (.goto 6, 3) := dk_167 0 6 (dk_at dksX0_toOf_0 9 rfl rfl)
theorem dX0_toOf_12 : decode cX0_toOf 12 = .ok (.astore_n 3, 1) := dk_78 (dk_at dksX0_toOf_0 12 rfl rfl)
theorem dX0_toOf_13 : decode cX0_toOf 13 = .ok (.iconst 1, 1) := dk_4 (dk_at dksX0_toOf_0 13 rfl rfl)
theorem dX0_toOf_14 : decode cX0_toOf 14 = .ok (.ireturn, 1) := dk_172 (dk_at dksX0_toOf_0 14 rfl rfl)
theorem dX0_toOf_15 : decode cX0_toOf 15 = .ok (.iconst 0, 1) := dk_3 (dk_at dksX0_toOf_0 15 rfl rfl)
theorem dX0_toOf_16 : decode cX0_toOf 16 = .ok (.ireturn, 1) := dk_172 (dk_at dksX0_toOf_0 16 rfl rfl)
abbrev cX0_isOpen : ByteArray := method_20_code
def yX0_isOpen : MethodName := ⟨RX0, "isOpen", "(LCourierClash;I[J)I"⟩
def dkwX0_isOpen_0 : List UInt8 := [44, 3, 42, 27, 182, 0, 72, 153, 0, 7, 10, 167, 0, 4, 9, 80, 167, 0, 6, 78, 4, 172, 3, 172]
abbrev dktX0_isOpen_0 : List UInt8 := dkwX0_isOpen_0 ++ []
theorem dksX0_isOpen_0 : cX0_isOpen.data.toList.drop 0 = dktX0_isOpen_0 := by decide +kernel
theorem dX0_isOpen_0 : decode cX0_isOpen 0 = .ok (.aload_n 2, 1) := dk_44 (dk_at dksX0_isOpen_0 0 rfl rfl)
theorem dX0_isOpen_1 : decode cX0_isOpen 1 = .ok (.iconst 0, 1) := dk_3 (dk_at dksX0_isOpen_0 1 rfl rfl)
theorem dX0_isOpen_2 : decode cX0_isOpen 2 = .ok (.aload_n 0, 1) := dk_42 (dk_at dksX0_isOpen_0 2 rfl rfl)
theorem dX0_isOpen_3 : decode cX0_isOpen 3 = .ok (.iload_n 1, 1) := dk_27 (dk_at dksX0_isOpen_0 3 rfl rfl)
theorem dX0_isOpen_4 : decode cX0_isOpen 4 = .ok (.invokevirtual 72, 3) := dk_182 0 72 (dk_at dksX0_isOpen_0 4 rfl rfl)
theorem dX0_isOpen_7 : decode cX0_isOpen 7 = .ok (.ifCond .eq 7, 3) := dk_153 0 7 (dk_at dksX0_isOpen_0 7 rfl rfl)
theorem dX0_isOpen_10 : decode cX0_isOpen 10 = .ok (.lconst 1, 1) := dk_10 (dk_at dksX0_isOpen_0 10 rfl rfl)
theorem dX0_isOpen_11 : decode cX0_isOpen 11 = .ok (.goto 4, 3) := dk_167 0 4 (dk_at dksX0_isOpen_0 11 rfl rfl)
theorem dX0_isOpen_14 : decode cX0_isOpen 14 = .ok (.lconst 0, 1) := dk_9 (dk_at dksX0_isOpen_0 14 rfl rfl)
theorem dX0_isOpen_15 : decode cX0_isOpen 15 = .ok (.lastore, 1) := dk_80 (dk_at dksX0_isOpen_0 15 rfl rfl)
theorem dX0_isOpen_16 : decode cX0_isOpen 16 = .ok (.goto 6, 3) := dk_167 0 6 (dk_at dksX0_isOpen_0 16 rfl rfl)
theorem dX0_isOpen_19 : decode cX0_isOpen 19 = .ok (.astore_n 3, 1) := dk_78 (dk_at dksX0_isOpen_0 19 rfl rfl)
theorem dX0_isOpen_20 : decode cX0_isOpen 20 = .ok (.iconst 1, 1) := dk_4 (dk_at dksX0_isOpen_0 20 rfl rfl)
theorem dX0_isOpen_21 : decode cX0_isOpen 21 = .ok (.ireturn, 1) := dk_172 (dk_at dksX0_isOpen_0 21 rfl rfl)
theorem dX0_isOpen_22 : decode cX0_isOpen 22 = .ok (.iconst 0, 1) := dk_3 (dk_at dksX0_isOpen_0 22 rfl rfl)
theorem dX0_isOpen_23 : decode cX0_isOpen 23 = .ok (.ireturn, 1) := dk_172 (dk_at dksX0_isOpen_0 23 rfl rfl)
abbrev cX0_junctionOf : ByteArray := method_21_code
def yX0_junctionOf : MethodName := ⟨RX0, "junctionOf", "(LCourierClash;I[J)I"⟩
def dkwX0_junctionOf_0 : List UInt8 := [44, 3, 42, 27, 182, 0, 75, 133, 80, 167, 0, 6, 78, 4, 172, 3, 172]
abbrev dktX0_junctionOf_0 : List UInt8 := dkwX0_junctionOf_0 ++ []
theorem dksX0_junctionOf_0 : cX0_junctionOf.data.toList.drop 0 = dktX0_junctionOf_0 := by decide +kernel
theorem dX0_junctionOf_0 : decode cX0_junctionOf 0 = .ok (.aload_n 2, 1) := dk_44 (dk_at dksX0_junctionOf_0 0 rfl rfl)
theorem dX0_junctionOf_1 : decode cX0_junctionOf 1 = .ok (.iconst 0, 1) := dk_3 (dk_at dksX0_junctionOf_0 1 rfl rfl)
theorem dX0_junctionOf_2 : decode cX0_junctionOf 2 = .ok (.aload_n 0, 1) := dk_42 (dk_at dksX0_junctionOf_0 2 rfl rfl)
theorem dX0_junctionOf_3 : decode cX0_junctionOf 3 = .ok (.iload_n 1, 1) := dk_27 (dk_at dksX0_junctionOf_0 3 rfl rfl)
theorem dX0_junctionOf_4 : decode cX0_junctionOf 4 = .ok (.invokevirtual 75, 3) := dk_182 0 75 (dk_at dksX0_junctionOf_0 4 rfl rfl)
theorem dX0_junctionOf_7 : decode cX0_junctionOf 7 = .ok (.i2l, 1) := dk_133 (dk_at dksX0_junctionOf_0 7 rfl rfl)
theorem dX0_junctionOf_8 : decode cX0_junctionOf 8 = .ok (.lastore, 1) := dk_80 (dk_at dksX0_junctionOf_0 8 rfl rfl)
theorem dX0_junctionOf_9 : decode cX0_junctionOf 9 = .ok (.goto 6, 3) := dk_167 0 6 (dk_at dksX0_junctionOf_0 9 rfl rfl)
theorem dX0_junctionOf_12 : decode cX0_junctionOf 12 = .ok (.astore_n 3, 1) := dk_78 (dk_at dksX0_junctionOf_0 12 rfl rfl)
theorem dX0_junctionOf_13 : decode cX0_junctionOf 13 = .ok (.iconst 1, 1) := dk_4 (dk_at dksX0_junctionOf_0 13 rfl rfl)
theorem dX0_junctionOf_14 : decode cX0_junctionOf 14 = .ok (.ireturn, 1) := dk_172 (dk_at dksX0_junctionOf_0 14 rfl rfl)
theorem dX0_junctionOf_15 : decode cX0_junctionOf 15 = .ok (.iconst 0, 1) := dk_3 (dk_at dksX0_junctionOf_0 15 rfl rfl)
theorem dX0_junctionOf_16 : decode cX0_junctionOf 16 = .ok (.ireturn, 1) := dk_172 (dk_at dksX0_junctionOf_0 16 rfl rfl)
abbrev cX0_hasVan : ByteArray := method_22_code
def yX0_hasVan : MethodName := ⟨RX0, "hasVan", "(LCourierClash;I[J)I"⟩
def dkwX0_hasVan_0 : List UInt8 := [44, 3, 42, 27, 182, 0, 78, 153, 0, 7, 10, 167, 0, 4, 9, 80, 167, 0, 6, 78, 4, 172, 3, 172]
abbrev dktX0_hasVan_0 : List UInt8 := dkwX0_hasVan_0 ++ []
theorem dksX0_hasVan_0 : cX0_hasVan.data.toList.drop 0 = dktX0_hasVan_0 := by decide +kernel
theorem dX0_hasVan_0 : decode cX0_hasVan 0 = .ok (.aload_n 2, 1) := dk_44 (dk_at dksX0_hasVan_0 0 rfl rfl)
theorem dX0_hasVan_1 : decode cX0_hasVan 1 = .ok (.iconst 0, 1) := dk_3 (dk_at dksX0_hasVan_0 1 rfl rfl)
theorem dX0_hasVan_2 : decode cX0_hasVan 2 = .ok (.aload_n 0, 1) := dk_42 (dk_at dksX0_hasVan_0 2 rfl rfl)
theorem dX0_hasVan_3 : decode cX0_hasVan 3 = .ok (.iload_n 1, 1) := dk_27 (dk_at dksX0_hasVan_0 3 rfl rfl)
theorem dX0_hasVan_4 : decode cX0_hasVan 4 = .ok (.invokevirtual 78, 3) := dk_182 0 78 (dk_at dksX0_hasVan_0 4 rfl rfl)
theorem dX0_hasVan_7 : decode cX0_hasVan 7 = .ok (.ifCond .eq 7, 3) := dk_153 0 7 (dk_at dksX0_hasVan_0 7 rfl rfl)
theorem dX0_hasVan_10 : decode cX0_hasVan 10 = .ok (.lconst 1, 1) := dk_10 (dk_at dksX0_hasVan_0 10 rfl rfl)
theorem dX0_hasVan_11 : decode cX0_hasVan 11 = .ok (.goto 4, 3) := dk_167 0 4 (dk_at dksX0_hasVan_0 11 rfl rfl)
theorem dX0_hasVan_14 : decode cX0_hasVan 14 = .ok (.lconst 0, 1) := dk_9 (dk_at dksX0_hasVan_0 14 rfl rfl)
theorem dX0_hasVan_15 : decode cX0_hasVan 15 = .ok (.lastore, 1) := dk_80 (dk_at dksX0_hasVan_0 15 rfl rfl)
theorem dX0_hasVan_16 : decode cX0_hasVan 16 = .ok (.goto 6, 3) := dk_167 0 6 (dk_at dksX0_hasVan_0 16 rfl rfl)
theorem dX0_hasVan_19 : decode cX0_hasVan 19 = .ok (.astore_n 3, 1) := dk_78 (dk_at dksX0_hasVan_0 19 rfl rfl)
theorem dX0_hasVan_20 : decode cX0_hasVan 20 = .ok (.iconst 1, 1) := dk_4 (dk_at dksX0_hasVan_0 20 rfl rfl)
theorem dX0_hasVan_21 : decode cX0_hasVan 21 = .ok (.ireturn, 1) := dk_172 (dk_at dksX0_hasVan_0 21 rfl rfl)
theorem dX0_hasVan_22 : decode cX0_hasVan 22 = .ok (.iconst 0, 1) := dk_3 (dk_at dksX0_hasVan_0 22 rfl rfl)
theorem dX0_hasVan_23 : decode cX0_hasVan 23 = .ok (.ireturn, 1) := dk_172 (dk_at dksX0_hasVan_0 23 rfl rfl)
abbrev cX0_loadOf : ByteArray := method_23_code
def yX0_loadOf : MethodName := ⟨RX0, "loadOf", "(LCourierClash;I[J)I"⟩
def dkwX0_loadOf_0 : List UInt8 := [44, 3, 42, 27, 182, 0, 81, 133, 80, 167, 0, 6, 78, 4, 172, 3, 172]
abbrev dktX0_loadOf_0 : List UInt8 := dkwX0_loadOf_0 ++ []
theorem dksX0_loadOf_0 : cX0_loadOf.data.toList.drop 0 = dktX0_loadOf_0 := by decide +kernel
theorem dX0_loadOf_0 : decode cX0_loadOf 0 = .ok (.aload_n 2, 1) := dk_44 (dk_at dksX0_loadOf_0 0 rfl rfl)
theorem dX0_loadOf_1 : decode cX0_loadOf 1 = .ok (.iconst 0, 1) := dk_3 (dk_at dksX0_loadOf_0 1 rfl rfl)
theorem dX0_loadOf_2 : decode cX0_loadOf 2 = .ok (.aload_n 0, 1) := dk_42 (dk_at dksX0_loadOf_0 2 rfl rfl)
theorem dX0_loadOf_3 : decode cX0_loadOf 3 = .ok (.iload_n 1, 1) := dk_27 (dk_at dksX0_loadOf_0 3 rfl rfl)
theorem dX0_loadOf_4 : decode cX0_loadOf 4 = .ok (.invokevirtual 81, 3) := dk_182 0 81 (dk_at dksX0_loadOf_0 4 rfl rfl)
theorem dX0_loadOf_7 : decode cX0_loadOf 7 = .ok (.i2l, 1) := dk_133 (dk_at dksX0_loadOf_0 7 rfl rfl)
theorem dX0_loadOf_8 : decode cX0_loadOf 8 = .ok (.lastore, 1) := dk_80 (dk_at dksX0_loadOf_0 8 rfl rfl)
theorem dX0_loadOf_9 : decode cX0_loadOf 9 = .ok (.goto 6, 3) := dk_167 0 6 (dk_at dksX0_loadOf_0 9 rfl rfl)
theorem dX0_loadOf_12 : decode cX0_loadOf 12 = .ok (.astore_n 3, 1) := dk_78 (dk_at dksX0_loadOf_0 12 rfl rfl)
theorem dX0_loadOf_13 : decode cX0_loadOf 13 = .ok (.iconst 1, 1) := dk_4 (dk_at dksX0_loadOf_0 13 rfl rfl)
theorem dX0_loadOf_14 : decode cX0_loadOf 14 = .ok (.ireturn, 1) := dk_172 (dk_at dksX0_loadOf_0 14 rfl rfl)
theorem dX0_loadOf_15 : decode cX0_loadOf 15 = .ok (.iconst 0, 1) := dk_3 (dk_at dksX0_loadOf_0 15 rfl rfl)
theorem dX0_loadOf_16 : decode cX0_loadOf 16 = .ok (.ireturn, 1) := dk_172 (dk_at dksX0_loadOf_0 16 rfl rfl)
abbrev cX0_hasOrder : ByteArray := method_24_code
def yX0_hasOrder : MethodName := ⟨RX0, "hasOrder", "(LCourierClash;I[J)I"⟩
def dkwX0_hasOrder_0 : List UInt8 := [44, 3, 42, 27, 182, 0, 84, 153, 0, 7, 10, 167, 0, 4, 9, 80, 167, 0, 6, 78, 4, 172, 3, 172]
abbrev dktX0_hasOrder_0 : List UInt8 := dkwX0_hasOrder_0 ++ []
theorem dksX0_hasOrder_0 : cX0_hasOrder.data.toList.drop 0 = dktX0_hasOrder_0 := by decide +kernel
theorem dX0_hasOrder_0 : decode cX0_hasOrder 0 = .ok (.aload_n 2, 1) := dk_44 (dk_at dksX0_hasOrder_0 0 rfl rfl)
theorem dX0_hasOrder_1 : decode cX0_hasOrder 1 = .ok (.iconst 0, 1) := dk_3 (dk_at dksX0_hasOrder_0 1 rfl rfl)
theorem dX0_hasOrder_2 : decode cX0_hasOrder 2 = .ok (.aload_n 0, 1) := dk_42 (dk_at dksX0_hasOrder_0 2 rfl rfl)
theorem dX0_hasOrder_3 : decode cX0_hasOrder 3 = .ok (.iload_n 1, 1) := dk_27 (dk_at dksX0_hasOrder_0 3 rfl rfl)
theorem dX0_hasOrder_4 : decode cX0_hasOrder 4 = .ok (.invokevirtual 84, 3) := dk_182 0 84 (dk_at dksX0_hasOrder_0 4 rfl rfl)
theorem dX0_hasOrder_7 : decode cX0_hasOrder 7 = .ok (.ifCond .eq 7, 3) := dk_153 0 7 (dk_at dksX0_hasOrder_0 7 rfl rfl)
theorem dX0_hasOrder_10 : decode cX0_hasOrder 10 = .ok (.lconst 1, 1) := dk_10 (dk_at dksX0_hasOrder_0 10 rfl rfl)
theorem dX0_hasOrder_11 : decode cX0_hasOrder 11 = .ok (.goto 4, 3) := dk_167 0 4 (dk_at dksX0_hasOrder_0 11 rfl rfl)
theorem dX0_hasOrder_14 : decode cX0_hasOrder 14 = .ok (.lconst 0, 1) := dk_9 (dk_at dksX0_hasOrder_0 14 rfl rfl)
theorem dX0_hasOrder_15 : decode cX0_hasOrder 15 = .ok (.lastore, 1) := dk_80 (dk_at dksX0_hasOrder_0 15 rfl rfl)
theorem dX0_hasOrder_16 : decode cX0_hasOrder 16 = .ok (.goto 6, 3) := dk_167 0 6 (dk_at dksX0_hasOrder_0 16 rfl rfl)
theorem dX0_hasOrder_19 : decode cX0_hasOrder 19 = .ok (.astore_n 3, 1) := dk_78 (dk_at dksX0_hasOrder_0 19 rfl rfl)
theorem dX0_hasOrder_20 : decode cX0_hasOrder 20 = .ok (.iconst 1, 1) := dk_4 (dk_at dksX0_hasOrder_0 20 rfl rfl)
theorem dX0_hasOrder_21 : decode cX0_hasOrder 21 = .ok (.ireturn, 1) := dk_172 (dk_at dksX0_hasOrder_0 21 rfl rfl)
theorem dX0_hasOrder_22 : decode cX0_hasOrder 22 = .ok (.iconst 0, 1) := dk_3 (dk_at dksX0_hasOrder_0 22 rfl rfl)
theorem dX0_hasOrder_23 : decode cX0_hasOrder 23 = .ok (.ireturn, 1) := dk_172 (dk_at dksX0_hasOrder_0 23 rfl rfl)
abbrev cX0_orderOf : ByteArray := method_25_code
def yX0_orderOf : MethodName := ⟨RX0, "orderOf", "(LCourierClash;I[J)I"⟩
def dkwX0_orderOf_0 : List UInt8 := [44, 3, 42, 27, 182, 0, 87, 133, 80, 167, 0, 9, 78, 4, 172, 78, 5, 172, 3, 172]
abbrev dktX0_orderOf_0 : List UInt8 := dkwX0_orderOf_0 ++ []
theorem dksX0_orderOf_0 : cX0_orderOf.data.toList.drop 0 = dktX0_orderOf_0 := by decide +kernel
theorem dX0_orderOf_0 : decode cX0_orderOf 0 = .ok (.aload_n 2, 1) := dk_44 (dk_at dksX0_orderOf_0 0 rfl rfl)
theorem dX0_orderOf_1 : decode cX0_orderOf 1 = .ok (.iconst 0, 1) := dk_3 (dk_at dksX0_orderOf_0 1 rfl rfl)
theorem dX0_orderOf_2 : decode cX0_orderOf 2 = .ok (.aload_n 0, 1) := dk_42 (dk_at dksX0_orderOf_0 2 rfl rfl)
theorem dX0_orderOf_3 : decode cX0_orderOf 3 = .ok (.iload_n 1, 1) := dk_27 (dk_at dksX0_orderOf_0 3 rfl rfl)
theorem dX0_orderOf_4 : decode cX0_orderOf 4 = .ok (.invokevirtual 87, 3) := dk_182 0 87 (dk_at dksX0_orderOf_0 4 rfl rfl)
theorem dX0_orderOf_7 : decode cX0_orderOf 7 = .ok (.i2l, 1) := dk_133 (dk_at dksX0_orderOf_0 7 rfl rfl)
theorem dX0_orderOf_8 : decode cX0_orderOf 8 = .ok (.lastore, 1) := dk_80 (dk_at dksX0_orderOf_0 8 rfl rfl)
theorem dX0_orderOf_9 : decode cX0_orderOf 9 = .ok (.goto 9, 3) := dk_167 0 9 (dk_at dksX0_orderOf_0 9 rfl rfl)
theorem dX0_orderOf_12 : decode cX0_orderOf 12 = .ok (.astore_n 3, 1) := dk_78 (dk_at dksX0_orderOf_0 12 rfl rfl)
theorem dX0_orderOf_13 : decode cX0_orderOf 13 = .ok (.iconst 1, 1) := dk_4 (dk_at dksX0_orderOf_0 13 rfl rfl)
theorem dX0_orderOf_14 : decode cX0_orderOf 14 = .ok (.ireturn, 1) := dk_172 (dk_at dksX0_orderOf_0 14 rfl rfl)
theorem dX0_orderOf_15 : decode cX0_orderOf 15 = .ok (.astore_n 3, 1) := dk_78 (dk_at dksX0_orderOf_0 15 rfl rfl)
theorem dX0_orderOf_16 : decode cX0_orderOf 16 = .ok (.iconst 2, 1) := dk_5 (dk_at dksX0_orderOf_0 16 rfl rfl)
theorem dX0_orderOf_17 : decode cX0_orderOf 17 = .ok (.ireturn, 1) := dk_172 (dk_at dksX0_orderOf_0 17 rfl rfl)
theorem dX0_orderOf_18 : decode cX0_orderOf 18 = .ok (.iconst 0, 1) := dk_3 (dk_at dksX0_orderOf_0 18 rfl rfl)
theorem dX0_orderOf_19 : decode cX0_orderOf 19 = .ok (.ireturn, 1) := dk_172 (dk_at dksX0_orderOf_0 19 rfl rfl)
abbrev cX0_movesOf : ByteArray := method_26_code
def yX0_movesOf : MethodName := ⟨RX0, "movesOf", "(LCourierClash;I[J)I"⟩
def dkwX0_movesOf_0 : List UInt8 := [44, 3, 42, 27, 182, 0, 90, 133, 80, 167, 0, 6, 78, 4, 172, 3, 172]
abbrev dktX0_movesOf_0 : List UInt8 := dkwX0_movesOf_0 ++ []
theorem dksX0_movesOf_0 : cX0_movesOf.data.toList.drop 0 = dktX0_movesOf_0 := by decide +kernel
theorem dX0_movesOf_0 : decode cX0_movesOf 0 = .ok (.aload_n 2, 1) := dk_44 (dk_at dksX0_movesOf_0 0 rfl rfl)
theorem dX0_movesOf_1 : decode cX0_movesOf 1 = .ok (.iconst 0, 1) := dk_3 (dk_at dksX0_movesOf_0 1 rfl rfl)
theorem dX0_movesOf_2 : decode cX0_movesOf 2 = .ok (.aload_n 0, 1) := dk_42 (dk_at dksX0_movesOf_0 2 rfl rfl)
theorem dX0_movesOf_3 : decode cX0_movesOf 3 = .ok (.iload_n 1, 1) := dk_27 (dk_at dksX0_movesOf_0 3 rfl rfl)
theorem dX0_movesOf_4 : decode cX0_movesOf 4 = .ok (.invokevirtual 90, 3) := dk_182 0 90 (dk_at dksX0_movesOf_0 4 rfl rfl)
theorem dX0_movesOf_7 : decode cX0_movesOf 7 = .ok (.i2l, 1) := dk_133 (dk_at dksX0_movesOf_0 7 rfl rfl)
theorem dX0_movesOf_8 : decode cX0_movesOf 8 = .ok (.lastore, 1) := dk_80 (dk_at dksX0_movesOf_0 8 rfl rfl)
theorem dX0_movesOf_9 : decode cX0_movesOf 9 = .ok (.goto 6, 3) := dk_167 0 6 (dk_at dksX0_movesOf_0 9 rfl rfl)
theorem dX0_movesOf_12 : decode cX0_movesOf 12 = .ok (.astore_n 3, 1) := dk_78 (dk_at dksX0_movesOf_0 12 rfl rfl)
theorem dX0_movesOf_13 : decode cX0_movesOf 13 = .ok (.iconst 1, 1) := dk_4 (dk_at dksX0_movesOf_0 13 rfl rfl)
theorem dX0_movesOf_14 : decode cX0_movesOf 14 = .ok (.ireturn, 1) := dk_172 (dk_at dksX0_movesOf_0 14 rfl rfl)
theorem dX0_movesOf_15 : decode cX0_movesOf 15 = .ok (.iconst 0, 1) := dk_3 (dk_at dksX0_movesOf_0 15 rfl rfl)
theorem dX0_movesOf_16 : decode cX0_movesOf 16 = .ok (.ireturn, 1) := dk_172 (dk_at dksX0_movesOf_0 16 rfl rfl)
abbrev cX0_outcomeOf : ByteArray := method_27_code
def yX0_outcomeOf : MethodName := ⟨RX0, "outcomeOf", "(LCourierClash;I[J)I"⟩
def dkwX0_outcomeOf_0 : List UInt8 := [44, 3, 42, 27, 182, 0, 93, 133, 80, 167, 0, 6, 78, 4, 172, 3, 172]
abbrev dktX0_outcomeOf_0 : List UInt8 := dkwX0_outcomeOf_0 ++ []
theorem dksX0_outcomeOf_0 : cX0_outcomeOf.data.toList.drop 0 = dktX0_outcomeOf_0 := by decide +kernel
theorem dX0_outcomeOf_0 : decode cX0_outcomeOf 0 = .ok (.aload_n 2, 1) := dk_44 (dk_at dksX0_outcomeOf_0 0 rfl rfl)
theorem dX0_outcomeOf_1 : decode cX0_outcomeOf 1 = .ok (.iconst 0, 1) := dk_3 (dk_at dksX0_outcomeOf_0 1 rfl rfl)
theorem dX0_outcomeOf_2 : decode cX0_outcomeOf 2 = .ok (.aload_n 0, 1) := dk_42 (dk_at dksX0_outcomeOf_0 2 rfl rfl)
theorem dX0_outcomeOf_3 : decode cX0_outcomeOf 3 = .ok (.iload_n 1, 1) := dk_27 (dk_at dksX0_outcomeOf_0 3 rfl rfl)
theorem dX0_outcomeOf_4 : decode cX0_outcomeOf 4 = .ok (.invokevirtual 93, 3) := dk_182 0 93 (dk_at dksX0_outcomeOf_0 4 rfl rfl)
theorem dX0_outcomeOf_7 : decode cX0_outcomeOf 7 = .ok (.i2l, 1) := dk_133 (dk_at dksX0_outcomeOf_0 7 rfl rfl)
theorem dX0_outcomeOf_8 : decode cX0_outcomeOf 8 = .ok (.lastore, 1) := dk_80 (dk_at dksX0_outcomeOf_0 8 rfl rfl)
theorem dX0_outcomeOf_9 : decode cX0_outcomeOf 9 = .ok (.goto 6, 3) := dk_167 0 6 (dk_at dksX0_outcomeOf_0 9 rfl rfl)
theorem dX0_outcomeOf_12 : decode cX0_outcomeOf 12 = .ok (.astore_n 3, 1) := dk_78 (dk_at dksX0_outcomeOf_0 12 rfl rfl)
theorem dX0_outcomeOf_13 : decode cX0_outcomeOf 13 = .ok (.iconst 1, 1) := dk_4 (dk_at dksX0_outcomeOf_0 13 rfl rfl)
theorem dX0_outcomeOf_14 : decode cX0_outcomeOf 14 = .ok (.ireturn, 1) := dk_172 (dk_at dksX0_outcomeOf_0 14 rfl rfl)
theorem dX0_outcomeOf_15 : decode cX0_outcomeOf 15 = .ok (.iconst 0, 1) := dk_3 (dk_at dksX0_outcomeOf_0 15 rfl rfl)
theorem dX0_outcomeOf_16 : decode cX0_outcomeOf 16 = .ok (.ireturn, 1) := dk_172 (dk_at dksX0_outcomeOf_0 16 rfl rfl)
abbrev cX0_isWaiting : ByteArray := method_28_code
def yX0_isWaiting : MethodName := ⟨RX0, "isWaiting", "(LCourierClash;I[J)I"⟩
def dkwX0_isWaiting_0 : List UInt8 := [44, 3, 42, 27, 182, 0, 96, 153, 0, 7, 10, 167, 0, 4, 9, 80, 167, 0, 6, 78, 4, 172, 3, 172]
abbrev dktX0_isWaiting_0 : List UInt8 := dkwX0_isWaiting_0 ++ []
theorem dksX0_isWaiting_0 : cX0_isWaiting.data.toList.drop 0 = dktX0_isWaiting_0 := by decide +kernel
theorem dX0_isWaiting_0 : decode cX0_isWaiting 0 = .ok (.aload_n 2, 1) := dk_44 (dk_at dksX0_isWaiting_0 0 rfl rfl)
theorem dX0_isWaiting_1 : decode cX0_isWaiting 1 = .ok (.iconst 0, 1) := dk_3 (dk_at dksX0_isWaiting_0 1 rfl rfl)
theorem dX0_isWaiting_2 : decode cX0_isWaiting 2 = .ok (.aload_n 0, 1) := dk_42 (dk_at dksX0_isWaiting_0 2 rfl rfl)
theorem dX0_isWaiting_3 : decode cX0_isWaiting 3 = .ok (.iload_n 1, 1) := dk_27 (dk_at dksX0_isWaiting_0 3 rfl rfl)
theorem dX0_isWaiting_4 : decode cX0_isWaiting 4 = .ok (.invokevirtual 96, 3) := dk_182 0 96 (dk_at dksX0_isWaiting_0 4 rfl rfl)
theorem dX0_isWaiting_7 : decode cX0_isWaiting 7 = .ok (.ifCond .eq 7, 3) := dk_153 0 7 (dk_at dksX0_isWaiting_0 7 rfl rfl)
theorem dX0_isWaiting_10 : decode cX0_isWaiting 10 = .ok (.lconst 1, 1) := dk_10 (dk_at dksX0_isWaiting_0 10 rfl rfl)
theorem dX0_isWaiting_11 : decode cX0_isWaiting 11 = .ok (.goto 4, 3) := dk_167 0 4 (dk_at dksX0_isWaiting_0 11 rfl rfl)
theorem dX0_isWaiting_14 : decode cX0_isWaiting 14 = .ok (.lconst 0, 1) := dk_9 (dk_at dksX0_isWaiting_0 14 rfl rfl)
theorem dX0_isWaiting_15 : decode cX0_isWaiting 15 = .ok (.lastore, 1) := dk_80 (dk_at dksX0_isWaiting_0 15 rfl rfl)
theorem dX0_isWaiting_16 : decode cX0_isWaiting 16 = .ok (.goto 6, 3) := dk_167 0 6 (dk_at dksX0_isWaiting_0 16 rfl rfl)
theorem dX0_isWaiting_19 : decode cX0_isWaiting 19 = .ok (.astore_n 3, 1) := dk_78 (dk_at dksX0_isWaiting_0 19 rfl rfl)
theorem dX0_isWaiting_20 : decode cX0_isWaiting 20 = .ok (.iconst 1, 1) := dk_4 (dk_at dksX0_isWaiting_0 20 rfl rfl)
theorem dX0_isWaiting_21 : decode cX0_isWaiting 21 = .ok (.ireturn, 1) := dk_172 (dk_at dksX0_isWaiting_0 21 rfl rfl)
theorem dX0_isWaiting_22 : decode cX0_isWaiting 22 = .ok (.iconst 0, 1) := dk_3 (dk_at dksX0_isWaiting_0 22 rfl rfl)
theorem dX0_isWaiting_23 : decode cX0_isWaiting 23 = .ok (.ireturn, 1) := dk_172 (dk_at dksX0_isWaiting_0 23 rfl rfl)
abbrev cX0_isDelivered : ByteArray := method_29_code
def yX0_isDelivered : MethodName := ⟨RX0, "isDelivered", "(LCourierClash;I[J)I"⟩
def dkwX0_isDelivered_0 : List UInt8 := [44, 3, 42, 27, 182, 0, 99, 153, 0, 7, 10, 167, 0, 4, 9, 80, 167, 0, 6, 78, 4, 172, 3, 172]
abbrev dktX0_isDelivered_0 : List UInt8 := dkwX0_isDelivered_0 ++ []
theorem dksX0_isDelivered_0 : cX0_isDelivered.data.toList.drop 0 = dktX0_isDelivered_0 := by decide +kernel
theorem dX0_isDelivered_0 : decode cX0_isDelivered 0 = .ok (.aload_n 2, 1) := dk_44 (dk_at dksX0_isDelivered_0 0 rfl rfl)
theorem dX0_isDelivered_1 : decode cX0_isDelivered 1 = .ok (.iconst 0, 1) := dk_3 (dk_at dksX0_isDelivered_0 1 rfl rfl)
theorem dX0_isDelivered_2 : decode cX0_isDelivered 2 = .ok (.aload_n 0, 1) := dk_42 (dk_at dksX0_isDelivered_0 2 rfl rfl)
theorem dX0_isDelivered_3 : decode cX0_isDelivered 3 = .ok (.iload_n 1, 1) := dk_27 (dk_at dksX0_isDelivered_0 3 rfl rfl)
theorem dX0_isDelivered_4 : decode cX0_isDelivered 4 = .ok (.invokevirtual 99, 3) := dk_182 0 99 (dk_at dksX0_isDelivered_0 4 rfl rfl)
theorem dX0_isDelivered_7 : decode cX0_isDelivered 7 = .ok (.ifCond .eq 7, 3) := dk_153 0 7 (dk_at dksX0_isDelivered_0 7 rfl rfl)
theorem dX0_isDelivered_10 : decode cX0_isDelivered 10 = .ok (.lconst 1, 1) := dk_10 (dk_at dksX0_isDelivered_0 10 rfl rfl)
theorem dX0_isDelivered_11 : decode cX0_isDelivered 11 = .ok (.goto 4, 3) := dk_167 0 4 (dk_at dksX0_isDelivered_0 11 rfl rfl)
theorem dX0_isDelivered_14 : decode cX0_isDelivered 14 = .ok (.lconst 0, 1) := dk_9 (dk_at dksX0_isDelivered_0 14 rfl rfl)
theorem dX0_isDelivered_15 : decode cX0_isDelivered 15 = .ok (.lastore, 1) := dk_80 (dk_at dksX0_isDelivered_0 15 rfl rfl)
theorem dX0_isDelivered_16 : decode cX0_isDelivered 16 = .ok (.goto 6, 3) := dk_167 0 6 (dk_at dksX0_isDelivered_0 16 rfl rfl)
theorem dX0_isDelivered_19 : decode cX0_isDelivered 19 = .ok (.astore_n 3, 1) := dk_78 (dk_at dksX0_isDelivered_0 19 rfl rfl)
theorem dX0_isDelivered_20 : decode cX0_isDelivered 20 = .ok (.iconst 1, 1) := dk_4 (dk_at dksX0_isDelivered_0 20 rfl rfl)
theorem dX0_isDelivered_21 : decode cX0_isDelivered 21 = .ok (.ireturn, 1) := dk_172 (dk_at dksX0_isDelivered_0 21 rfl rfl)
theorem dX0_isDelivered_22 : decode cX0_isDelivered 22 = .ok (.iconst 0, 1) := dk_3 (dk_at dksX0_isDelivered_0 22 rfl rfl)
theorem dX0_isDelivered_23 : decode cX0_isDelivered 23 = .ok (.ireturn, 1) := dk_172 (dk_at dksX0_isDelivered_0 23 rfl rfl)
abbrev cX0_courierOf : ByteArray := method_30_code
def yX0_courierOf : MethodName := ⟨RX0, "courierOf", "(LCourierClash;I[J)I"⟩
def dkwX0_courierOf_0 : List UInt8 := [44, 3, 42, 27, 182, 0, 102, 133, 80, 167, 0, 9, 78, 4, 172, 78, 5, 172, 3, 172]
abbrev dktX0_courierOf_0 : List UInt8 := dkwX0_courierOf_0 ++ []
theorem dksX0_courierOf_0 : cX0_courierOf.data.toList.drop 0 = dktX0_courierOf_0 := by decide +kernel
theorem dX0_courierOf_0 : decode cX0_courierOf 0 = .ok (.aload_n 2, 1) := dk_44 (dk_at dksX0_courierOf_0 0 rfl rfl)
theorem dX0_courierOf_1 : decode cX0_courierOf 1 = .ok (.iconst 0, 1) := dk_3 (dk_at dksX0_courierOf_0 1 rfl rfl)
theorem dX0_courierOf_2 : decode cX0_courierOf 2 = .ok (.aload_n 0, 1) := dk_42 (dk_at dksX0_courierOf_0 2 rfl rfl)
theorem dX0_courierOf_3 : decode cX0_courierOf 3 = .ok (.iload_n 1, 1) := dk_27 (dk_at dksX0_courierOf_0 3 rfl rfl)
theorem dX0_courierOf_4 : decode cX0_courierOf 4 = .ok (.invokevirtual 102, 3) := dk_182 0 102 (dk_at dksX0_courierOf_0 4 rfl rfl)
theorem dX0_courierOf_7 : decode cX0_courierOf 7 = .ok (.i2l, 1) := dk_133 (dk_at dksX0_courierOf_0 7 rfl rfl)
theorem dX0_courierOf_8 : decode cX0_courierOf 8 = .ok (.lastore, 1) := dk_80 (dk_at dksX0_courierOf_0 8 rfl rfl)
theorem dX0_courierOf_9 : decode cX0_courierOf 9 = .ok (.goto 9, 3) := dk_167 0 9 (dk_at dksX0_courierOf_0 9 rfl rfl)
theorem dX0_courierOf_12 : decode cX0_courierOf 12 = .ok (.astore_n 3, 1) := dk_78 (dk_at dksX0_courierOf_0 12 rfl rfl)
theorem dX0_courierOf_13 : decode cX0_courierOf 13 = .ok (.iconst 1, 1) := dk_4 (dk_at dksX0_courierOf_0 13 rfl rfl)
theorem dX0_courierOf_14 : decode cX0_courierOf 14 = .ok (.ireturn, 1) := dk_172 (dk_at dksX0_courierOf_0 14 rfl rfl)
theorem dX0_courierOf_15 : decode cX0_courierOf 15 = .ok (.astore_n 3, 1) := dk_78 (dk_at dksX0_courierOf_0 15 rfl rfl)
theorem dX0_courierOf_16 : decode cX0_courierOf 16 = .ok (.iconst 2, 1) := dk_5 (dk_at dksX0_courierOf_0 16 rfl rfl)
theorem dX0_courierOf_17 : decode cX0_courierOf 17 = .ok (.ireturn, 1) := dk_172 (dk_at dksX0_courierOf_0 17 rfl rfl)
theorem dX0_courierOf_18 : decode cX0_courierOf 18 = .ok (.iconst 0, 1) := dk_3 (dk_at dksX0_courierOf_0 18 rfl rfl)
theorem dX0_courierOf_19 : decode cX0_courierOf 19 = .ok (.ireturn, 1) := dk_172 (dk_at dksX0_courierOf_0 19 rfl rfl)
abbrev cX0_placeOf : ByteArray := method_31_code
def yX0_placeOf : MethodName := ⟨RX0, "placeOf", "(LCourierClash;I[J)I"⟩
def dkwX0_placeOf_0 : List UInt8 := [44, 3, 42, 27, 182, 0, 105, 133, 80, 167, 0, 6, 78, 4, 172, 3, 172]
abbrev dktX0_placeOf_0 : List UInt8 := dkwX0_placeOf_0 ++ []
theorem dksX0_placeOf_0 : cX0_placeOf.data.toList.drop 0 = dktX0_placeOf_0 := by decide +kernel
theorem dX0_placeOf_0 : decode cX0_placeOf 0 = .ok (.aload_n 2, 1) := dk_44 (dk_at dksX0_placeOf_0 0 rfl rfl)
theorem dX0_placeOf_1 : decode cX0_placeOf 1 = .ok (.iconst 0, 1) := dk_3 (dk_at dksX0_placeOf_0 1 rfl rfl)
theorem dX0_placeOf_2 : decode cX0_placeOf 2 = .ok (.aload_n 0, 1) := dk_42 (dk_at dksX0_placeOf_0 2 rfl rfl)
theorem dX0_placeOf_3 : decode cX0_placeOf 3 = .ok (.iload_n 1, 1) := dk_27 (dk_at dksX0_placeOf_0 3 rfl rfl)
theorem dX0_placeOf_4 : decode cX0_placeOf 4 = .ok (.invokevirtual 105, 3) := dk_182 0 105 (dk_at dksX0_placeOf_0 4 rfl rfl)
theorem dX0_placeOf_7 : decode cX0_placeOf 7 = .ok (.i2l, 1) := dk_133 (dk_at dksX0_placeOf_0 7 rfl rfl)
theorem dX0_placeOf_8 : decode cX0_placeOf 8 = .ok (.lastore, 1) := dk_80 (dk_at dksX0_placeOf_0 8 rfl rfl)
theorem dX0_placeOf_9 : decode cX0_placeOf 9 = .ok (.goto 6, 3) := dk_167 0 6 (dk_at dksX0_placeOf_0 9 rfl rfl)
theorem dX0_placeOf_12 : decode cX0_placeOf 12 = .ok (.astore_n 3, 1) := dk_78 (dk_at dksX0_placeOf_0 12 rfl rfl)
theorem dX0_placeOf_13 : decode cX0_placeOf 13 = .ok (.iconst 1, 1) := dk_4 (dk_at dksX0_placeOf_0 13 rfl rfl)
theorem dX0_placeOf_14 : decode cX0_placeOf 14 = .ok (.ireturn, 1) := dk_172 (dk_at dksX0_placeOf_0 14 rfl rfl)
theorem dX0_placeOf_15 : decode cX0_placeOf 15 = .ok (.iconst 0, 1) := dk_3 (dk_at dksX0_placeOf_0 15 rfl rfl)
theorem dX0_placeOf_16 : decode cX0_placeOf 16 = .ok (.ireturn, 1) := dk_172 (dk_at dksX0_placeOf_0 16 rfl rfl)
abbrev cX0_pointsOf : ByteArray := method_32_code
def yX0_pointsOf : MethodName := ⟨RX0, "pointsOf", "(LCourierClash;I[J)I"⟩
def dkwX0_pointsOf_0 : List UInt8 := [44, 3, 42, 27, 182, 0, 108, 133, 80, 167, 0, 6, 78, 4, 172, 3, 172]
abbrev dktX0_pointsOf_0 : List UInt8 := dkwX0_pointsOf_0 ++ []
theorem dksX0_pointsOf_0 : cX0_pointsOf.data.toList.drop 0 = dktX0_pointsOf_0 := by decide +kernel
theorem dX0_pointsOf_0 : decode cX0_pointsOf 0 = .ok (.aload_n 2, 1) := dk_44 (dk_at dksX0_pointsOf_0 0 rfl rfl)
theorem dX0_pointsOf_1 : decode cX0_pointsOf 1 = .ok (.iconst 0, 1) := dk_3 (dk_at dksX0_pointsOf_0 1 rfl rfl)
theorem dX0_pointsOf_2 : decode cX0_pointsOf 2 = .ok (.aload_n 0, 1) := dk_42 (dk_at dksX0_pointsOf_0 2 rfl rfl)
theorem dX0_pointsOf_3 : decode cX0_pointsOf 3 = .ok (.iload_n 1, 1) := dk_27 (dk_at dksX0_pointsOf_0 3 rfl rfl)
theorem dX0_pointsOf_4 : decode cX0_pointsOf 4 = .ok (.invokevirtual 108, 3) := dk_182 0 108 (dk_at dksX0_pointsOf_0 4 rfl rfl)
theorem dX0_pointsOf_7 : decode cX0_pointsOf 7 = .ok (.i2l, 1) := dk_133 (dk_at dksX0_pointsOf_0 7 rfl rfl)
theorem dX0_pointsOf_8 : decode cX0_pointsOf 8 = .ok (.lastore, 1) := dk_80 (dk_at dksX0_pointsOf_0 8 rfl rfl)
theorem dX0_pointsOf_9 : decode cX0_pointsOf 9 = .ok (.goto 6, 3) := dk_167 0 6 (dk_at dksX0_pointsOf_0 9 rfl rfl)
theorem dX0_pointsOf_12 : decode cX0_pointsOf 12 = .ok (.astore_n 3, 1) := dk_78 (dk_at dksX0_pointsOf_0 12 rfl rfl)
theorem dX0_pointsOf_13 : decode cX0_pointsOf 13 = .ok (.iconst 1, 1) := dk_4 (dk_at dksX0_pointsOf_0 13 rfl rfl)
theorem dX0_pointsOf_14 : decode cX0_pointsOf 14 = .ok (.ireturn, 1) := dk_172 (dk_at dksX0_pointsOf_0 14 rfl rfl)
theorem dX0_pointsOf_15 : decode cX0_pointsOf 15 = .ok (.iconst 0, 1) := dk_3 (dk_at dksX0_pointsOf_0 15 rfl rfl)
theorem dX0_pointsOf_16 : decode cX0_pointsOf 16 = .ok (.ireturn, 1) := dk_172 (dk_at dksX0_pointsOf_0 16 rfl rfl)
abbrev cX0_pointsByParcels : ByteArray := method_33_code
def yX0_pointsByParcels : MethodName := ⟨RX0, "pointsByParcels", "(LCourierClash;I[J)I"⟩
def dkwX0_pointsByParcels_0 : List UInt8 := [44, 3, 42, 27, 182, 0, 111, 133, 80, 167, 0, 6, 78, 4, 172, 3, 172]
abbrev dktX0_pointsByParcels_0 : List UInt8 := dkwX0_pointsByParcels_0 ++ []
theorem dksX0_pointsByParcels_0 : cX0_pointsByParcels.data.toList.drop 0 = dktX0_pointsByParcels_0 := by decide +kernel
theorem dX0_pointsByParcels_0 : decode cX0_pointsByParcels 0 = .ok (.aload_n 2, 1) := dk_44 (dk_at dksX0_pointsByParcels_0 0 rfl rfl)
theorem dX0_pointsByParcels_1 : decode cX0_pointsByParcels 1 = .ok (.iconst 0, 1) := dk_3 (dk_at dksX0_pointsByParcels_0 1 rfl rfl)
theorem dX0_pointsByParcels_2 : decode cX0_pointsByParcels 2 = .ok (.aload_n 0, 1) := dk_42 (dk_at dksX0_pointsByParcels_0 2 rfl rfl)
theorem dX0_pointsByParcels_3 : decode cX0_pointsByParcels 3 = .ok (.iload_n 1, 1) := dk_27 (dk_at dksX0_pointsByParcels_0 3 rfl rfl)
theorem dX0_pointsByParcels_4 : decode cX0_pointsByParcels 4 = .ok (.invokevirtual 111, 3) := dk_182 0 111 (dk_at dksX0_pointsByParcels_0 4 rfl rfl)
theorem dX0_pointsByParcels_7 : decode cX0_pointsByParcels 7 = .ok (.i2l, 1) := dk_133 (dk_at dksX0_pointsByParcels_0 7 rfl rfl)
theorem dX0_pointsByParcels_8 : decode cX0_pointsByParcels 8 = .ok (.lastore, 1) := dk_80 (dk_at dksX0_pointsByParcels_0 8 rfl rfl)
theorem dX0_pointsByParcels_9 : decode cX0_pointsByParcels 9 = .ok (.goto 6, 3) := dk_167 0 6 (dk_at dksX0_pointsByParcels_0 9 rfl rfl)
theorem dX0_pointsByParcels_12 : decode cX0_pointsByParcels 12 = .ok (.astore_n 3, 1) := dk_78 (dk_at dksX0_pointsByParcels_0 12 rfl rfl)
theorem dX0_pointsByParcels_13 : decode cX0_pointsByParcels 13 = .ok (.iconst 1, 1) := dk_4 (dk_at dksX0_pointsByParcels_0 13 rfl rfl)
theorem dX0_pointsByParcels_14 : decode cX0_pointsByParcels 14 = .ok (.ireturn, 1) := dk_172 (dk_at dksX0_pointsByParcels_0 14 rfl rfl)
theorem dX0_pointsByParcels_15 : decode cX0_pointsByParcels 15 = .ok (.iconst 0, 1) := dk_3 (dk_at dksX0_pointsByParcels_0 15 rfl rfl)
theorem dX0_pointsByParcels_16 : decode cX0_pointsByParcels 16 = .ok (.ireturn, 1) := dk_172 (dk_at dksX0_pointsByParcels_0 16 rfl rfl)
abbrev cX0_reach : ByteArray := method_34_code
def yX0_reach : MethodName := ⟨RX0, "reach", "(LCourierClash;I[J)I"⟩
def dkwX0_reach_0 : List UInt8 := [44, 3, 42, 27, 182, 0, 114, 133, 80, 167, 0, 6, 78, 4, 172, 3, 172]
abbrev dktX0_reach_0 : List UInt8 := dkwX0_reach_0 ++ []
theorem dksX0_reach_0 : cX0_reach.data.toList.drop 0 = dktX0_reach_0 := by decide +kernel
theorem dX0_reach_0 : decode cX0_reach 0 = .ok (.aload_n 2, 1) := dk_44 (dk_at dksX0_reach_0 0 rfl rfl)
theorem dX0_reach_1 : decode cX0_reach 1 = .ok (.iconst 0, 1) := dk_3 (dk_at dksX0_reach_0 1 rfl rfl)
theorem dX0_reach_2 : decode cX0_reach 2 = .ok (.aload_n 0, 1) := dk_42 (dk_at dksX0_reach_0 2 rfl rfl)
theorem dX0_reach_3 : decode cX0_reach 3 = .ok (.iload_n 1, 1) := dk_27 (dk_at dksX0_reach_0 3 rfl rfl)
theorem dX0_reach_4 : decode cX0_reach 4 = .ok (.invokevirtual 114, 3) := dk_182 0 114 (dk_at dksX0_reach_0 4 rfl rfl)
theorem dX0_reach_7 : decode cX0_reach 7 = .ok (.i2l, 1) := dk_133 (dk_at dksX0_reach_0 7 rfl rfl)
theorem dX0_reach_8 : decode cX0_reach 8 = .ok (.lastore, 1) := dk_80 (dk_at dksX0_reach_0 8 rfl rfl)
theorem dX0_reach_9 : decode cX0_reach 9 = .ok (.goto 6, 3) := dk_167 0 6 (dk_at dksX0_reach_0 9 rfl rfl)
theorem dX0_reach_12 : decode cX0_reach 12 = .ok (.astore_n 3, 1) := dk_78 (dk_at dksX0_reach_0 12 rfl rfl)
theorem dX0_reach_13 : decode cX0_reach 13 = .ok (.iconst 1, 1) := dk_4 (dk_at dksX0_reach_0 13 rfl rfl)
theorem dX0_reach_14 : decode cX0_reach 14 = .ok (.ireturn, 1) := dk_172 (dk_at dksX0_reach_0 14 rfl rfl)
theorem dX0_reach_15 : decode cX0_reach 15 = .ok (.iconst 0, 1) := dk_3 (dk_at dksX0_reach_0 15 rfl rfl)
theorem dX0_reach_16 : decode cX0_reach 16 = .ok (.ireturn, 1) := dk_172 (dk_at dksX0_reach_0 16 rfl rfl)
abbrev cX0_reachByJoining : ByteArray := method_35_code
def yX0_reachByJoining : MethodName := ⟨RX0, "reachByJoining", "(LCourierClash;I[J)I"⟩
def dkwX0_reachByJoining_0 : List UInt8 := [44, 3, 42, 27, 182, 0, 117, 133, 80, 167, 0, 6, 78, 4, 172, 3, 172]
abbrev dktX0_reachByJoining_0 : List UInt8 := dkwX0_reachByJoining_0 ++ []
theorem dksX0_reachByJoining_0 : cX0_reachByJoining.data.toList.drop 0 = dktX0_reachByJoining_0 := by decide +kernel
theorem dX0_reachByJoining_0 : decode cX0_reachByJoining 0 = .ok (.aload_n 2, 1) := dk_44 (dk_at dksX0_reachByJoining_0 0 rfl rfl)
theorem dX0_reachByJoining_1 : decode cX0_reachByJoining 1 = .ok (.iconst 0, 1) := dk_3 (dk_at dksX0_reachByJoining_0 1 rfl rfl)
theorem dX0_reachByJoining_2 : decode cX0_reachByJoining 2 = .ok (.aload_n 0, 1) := dk_42 (dk_at dksX0_reachByJoining_0 2 rfl rfl)
theorem dX0_reachByJoining_3 : decode cX0_reachByJoining 3 = .ok (.iload_n 1, 1) := dk_27 (dk_at dksX0_reachByJoining_0 3 rfl rfl)
theorem dX0_reachByJoining_4 : decode cX0_reachByJoining 4 = .ok (.invokevirtual 117, 3) := dk_182 0 117 (dk_at dksX0_reachByJoining_0 4 rfl rfl)
theorem dX0_reachByJoining_7 : decode cX0_reachByJoining 7 = .ok (.i2l, 1) := dk_133 (dk_at dksX0_reachByJoining_0 7 rfl rfl)
theorem dX0_reachByJoining_8 : decode cX0_reachByJoining 8 = .ok (.lastore, 1) := dk_80 (dk_at dksX0_reachByJoining_0 8 rfl rfl)
theorem dX0_reachByJoining_9 : decode cX0_reachByJoining 9 = .ok (.goto 6, 3) := dk_167 0 6 (dk_at dksX0_reachByJoining_0 9 rfl rfl)
theorem dX0_reachByJoining_12 : decode cX0_reachByJoining 12 = .ok (.astore_n 3, 1) := dk_78 (dk_at dksX0_reachByJoining_0 12 rfl rfl)
theorem dX0_reachByJoining_13 : decode cX0_reachByJoining 13 = .ok (.iconst 1, 1) := dk_4 (dk_at dksX0_reachByJoining_0 13 rfl rfl)
theorem dX0_reachByJoining_14 : decode cX0_reachByJoining 14 = .ok (.ireturn, 1) := dk_172 (dk_at dksX0_reachByJoining_0 14 rfl rfl)
theorem dX0_reachByJoining_15 : decode cX0_reachByJoining 15 = .ok (.iconst 0, 1) := dk_3 (dk_at dksX0_reachByJoining_0 15 rfl rfl)
theorem dX0_reachByJoining_16 : decode cX0_reachByJoining 16 = .ok (.ireturn, 1) := dk_172 (dk_at dksX0_reachByJoining_0 16 rfl rfl)
abbrev cX0_distance : ByteArray := method_36_code
def yX0_distance : MethodName := ⟨RX0, "distance", "(LCourierClash;II[J)I"⟩
def dkwX0_distance_0 : List UInt8 := [45, 3, 42, 27, 28, 182, 0, 120, 133, 80, 167, 0, 7, 58, 4, 4, 172, 3, 172]
abbrev dktX0_distance_0 : List UInt8 := dkwX0_distance_0 ++ []
theorem dksX0_distance_0 : cX0_distance.data.toList.drop 0 = dktX0_distance_0 := by decide +kernel
theorem dX0_distance_0 : decode cX0_distance 0 = .ok (.aload_n 3, 1) := dk_45 (dk_at dksX0_distance_0 0 rfl rfl)
theorem dX0_distance_1 : decode cX0_distance 1 = .ok (.iconst 0, 1) := dk_3 (dk_at dksX0_distance_0 1 rfl rfl)
theorem dX0_distance_2 : decode cX0_distance 2 = .ok (.aload_n 0, 1) := dk_42 (dk_at dksX0_distance_0 2 rfl rfl)
theorem dX0_distance_3 : decode cX0_distance 3 = .ok (.iload_n 1, 1) := dk_27 (dk_at dksX0_distance_0 3 rfl rfl)
theorem dX0_distance_4 : decode cX0_distance 4 = .ok (.iload_n 2, 1) := dk_28 (dk_at dksX0_distance_0 4 rfl rfl)
theorem dX0_distance_5 : decode cX0_distance 5 = .ok (.invokevirtual 120, 3) := dk_182 0 120 (dk_at dksX0_distance_0 5 rfl rfl)
theorem dX0_distance_8 : decode cX0_distance 8 = .ok (.i2l, 1) := dk_133 (dk_at dksX0_distance_0 8 rfl rfl)
theorem dX0_distance_9 : decode cX0_distance 9 = .ok (.lastore, 1) := dk_80 (dk_at dksX0_distance_0 9 rfl rfl)
theorem dX0_distance_10 : decode cX0_distance 10 = .ok (.goto 7, 3) := dk_167 0 7 (dk_at dksX0_distance_0 10 rfl rfl)
theorem dX0_distance_13 : decode cX0_distance 13 = .ok (.astore 4, 2) := dk_58 4 (dk_at dksX0_distance_0 13 rfl rfl)
theorem dX0_distance_15 : decode cX0_distance 15 = .ok (.iconst 1, 1) := dk_4 (dk_at dksX0_distance_0 15 rfl rfl)
theorem dX0_distance_16 : decode cX0_distance 16 = .ok (.ireturn, 1) := dk_172 (dk_at dksX0_distance_0 16 rfl rfl)
theorem dX0_distance_17 : decode cX0_distance 17 = .ok (.iconst 0, 1) := dk_3 (dk_at dksX0_distance_0 17 rfl rfl)
theorem dX0_distance_18 : decode cX0_distance 18 = .ok (.ireturn, 1) := dk_172 (dk_at dksX0_distance_0 18 rfl rfl)
abbrev cX0_nextStreet : ByteArray := method_37_code
def yX0_nextStreet : MethodName := ⟨RX0, "nextStreet", "(LCourierClash;II[J)I"⟩
def dkwX0_nextStreet_0 : List UInt8 := [45, 3, 42, 27, 28, 182, 0, 123, 133, 80, 167, 0, 11, 58, 4, 4, 172, 58, 4, 5, 172, 3, 172]
abbrev dktX0_nextStreet_0 : List UInt8 := dkwX0_nextStreet_0 ++ []
theorem dksX0_nextStreet_0 : cX0_nextStreet.data.toList.drop 0 = dktX0_nextStreet_0 := by decide +kernel
theorem dX0_nextStreet_0 : decode cX0_nextStreet 0 = .ok (.aload_n 3, 1) := dk_45 (dk_at dksX0_nextStreet_0 0 rfl rfl)
theorem dX0_nextStreet_1 : decode cX0_nextStreet 1 = .ok (.iconst 0, 1) := dk_3 (dk_at dksX0_nextStreet_0 1 rfl rfl)
theorem dX0_nextStreet_2 : decode cX0_nextStreet 2 = .ok (.aload_n 0, 1) := dk_42 (dk_at dksX0_nextStreet_0 2 rfl rfl)
theorem dX0_nextStreet_3 : decode cX0_nextStreet 3 = .ok (.iload_n 1, 1) := dk_27 (dk_at dksX0_nextStreet_0 3 rfl rfl)
theorem dX0_nextStreet_4 : decode cX0_nextStreet 4 = .ok (.iload_n 2, 1) := dk_28 (dk_at dksX0_nextStreet_0 4 rfl rfl)
theorem dX0_nextStreet_5 : decode cX0_nextStreet 5 = .ok (.invokevirtual 123, 3) := dk_182 0 123 (dk_at dksX0_nextStreet_0 5 rfl rfl)
theorem dX0_nextStreet_8 : decode cX0_nextStreet 8 = .ok (.i2l, 1) := dk_133 (dk_at dksX0_nextStreet_0 8 rfl rfl)
theorem dX0_nextStreet_9 : decode cX0_nextStreet 9 = .ok (.lastore, 1) := dk_80 (dk_at dksX0_nextStreet_0 9 rfl rfl)
theorem dX0_nextStreet_10 : decode cX0_nextStreet 10 = .ok (.goto 11, 3) := dk_167 0 11 (dk_at dksX0_nextStreet_0 10 rfl rfl)
theorem dX0_nextStreet_13 : decode cX0_nextStreet 13 = .ok (.astore 4, 2) := dk_58 4 (dk_at dksX0_nextStreet_0 13 rfl rfl)
theorem dX0_nextStreet_15 : decode cX0_nextStreet 15 = .ok (.iconst 1, 1) := dk_4 (dk_at dksX0_nextStreet_0 15 rfl rfl)
theorem dX0_nextStreet_16 : decode cX0_nextStreet 16 = .ok (.ireturn, 1) := dk_172 (dk_at dksX0_nextStreet_0 16 rfl rfl)
theorem dX0_nextStreet_17 : decode cX0_nextStreet 17 = .ok (.astore 4, 2) := dk_58 4 (dk_at dksX0_nextStreet_0 17 rfl rfl)
theorem dX0_nextStreet_19 : decode cX0_nextStreet 19 = .ok (.iconst 2, 1) := dk_5 (dk_at dksX0_nextStreet_0 19 rfl rfl)
theorem dX0_nextStreet_20 : decode cX0_nextStreet 20 = .ok (.ireturn, 1) := dk_172 (dk_at dksX0_nextStreet_0 20 rfl rfl)
theorem dX0_nextStreet_21 : decode cX0_nextStreet 21 = .ok (.iconst 0, 1) := dk_3 (dk_at dksX0_nextStreet_0 21 rfl rfl)
theorem dX0_nextStreet_22 : decode cX0_nextStreet 22 = .ok (.ireturn, 1) := dk_172 (dk_at dksX0_nextStreet_0 22 rfl rfl)
abbrev cX0_bestParcel : ByteArray := method_38_code
def yX0_bestParcel : MethodName := ⟨RX0, "bestParcel", "(LCourierClash;I[J)I"⟩
def dkwX0_bestParcel_0 : List UInt8 := [44, 3, 42, 27, 182, 0, 126, 133, 80, 167, 0, 9, 78, 4, 172, 78, 5, 172, 3, 172]
abbrev dktX0_bestParcel_0 : List UInt8 := dkwX0_bestParcel_0 ++ []
theorem dksX0_bestParcel_0 : cX0_bestParcel.data.toList.drop 0 = dktX0_bestParcel_0 := by decide +kernel
theorem dX0_bestParcel_0 : decode cX0_bestParcel 0 = .ok (.aload_n 2, 1) := dk_44 (dk_at dksX0_bestParcel_0 0 rfl rfl)
theorem dX0_bestParcel_1 : decode cX0_bestParcel 1 = .ok (.iconst 0, 1) := dk_3 (dk_at dksX0_bestParcel_0 1 rfl rfl)
theorem dX0_bestParcel_2 : decode cX0_bestParcel 2 = .ok (.aload_n 0, 1) := dk_42 (dk_at dksX0_bestParcel_0 2 rfl rfl)
theorem dX0_bestParcel_3 : decode cX0_bestParcel 3 = .ok (.iload_n 1, 1) := dk_27 (dk_at dksX0_bestParcel_0 3 rfl rfl)
theorem dX0_bestParcel_4 : decode cX0_bestParcel 4 = .ok (.invokevirtual 126, 3) := dk_182 0 126 (dk_at dksX0_bestParcel_0 4 rfl rfl)
theorem dX0_bestParcel_7 : decode cX0_bestParcel 7 = .ok (.i2l, 1) := dk_133 (dk_at dksX0_bestParcel_0 7 rfl rfl)
theorem dX0_bestParcel_8 : decode cX0_bestParcel 8 = .ok (.lastore, 1) := dk_80 (dk_at dksX0_bestParcel_0 8 rfl rfl)
theorem dX0_bestParcel_9 : decode cX0_bestParcel 9 = .ok (.goto 9, 3) := dk_167 0 9 (dk_at dksX0_bestParcel_0 9 rfl rfl)
theorem dX0_bestParcel_12 : decode cX0_bestParcel 12 = .ok (.astore_n 3, 1) := dk_78 (dk_at dksX0_bestParcel_0 12 rfl rfl)
theorem dX0_bestParcel_13 : decode cX0_bestParcel 13 = .ok (.iconst 1, 1) := dk_4 (dk_at dksX0_bestParcel_0 13 rfl rfl)
theorem dX0_bestParcel_14 : decode cX0_bestParcel 14 = .ok (.ireturn, 1) := dk_172 (dk_at dksX0_bestParcel_0 14 rfl rfl)
theorem dX0_bestParcel_15 : decode cX0_bestParcel 15 = .ok (.astore_n 3, 1) := dk_78 (dk_at dksX0_bestParcel_0 15 rfl rfl)
theorem dX0_bestParcel_16 : decode cX0_bestParcel 16 = .ok (.iconst 2, 1) := dk_5 (dk_at dksX0_bestParcel_0 16 rfl rfl)
theorem dX0_bestParcel_17 : decode cX0_bestParcel 17 = .ok (.ireturn, 1) := dk_172 (dk_at dksX0_bestParcel_0 17 rfl rfl)
theorem dX0_bestParcel_18 : decode cX0_bestParcel 18 = .ok (.iconst 0, 1) := dk_3 (dk_at dksX0_bestParcel_0 18 rfl rfl)
theorem dX0_bestParcel_19 : decode cX0_bestParcel 19 = .ok (.ireturn, 1) := dk_172 (dk_at dksX0_bestParcel_0 19 rfl rfl)
abbrev cX0_whyNoOrder : ByteArray := method_39_code
def yX0_whyNoOrder : MethodName := ⟨RX0, "whyNoOrder", "(LCourierClash;II[J)I"⟩
def dkwX0_whyNoOrder_0 : List UInt8 := [45, 3, 42, 27, 28, 182, 0, 129, 133, 80, 167, 0, 7, 58, 4, 4, 172, 3, 172]
abbrev dktX0_whyNoOrder_0 : List UInt8 := dkwX0_whyNoOrder_0 ++ []
theorem dksX0_whyNoOrder_0 : cX0_whyNoOrder.data.toList.drop 0 = dktX0_whyNoOrder_0 := by decide +kernel
theorem dX0_whyNoOrder_0 : decode cX0_whyNoOrder 0 = .ok (.aload_n 3, 1) := dk_45 (dk_at dksX0_whyNoOrder_0 0 rfl rfl)
theorem dX0_whyNoOrder_1 : decode cX0_whyNoOrder 1 = .ok (.iconst 0, 1) := dk_3 (dk_at dksX0_whyNoOrder_0 1 rfl rfl)
theorem dX0_whyNoOrder_2 : decode cX0_whyNoOrder 2 = .ok (.aload_n 0, 1) := dk_42 (dk_at dksX0_whyNoOrder_0 2 rfl rfl)
theorem dX0_whyNoOrder_3 : decode cX0_whyNoOrder 3 = .ok (.iload_n 1, 1) := dk_27 (dk_at dksX0_whyNoOrder_0 3 rfl rfl)
theorem dX0_whyNoOrder_4 : decode cX0_whyNoOrder 4 = .ok (.iload_n 2, 1) := dk_28 (dk_at dksX0_whyNoOrder_0 4 rfl rfl)
theorem dX0_whyNoOrder_5 : decode cX0_whyNoOrder 5 = .ok (.invokevirtual 129, 3) := dk_182 0 129 (dk_at dksX0_whyNoOrder_0 5 rfl rfl)
theorem dX0_whyNoOrder_8 : decode cX0_whyNoOrder 8 = .ok (.i2l, 1) := dk_133 (dk_at dksX0_whyNoOrder_0 8 rfl rfl)
theorem dX0_whyNoOrder_9 : decode cX0_whyNoOrder 9 = .ok (.lastore, 1) := dk_80 (dk_at dksX0_whyNoOrder_0 9 rfl rfl)
theorem dX0_whyNoOrder_10 : decode cX0_whyNoOrder 10 = .ok (.goto 7, 3) := dk_167 0 7 (dk_at dksX0_whyNoOrder_0 10 rfl rfl)
theorem dX0_whyNoOrder_13 : decode cX0_whyNoOrder 13 = .ok (.astore 4, 2) := dk_58 4 (dk_at dksX0_whyNoOrder_0 13 rfl rfl)
theorem dX0_whyNoOrder_15 : decode cX0_whyNoOrder 15 = .ok (.iconst 1, 1) := dk_4 (dk_at dksX0_whyNoOrder_0 15 rfl rfl)
theorem dX0_whyNoOrder_16 : decode cX0_whyNoOrder 16 = .ok (.ireturn, 1) := dk_172 (dk_at dksX0_whyNoOrder_0 16 rfl rfl)
theorem dX0_whyNoOrder_17 : decode cX0_whyNoOrder 17 = .ok (.iconst 0, 1) := dk_3 (dk_at dksX0_whyNoOrder_0 17 rfl rfl)
theorem dX0_whyNoOrder_18 : decode cX0_whyNoOrder 18 = .ok (.ireturn, 1) := dk_172 (dk_at dksX0_whyNoOrder_0 18 rfl rfl)
abbrev cX0_wouldGo : ByteArray := method_40_code
def yX0_wouldGo : MethodName := ⟨RX0, "wouldGo", "(LCourierClash;I[J)I"⟩
def dkwX0_wouldGo_0 : List UInt8 := [44, 3, 42, 27, 182, 0, 132, 133, 80, 167, 0, 6, 78, 4, 172, 3, 172]
abbrev dktX0_wouldGo_0 : List UInt8 := dkwX0_wouldGo_0 ++ []
theorem dksX0_wouldGo_0 : cX0_wouldGo.data.toList.drop 0 = dktX0_wouldGo_0 := by decide +kernel
theorem dX0_wouldGo_0 : decode cX0_wouldGo 0 = .ok (.aload_n 2, 1) := dk_44 (dk_at dksX0_wouldGo_0 0 rfl rfl)
theorem dX0_wouldGo_1 : decode cX0_wouldGo 1 = .ok (.iconst 0, 1) := dk_3 (dk_at dksX0_wouldGo_0 1 rfl rfl)
theorem dX0_wouldGo_2 : decode cX0_wouldGo 2 = .ok (.aload_n 0, 1) := dk_42 (dk_at dksX0_wouldGo_0 2 rfl rfl)
theorem dX0_wouldGo_3 : decode cX0_wouldGo 3 = .ok (.iload_n 1, 1) := dk_27 (dk_at dksX0_wouldGo_0 3 rfl rfl)
theorem dX0_wouldGo_4 : decode cX0_wouldGo 4 = .ok (.invokevirtual 132, 3) := dk_182 0 132 (dk_at dksX0_wouldGo_0 4 rfl rfl)
theorem dX0_wouldGo_7 : decode cX0_wouldGo 7 = .ok (.i2l, 1) := dk_133 (dk_at dksX0_wouldGo_0 7 rfl rfl)
theorem dX0_wouldGo_8 : decode cX0_wouldGo 8 = .ok (.lastore, 1) := dk_80 (dk_at dksX0_wouldGo_0 8 rfl rfl)
theorem dX0_wouldGo_9 : decode cX0_wouldGo 9 = .ok (.goto 6, 3) := dk_167 0 6 (dk_at dksX0_wouldGo_0 9 rfl rfl)
theorem dX0_wouldGo_12 : decode cX0_wouldGo 12 = .ok (.astore_n 3, 1) := dk_78 (dk_at dksX0_wouldGo_0 12 rfl rfl)
theorem dX0_wouldGo_13 : decode cX0_wouldGo 13 = .ok (.iconst 1, 1) := dk_4 (dk_at dksX0_wouldGo_0 13 rfl rfl)
theorem dX0_wouldGo_14 : decode cX0_wouldGo 14 = .ok (.ireturn, 1) := dk_172 (dk_at dksX0_wouldGo_0 14 rfl rfl)
theorem dX0_wouldGo_15 : decode cX0_wouldGo 15 = .ok (.iconst 0, 1) := dk_3 (dk_at dksX0_wouldGo_0 15 rfl rfl)
theorem dX0_wouldGo_16 : decode cX0_wouldGo 16 = .ok (.ireturn, 1) := dk_172 (dk_at dksX0_wouldGo_0 16 rfl rfl)
theorem q95 : (Jvm.Cond.initialized "CourierClashLaw") ∈ lw_all := lw_g (lw_at lw_m1 0 rfl) rfl
theorem q152 : (Jvm.Cond.classLink "CourierClashLaw" (8 : Nat) "CourierClash") ∈ lw_all := lw_g (lw_at lw_m1 57 rfl) rfl
theorem q154 : (Jvm.Cond.methodLink "CourierClashLaw" (135 : Nat) ({ cls := "CourierClash", name := "<init>", desc := "()V" } : Jvm.MethodName)) ∈ lw_all := lw_g (lw_at lw_m1 59 rfl) rfl
theorem q854 : (Jvm.Cond.methodLink "CourierClashLaw" (182 : Nat) ({ cls := "CourierClash", name := "clearBuffer", desc := "()I" } : Jvm.MethodName)) ∈ lw_all := lw_g (lw_at lw_m4 39 rfl) rfl
theorem q1174 : (Jvm.Cond.methodLink "CourierClashLaw" (186 : Nat) ({ cls := "CourierClash", name := "firstError", desc := "()I" } : Jvm.MethodName)) ∈ lw_all := lw_g (lw_at lw_m5 119 rfl) rfl
theorem q1242 : (Jvm.Cond.methodLink "CourierClashLaw" (193 : Nat) ({ cls := "CourierClash", name := "hasStopped", desc := "()Z" } : Jvm.MethodName)) ∈ lw_all := lw_g (lw_at lw_m5 187 rfl) rfl
theorem q1246 : (Jvm.Cond.methodLink "CourierClashLaw" (204 : Nat) ({ cls := "CourierClash", name := "keep", desc := "()I" } : Jvm.MethodName)) ∈ lw_all := lw_g (lw_at lw_m5 191 rfl) rfl
theorem q1501 : (Jvm.Cond.methodLink "CourierClashLaw" (211 : Nat) ({ cls := "CourierClash", name := "savedStates", desc := "()I" } : Jvm.MethodName)) ∈ lw_all := lw_g (lw_at lw_m6 206 rfl) rfl
theorem q1506 : (Jvm.Cond.methodLink "CourierClashLaw" (215 : Nat) ({ cls := "CourierClash", name := "streets", desc := "()I" } : Jvm.MethodName)) ∈ lw_all := lw_g (lw_at lw_m6 211 rfl) rfl
theorem q1510 : (Jvm.Cond.methodLink "CourierClashLaw" (249 : Nat) ({ cls := "CourierClash", name := "parcels", desc := "()I" } : Jvm.MethodName)) ∈ lw_all := lw_g (lw_at lw_m6 215 rfl) rfl
theorem q1514 : (Jvm.Cond.methodLink "CourierClashLaw" (271 : Nat) ({ cls := "CourierClash", name := "turnsPassed", desc := "()I" } : Jvm.MethodName)) ∈ lw_all := lw_g (lw_at lw_m6 219 rfl) rfl
theorem q1518 : (Jvm.Cond.methodLink "CourierClashLaw" (275 : Nat) ({ cls := "CourierClash", name := "failedMoves", desc := "()I" } : Jvm.MethodName)) ∈ lw_all := lw_g (lw_at lw_m6 223 rfl) rfl
theorem q1522 : (Jvm.Cond.methodLink "CourierClashLaw" (279 : Nat) ({ cls := "CourierClash", name := "timesNoted", desc := "()I" } : Jvm.MethodName)) ∈ lw_all := lw_g (lw_at lw_m6 227 rfl) rfl
theorem q1527 : (Jvm.Cond.methodLink "CourierClashLaw" (283 : Nat) ({ cls := "CourierClash", name := "positionsNoted", desc := "()I" } : Jvm.MethodName)) ∈ lw_all := lw_g (lw_at lw_m6 232 rfl) rfl
theorem q1535 : (Jvm.Cond.methodLink "CourierClashLaw" (287 : Nat) ({ cls := "CourierClash", name := "whyOver", desc := "()I" } : Jvm.MethodName)) ∈ lw_all := lw_g (lw_at lw_m7 0 rfl) rfl
theorem q1551 : (Jvm.Cond.methodLink "CourierClashLaw" (312 : Nat) ({ cls := "CourierClash", name := "meanLoad", desc := "()F" } : Jvm.MethodName)) ∈ lw_all := lw_g (lw_at lw_m7 16 rfl) rfl
theorem q1572 : (Jvm.Cond.methodLink "CourierClashLaw" (317 : Nat) ({ cls := "CourierClash", name := "deliveredShare", desc := "()D" } : Jvm.MethodName)) ∈ lw_all := lw_g (lw_at lw_m7 37 rfl) rfl
theorem q1584 : (Jvm.Cond.methodLink "CourierClashLaw" (322 : Nat) ({ cls := "CourierClash", name := "digest", desc := "()J" } : Jvm.MethodName)) ∈ lw_all := lw_g (lw_at lw_m7 49 rfl) rfl
theorem q1725 : (Jvm.Cond.methodLink "CourierClashLaw" (139 : Nat) ({ cls := "CourierClashLaw", name := "addStreet", desc := "(LCourierClash;IIZ[J)I" } : Jvm.MethodName)) ∈ lw_all := lw_g (lw_at lw_m7 190 rfl) rfl
theorem q1726 : (Jvm.Cond.static ({ cls := "CourierClashLaw", name := "addStreet", desc := "(LCourierClash;IIZ[J)I" } : Jvm.MethodName)) ∈ lw_all := lw_g (lw_at lw_m7 191 rfl) rfl
theorem q1727 : (Jvm.Cond.codeWith ({ cls := "CourierClashLaw", name := "addStreet", desc := "(LCourierClash;IIZ[J)I" } : Jvm.MethodName) method_3_code (6 : Nat) (Option.some Jvm.ClassFile.FieldType.int) [((0 : Nat), (12 : Nat), (15 : Nat), (13 : Nat)), ((0 : Nat), (12 : Nat), (19 : Nat), (15 : Nat)), ((0 : Nat), (12 : Nat), (23 : Nat), (17 : Nat))]) ∈ lw_all := lw_g (lw_at lw_m7 192 rfl) rfl
theorem q1728 : (Jvm.Cond.classLink "CourierClashLaw" (13 : Nat) "java/lang/IndexOutOfBoundsException") ∈ lw_all := lw_g (lw_at lw_m7 193 rfl) rfl
theorem q1731 : (Jvm.Cond.classLink "CourierClashLaw" (15 : Nat) "java/lang/IllegalArgumentException") ∈ lw_all := lw_g (lw_at lw_m7 196 rfl) rfl
theorem q1732 : (Jvm.Cond.classLink "CourierClashLaw" (17 : Nat) "java/lang/IllegalStateException") ∈ lw_all := lw_g (lw_at lw_m7 197 rfl) rfl
theorem q1733 : (Jvm.Cond.methodLink "CourierClashLaw" (7 : Nat) ({ cls := "CourierClash", name := "addStreet", desc := "(IIZ)I" } : Jvm.MethodName)) ∈ lw_all := lw_g (lw_at lw_m7 198 rfl) rfl
theorem q1814 : (Jvm.Cond.methodLink "CourierClashLaw" (148 : Nat) ({ cls := "CourierClashLaw", name := "toggleStreet", desc := "(LCourierClash;I[J)I" } : Jvm.MethodName)) ∈ lw_all := lw_g (lw_at lw_m8 39 rfl) rfl
theorem q1815 : (Jvm.Cond.static ({ cls := "CourierClashLaw", name := "toggleStreet", desc := "(LCourierClash;I[J)I" } : Jvm.MethodName)) ∈ lw_all := lw_g (lw_at lw_m8 40 rfl) rfl
theorem q1816 : (Jvm.Cond.codeWith ({ cls := "CourierClashLaw", name := "toggleStreet", desc := "(LCourierClash;I[J)I" } : Jvm.MethodName) method_4_code (4 : Nat) (Option.some Jvm.ClassFile.FieldType.int) [((0 : Nat), (16 : Nat), (19 : Nat), (13 : Nat))]) ∈ lw_all := lw_g (lw_at lw_m8 41 rfl) rfl
theorem q1817 : (Jvm.Cond.methodLink "CourierClashLaw" (19 : Nat) ({ cls := "CourierClash", name := "toggleStreet", desc := "(I)Z" } : Jvm.MethodName)) ∈ lw_all := lw_g (lw_at lw_m8 42 rfl) rfl
theorem q1833 : (Jvm.Cond.methodLink "CourierClashLaw" (152 : Nat) ({ cls := "CourierClashLaw", name := "place", desc := "(LCourierClash;II[J)I" } : Jvm.MethodName)) ∈ lw_all := lw_g (lw_at lw_m8 58 rfl) rfl
theorem q1834 : (Jvm.Cond.static ({ cls := "CourierClashLaw", name := "place", desc := "(LCourierClash;II[J)I" } : Jvm.MethodName)) ∈ lw_all := lw_g (lw_at lw_m8 59 rfl) rfl
theorem q1835 : (Jvm.Cond.codeWith ({ cls := "CourierClashLaw", name := "place", desc := "(LCourierClash;II[J)I" } : Jvm.MethodName) method_5_code (5 : Nat) (Option.some Jvm.ClassFile.FieldType.int) [((0 : Nat), (10 : Nat), (13 : Nat), (13 : Nat)), ((0 : Nat), (10 : Nat), (17 : Nat), (17 : Nat))]) ∈ lw_all := lw_g (lw_at lw_m8 60 rfl) rfl
theorem q1836 : (Jvm.Cond.methodLink "CourierClashLaw" (23 : Nat) ({ cls := "CourierClash", name := "place", desc := "(II)I" } : Jvm.MethodName)) ∈ lw_all := lw_g (lw_at lw_m8 61 rfl) rfl
theorem q1849 : (Jvm.Cond.methodLink "CourierClashLaw" (156 : Nat) ({ cls := "CourierClashLaw", name := "toggleVan", desc := "(LCourierClash;I[J)I" } : Jvm.MethodName)) ∈ lw_all := lw_g (lw_at lw_m8 74 rfl) rfl
theorem q1850 : (Jvm.Cond.static ({ cls := "CourierClashLaw", name := "toggleVan", desc := "(LCourierClash;I[J)I" } : Jvm.MethodName)) ∈ lw_all := lw_g (lw_at lw_m8 75 rfl) rfl
theorem q1851 : (Jvm.Cond.codeWith ({ cls := "CourierClashLaw", name := "toggleVan", desc := "(LCourierClash;I[J)I" } : Jvm.MethodName) method_6_code (4 : Nat) (Option.some Jvm.ClassFile.FieldType.int) [((0 : Nat), (16 : Nat), (19 : Nat), (13 : Nat)), ((0 : Nat), (16 : Nat), (22 : Nat), (17 : Nat))]) ∈ lw_all := lw_g (lw_at lw_m8 76 rfl) rfl
theorem q1852 : (Jvm.Cond.methodLink "CourierClashLaw" (27 : Nat) ({ cls := "CourierClash", name := "toggleVan", desc := "(I)Z" } : Jvm.MethodName)) ∈ lw_all := lw_g (lw_at lw_m8 77 rfl) rfl
theorem q1896 : (Jvm.Cond.methodLink "CourierClashLaw" (159 : Nat) ({ cls := "CourierClashLaw", name := "setCapacity", desc := "(LCourierClash;I[J)I" } : Jvm.MethodName)) ∈ lw_all := lw_g (lw_at lw_m8 121 rfl) rfl
theorem q1897 : (Jvm.Cond.static ({ cls := "CourierClashLaw", name := "setCapacity", desc := "(LCourierClash;I[J)I" } : Jvm.MethodName)) ∈ lw_all := lw_g (lw_at lw_m8 122 rfl) rfl
theorem q1898 : (Jvm.Cond.codeWith ({ cls := "CourierClashLaw", name := "setCapacity", desc := "(LCourierClash;I[J)I" } : Jvm.MethodName) method_7_code (4 : Nat) (Option.some Jvm.ClassFile.FieldType.int) [((0 : Nat), (9 : Nat), (12 : Nat), (15 : Nat)), ((0 : Nat), (9 : Nat), (15 : Nat), (17 : Nat))]) ∈ lw_all := lw_g (lw_at lw_m8 123 rfl) rfl
theorem q1899 : (Jvm.Cond.methodLink "CourierClashLaw" (30 : Nat) ({ cls := "CourierClash", name := "setCapacity", desc := "(I)I" } : Jvm.MethodName)) ∈ lw_all := lw_g (lw_at lw_m8 124 rfl) rfl
theorem q1908 : (Jvm.Cond.methodLink "CourierClashLaw" (162 : Nat) ({ cls := "CourierClashLaw", name := "addParcel", desc := "(LCourierClash;IIII[J)I" } : Jvm.MethodName)) ∈ lw_all := lw_g (lw_at lw_m8 133 rfl) rfl
theorem q1909 : (Jvm.Cond.static ({ cls := "CourierClashLaw", name := "addParcel", desc := "(LCourierClash;IIII[J)I" } : Jvm.MethodName)) ∈ lw_all := lw_g (lw_at lw_m8 134 rfl) rfl
theorem q1910 : (Jvm.Cond.codeWith ({ cls := "CourierClashLaw", name := "addParcel", desc := "(LCourierClash;IIII[J)I" } : Jvm.MethodName) method_8_code (7 : Nat) (Option.some Jvm.ClassFile.FieldType.int) [((0 : Nat), (14 : Nat), (17 : Nat), (13 : Nat)), ((0 : Nat), (14 : Nat), (21 : Nat), (15 : Nat)), ((0 : Nat), (14 : Nat), (25 : Nat), (17 : Nat))]) ∈ lw_all := lw_g (lw_at lw_m8 135 rfl) rfl
theorem q1911 : (Jvm.Cond.methodLink "CourierClashLaw" (34 : Nat) ({ cls := "CourierClash", name := "addParcel", desc := "(IIII)I" } : Jvm.MethodName)) ∈ lw_all := lw_g (lw_at lw_m8 136 rfl) rfl
theorem q1916 : (Jvm.Cond.methodLink "CourierClashLaw" (166 : Nat) ({ cls := "CourierClashLaw", name := "setLimit", desc := "(LCourierClash;I[J)I" } : Jvm.MethodName)) ∈ lw_all := lw_g (lw_at lw_m8 141 rfl) rfl
theorem q1917 : (Jvm.Cond.static ({ cls := "CourierClashLaw", name := "setLimit", desc := "(LCourierClash;I[J)I" } : Jvm.MethodName)) ∈ lw_all := lw_g (lw_at lw_m8 142 rfl) rfl
theorem q1918 : (Jvm.Cond.codeWith ({ cls := "CourierClashLaw", name := "setLimit", desc := "(LCourierClash;I[J)I" } : Jvm.MethodName) method_9_code (4 : Nat) (Option.some Jvm.ClassFile.FieldType.int) [((0 : Nat), (9 : Nat), (12 : Nat), (15 : Nat))]) ∈ lw_all := lw_g (lw_at lw_m8 143 rfl) rfl
theorem q1919 : (Jvm.Cond.methodLink "CourierClashLaw" (38 : Nat) ({ cls := "CourierClash", name := "setLimit", desc := "(I)I" } : Jvm.MethodName)) ∈ lw_all := lw_g (lw_at lw_m8 144 rfl) rfl
theorem q1923 : (Jvm.Cond.methodLink "CourierClashLaw" (169 : Nat) ({ cls := "CourierClashLaw", name := "order", desc := "(LCourierClash;II[J)I" } : Jvm.MethodName)) ∈ lw_all := lw_g (lw_at lw_m8 148 rfl) rfl
theorem q1924 : (Jvm.Cond.static ({ cls := "CourierClashLaw", name := "order", desc := "(LCourierClash;II[J)I" } : Jvm.MethodName)) ∈ lw_all := lw_g (lw_at lw_m8 149 rfl) rfl
theorem q1925 : (Jvm.Cond.codeWith ({ cls := "CourierClashLaw", name := "order", desc := "(LCourierClash;II[J)I" } : Jvm.MethodName) method_10_code (5 : Nat) (Option.some Jvm.ClassFile.FieldType.int) [((0 : Nat), (10 : Nat), (13 : Nat), (13 : Nat)), ((0 : Nat), (10 : Nat), (17 : Nat), (17 : Nat))]) ∈ lw_all := lw_g (lw_at lw_m8 150 rfl) rfl
theorem q1926 : (Jvm.Cond.methodLink "CourierClashLaw" (41 : Nat) ({ cls := "CourierClash", name := "order", desc := "(II)I" } : Jvm.MethodName)) ∈ lw_all := lw_g (lw_at lw_m8 151 rfl) rfl
theorem q1935 : (Jvm.Cond.methodLink "CourierClashLaw" (172 : Nat) ({ cls := "CourierClashLaw", name := "takeBack", desc := "(LCourierClash;I[J)I" } : Jvm.MethodName)) ∈ lw_all := lw_g (lw_at lw_m8 160 rfl) rfl
theorem q1936 : (Jvm.Cond.static ({ cls := "CourierClashLaw", name := "takeBack", desc := "(LCourierClash;I[J)I" } : Jvm.MethodName)) ∈ lw_all := lw_g (lw_at lw_m8 161 rfl) rfl
theorem q1937 : (Jvm.Cond.codeWith ({ cls := "CourierClashLaw", name := "takeBack", desc := "(LCourierClash;I[J)I" } : Jvm.MethodName) method_11_code (4 : Nat) (Option.some Jvm.ClassFile.FieldType.int) [((0 : Nat), (16 : Nat), (19 : Nat), (13 : Nat))]) ∈ lw_all := lw_g (lw_at lw_m8 162 rfl) rfl
theorem q1938 : (Jvm.Cond.methodLink "CourierClashLaw" (44 : Nat) ({ cls := "CourierClash", name := "takeBack", desc := "(I)Z" } : Jvm.MethodName)) ∈ lw_all := lw_g (lw_at lw_m8 163 rfl) rfl
theorem q1942 : (Jvm.Cond.methodLink "CourierClashLaw" (175 : Nat) ({ cls := "CourierClashLaw", name := "turn", desc := "(LCourierClash;[J)I" } : Jvm.MethodName)) ∈ lw_all := lw_g (lw_at lw_m8 167 rfl) rfl
theorem q1943 : (Jvm.Cond.static ({ cls := "CourierClashLaw", name := "turn", desc := "(LCourierClash;[J)I" } : Jvm.MethodName)) ∈ lw_all := lw_g (lw_at lw_m8 168 rfl) rfl
theorem q1944 : (Jvm.Cond.codeWith ({ cls := "CourierClashLaw", name := "turn", desc := "(LCourierClash;[J)I" } : Jvm.MethodName) method_12_code (3 : Nat) (Option.some Jvm.ClassFile.FieldType.int) [((0 : Nat), (8 : Nat), (11 : Nat), (17 : Nat))]) ∈ lw_all := lw_g (lw_at lw_m8 169 rfl) rfl
theorem q1945 : (Jvm.Cond.methodLink "CourierClashLaw" (47 : Nat) ({ cls := "CourierClash", name := "turn", desc := "()I" } : Jvm.MethodName)) ∈ lw_all := lw_g (lw_at lw_m8 170 rfl) rfl
theorem q2044 : (Jvm.Cond.methodLink "CourierClashLaw" (179 : Nat) ({ cls := "CourierClashLaw", name := "append", desc := "(LCourierClash;I[J)I" } : Jvm.MethodName)) ∈ lw_all := lw_g (lw_at lw_m9 29 rfl) rfl
theorem q2045 : (Jvm.Cond.static ({ cls := "CourierClashLaw", name := "append", desc := "(LCourierClash;I[J)I" } : Jvm.MethodName)) ∈ lw_all := lw_g (lw_at lw_m9 30 rfl) rfl
theorem q2046 : (Jvm.Cond.codeWith ({ cls := "CourierClashLaw", name := "append", desc := "(LCourierClash;I[J)I" } : Jvm.MethodName) method_13_code (4 : Nat) (Option.some Jvm.ClassFile.FieldType.int) [((0 : Nat), (9 : Nat), (12 : Nat), (15 : Nat)), ((0 : Nat), (9 : Nat), (15 : Nat), (17 : Nat))]) ∈ lw_all := lw_g (lw_at lw_m9 31 rfl) rfl
theorem q2047 : (Jvm.Cond.methodLink "CourierClashLaw" (51 : Nat) ({ cls := "CourierClash", name := "append", desc := "(I)I" } : Jvm.MethodName)) ∈ lw_all := lw_g (lw_at lw_m9 32 rfl) rfl
theorem q2068 : (Jvm.Cond.methodLink "CourierClashLaw" (190 : Nat) ({ cls := "CourierClashLaw", name := "play", desc := "(LCourierClash;[J)I" } : Jvm.MethodName)) ∈ lw_all := lw_g (lw_at lw_m9 53 rfl) rfl
theorem q2069 : (Jvm.Cond.static ({ cls := "CourierClashLaw", name := "play", desc := "(LCourierClash;[J)I" } : Jvm.MethodName)) ∈ lw_all := lw_g (lw_at lw_m9 54 rfl) rfl
theorem q2070 : (Jvm.Cond.codeWith ({ cls := "CourierClashLaw", name := "play", desc := "(LCourierClash;[J)I" } : Jvm.MethodName) method_14_code (3 : Nat) (Option.some Jvm.ClassFile.FieldType.int) [((0 : Nat), (8 : Nat), (11 : Nat), (15 : Nat))]) ∈ lw_all := lw_g (lw_at lw_m9 55 rfl) rfl
theorem q2071 : (Jvm.Cond.methodLink "CourierClashLaw" (54 : Nat) ({ cls := "CourierClash", name := "play", desc := "()I" } : Jvm.MethodName)) ∈ lw_all := lw_g (lw_at lw_m9 56 rfl) rfl
theorem q2083 : (Jvm.Cond.methodLink "CourierClashLaw" (198 : Nat) ({ cls := "CourierClashLaw", name := "stoppedPart", desc := "(LCourierClash;[J)I" } : Jvm.MethodName)) ∈ lw_all := lw_g (lw_at lw_m9 68 rfl) rfl
theorem q2084 : (Jvm.Cond.static ({ cls := "CourierClashLaw", name := "stoppedPart", desc := "(LCourierClash;[J)I" } : Jvm.MethodName)) ∈ lw_all := lw_g (lw_at lw_m9 69 rfl) rfl
theorem q2085 : (Jvm.Cond.codeWith ({ cls := "CourierClashLaw", name := "stoppedPart", desc := "(LCourierClash;[J)I" } : Jvm.MethodName) method_15_code (3 : Nat) (Option.some Jvm.ClassFile.FieldType.int) [((0 : Nat), (8 : Nat), (11 : Nat), (17 : Nat))]) ∈ lw_all := lw_g (lw_at lw_m9 70 rfl) rfl
theorem q2086 : (Jvm.Cond.methodLink "CourierClashLaw" (57 : Nat) ({ cls := "CourierClash", name := "stoppedPart", desc := "()I" } : Jvm.MethodName)) ∈ lw_all := lw_g (lw_at lw_m9 71 rfl) rfl
theorem q2090 : (Jvm.Cond.methodLink "CourierClashLaw" (201 : Nat) ({ cls := "CourierClashLaw", name := "undo", desc := "(LCourierClash;[J)I" } : Jvm.MethodName)) ∈ lw_all := lw_g (lw_at lw_m9 75 rfl) rfl
theorem q2091 : (Jvm.Cond.static ({ cls := "CourierClashLaw", name := "undo", desc := "(LCourierClash;[J)I" } : Jvm.MethodName)) ∈ lw_all := lw_g (lw_at lw_m9 76 rfl) rfl
theorem q2092 : (Jvm.Cond.codeWith ({ cls := "CourierClashLaw", name := "undo", desc := "(LCourierClash;[J)I" } : Jvm.MethodName) method_16_code (3 : Nat) (Option.some Jvm.ClassFile.FieldType.int) [((0 : Nat), (8 : Nat), (11 : Nat), (17 : Nat))]) ∈ lw_all := lw_g (lw_at lw_m9 77 rfl) rfl
theorem q2093 : (Jvm.Cond.methodLink "CourierClashLaw" (60 : Nat) ({ cls := "CourierClash", name := "undo", desc := "()I" } : Jvm.MethodName)) ∈ lw_all := lw_g (lw_at lw_m9 78 rfl) rfl
theorem q2098 : (Jvm.Cond.methodLink "CourierClashLaw" (208 : Nat) ({ cls := "CourierClashLaw", name := "restore", desc := "(LCourierClash;[J)I" } : Jvm.MethodName)) ∈ lw_all := lw_g (lw_at lw_m9 83 rfl) rfl
theorem q2099 : (Jvm.Cond.static ({ cls := "CourierClashLaw", name := "restore", desc := "(LCourierClash;[J)I" } : Jvm.MethodName)) ∈ lw_all := lw_g (lw_at lw_m9 84 rfl) rfl
theorem q2100 : (Jvm.Cond.codeWith ({ cls := "CourierClashLaw", name := "restore", desc := "(LCourierClash;[J)I" } : Jvm.MethodName) method_17_code (3 : Nat) (Option.some Jvm.ClassFile.FieldType.int) [((0 : Nat), (8 : Nat), (11 : Nat), (17 : Nat))]) ∈ lw_all := lw_g (lw_at lw_m9 85 rfl) rfl
theorem q2101 : (Jvm.Cond.methodLink "CourierClashLaw" (63 : Nat) ({ cls := "CourierClash", name := "restore", desc := "()I" } : Jvm.MethodName)) ∈ lw_all := lw_g (lw_at lw_m9 86 rfl) rfl
theorem q2105 : (Jvm.Cond.methodLink "CourierClashLaw" (219 : Nat) ({ cls := "CourierClashLaw", name := "fromOf", desc := "(LCourierClash;I[J)I" } : Jvm.MethodName)) ∈ lw_all := lw_g (lw_at lw_m9 90 rfl) rfl
theorem q2106 : (Jvm.Cond.static ({ cls := "CourierClashLaw", name := "fromOf", desc := "(LCourierClash;I[J)I" } : Jvm.MethodName)) ∈ lw_all := lw_g (lw_at lw_m9 91 rfl) rfl
theorem q2107 : (Jvm.Cond.codeWith ({ cls := "CourierClashLaw", name := "fromOf", desc := "(LCourierClash;I[J)I" } : Jvm.MethodName) method_18_code (4 : Nat) (Option.some Jvm.ClassFile.FieldType.int) [((0 : Nat), (9 : Nat), (12 : Nat), (13 : Nat))]) ∈ lw_all := lw_g (lw_at lw_m9 92 rfl) rfl
theorem q2108 : (Jvm.Cond.methodLink "CourierClashLaw" (66 : Nat) ({ cls := "CourierClash", name := "fromOf", desc := "(I)I" } : Jvm.MethodName)) ∈ lw_all := lw_g (lw_at lw_m9 93 rfl) rfl
theorem q2112 : (Jvm.Cond.methodLink "CourierClashLaw" (222 : Nat) ({ cls := "CourierClashLaw", name := "toOf", desc := "(LCourierClash;I[J)I" } : Jvm.MethodName)) ∈ lw_all := lw_g (lw_at lw_m9 97 rfl) rfl
theorem q2113 : (Jvm.Cond.static ({ cls := "CourierClashLaw", name := "toOf", desc := "(LCourierClash;I[J)I" } : Jvm.MethodName)) ∈ lw_all := lw_g (lw_at lw_m9 98 rfl) rfl
theorem q2114 : (Jvm.Cond.codeWith ({ cls := "CourierClashLaw", name := "toOf", desc := "(LCourierClash;I[J)I" } : Jvm.MethodName) method_19_code (4 : Nat) (Option.some Jvm.ClassFile.FieldType.int) [((0 : Nat), (9 : Nat), (12 : Nat), (13 : Nat))]) ∈ lw_all := lw_g (lw_at lw_m9 99 rfl) rfl
theorem q2115 : (Jvm.Cond.methodLink "CourierClashLaw" (69 : Nat) ({ cls := "CourierClash", name := "toOf", desc := "(I)I" } : Jvm.MethodName)) ∈ lw_all := lw_g (lw_at lw_m9 100 rfl) rfl
theorem q2119 : (Jvm.Cond.methodLink "CourierClashLaw" (225 : Nat) ({ cls := "CourierClashLaw", name := "isOpen", desc := "(LCourierClash;I[J)I" } : Jvm.MethodName)) ∈ lw_all := lw_g (lw_at lw_m9 104 rfl) rfl
theorem q2120 : (Jvm.Cond.static ({ cls := "CourierClashLaw", name := "isOpen", desc := "(LCourierClash;I[J)I" } : Jvm.MethodName)) ∈ lw_all := lw_g (lw_at lw_m9 105 rfl) rfl
theorem q2121 : (Jvm.Cond.codeWith ({ cls := "CourierClashLaw", name := "isOpen", desc := "(LCourierClash;I[J)I" } : Jvm.MethodName) method_20_code (4 : Nat) (Option.some Jvm.ClassFile.FieldType.int) [((0 : Nat), (16 : Nat), (19 : Nat), (13 : Nat))]) ∈ lw_all := lw_g (lw_at lw_m9 106 rfl) rfl
theorem q2122 : (Jvm.Cond.methodLink "CourierClashLaw" (72 : Nat) ({ cls := "CourierClash", name := "isOpen", desc := "(I)Z" } : Jvm.MethodName)) ∈ lw_all := lw_g (lw_at lw_m9 107 rfl) rfl
theorem q2126 : (Jvm.Cond.methodLink "CourierClashLaw" (228 : Nat) ({ cls := "CourierClashLaw", name := "junctionOf", desc := "(LCourierClash;I[J)I" } : Jvm.MethodName)) ∈ lw_all := lw_g (lw_at lw_m9 111 rfl) rfl
theorem q2127 : (Jvm.Cond.static ({ cls := "CourierClashLaw", name := "junctionOf", desc := "(LCourierClash;I[J)I" } : Jvm.MethodName)) ∈ lw_all := lw_g (lw_at lw_m9 112 rfl) rfl
theorem q2128 : (Jvm.Cond.codeWith ({ cls := "CourierClashLaw", name := "junctionOf", desc := "(LCourierClash;I[J)I" } : Jvm.MethodName) method_21_code (4 : Nat) (Option.some Jvm.ClassFile.FieldType.int) [((0 : Nat), (9 : Nat), (12 : Nat), (13 : Nat))]) ∈ lw_all := lw_g (lw_at lw_m9 113 rfl) rfl
theorem q2129 : (Jvm.Cond.methodLink "CourierClashLaw" (75 : Nat) ({ cls := "CourierClash", name := "junctionOf", desc := "(I)I" } : Jvm.MethodName)) ∈ lw_all := lw_g (lw_at lw_m9 114 rfl) rfl
theorem q2133 : (Jvm.Cond.methodLink "CourierClashLaw" (231 : Nat) ({ cls := "CourierClashLaw", name := "hasVan", desc := "(LCourierClash;I[J)I" } : Jvm.MethodName)) ∈ lw_all := lw_g (lw_at lw_m9 118 rfl) rfl
theorem q2134 : (Jvm.Cond.static ({ cls := "CourierClashLaw", name := "hasVan", desc := "(LCourierClash;I[J)I" } : Jvm.MethodName)) ∈ lw_all := lw_g (lw_at lw_m9 119 rfl) rfl
theorem q2135 : (Jvm.Cond.codeWith ({ cls := "CourierClashLaw", name := "hasVan", desc := "(LCourierClash;I[J)I" } : Jvm.MethodName) method_22_code (4 : Nat) (Option.some Jvm.ClassFile.FieldType.int) [((0 : Nat), (16 : Nat), (19 : Nat), (13 : Nat))]) ∈ lw_all := lw_g (lw_at lw_m9 120 rfl) rfl
theorem q2136 : (Jvm.Cond.methodLink "CourierClashLaw" (78 : Nat) ({ cls := "CourierClash", name := "hasVan", desc := "(I)Z" } : Jvm.MethodName)) ∈ lw_all := lw_g (lw_at lw_m9 121 rfl) rfl
theorem q2140 : (Jvm.Cond.methodLink "CourierClashLaw" (234 : Nat) ({ cls := "CourierClashLaw", name := "loadOf", desc := "(LCourierClash;I[J)I" } : Jvm.MethodName)) ∈ lw_all := lw_g (lw_at lw_m9 125 rfl) rfl
theorem q2141 : (Jvm.Cond.static ({ cls := "CourierClashLaw", name := "loadOf", desc := "(LCourierClash;I[J)I" } : Jvm.MethodName)) ∈ lw_all := lw_g (lw_at lw_m9 126 rfl) rfl
theorem q2142 : (Jvm.Cond.codeWith ({ cls := "CourierClashLaw", name := "loadOf", desc := "(LCourierClash;I[J)I" } : Jvm.MethodName) method_23_code (4 : Nat) (Option.some Jvm.ClassFile.FieldType.int) [((0 : Nat), (9 : Nat), (12 : Nat), (13 : Nat))]) ∈ lw_all := lw_g (lw_at lw_m9 127 rfl) rfl
theorem q2143 : (Jvm.Cond.methodLink "CourierClashLaw" (81 : Nat) ({ cls := "CourierClash", name := "loadOf", desc := "(I)I" } : Jvm.MethodName)) ∈ lw_all := lw_g (lw_at lw_m9 128 rfl) rfl
theorem q2147 : (Jvm.Cond.methodLink "CourierClashLaw" (237 : Nat) ({ cls := "CourierClashLaw", name := "hasOrder", desc := "(LCourierClash;I[J)I" } : Jvm.MethodName)) ∈ lw_all := lw_g (lw_at lw_m9 132 rfl) rfl
theorem q2148 : (Jvm.Cond.static ({ cls := "CourierClashLaw", name := "hasOrder", desc := "(LCourierClash;I[J)I" } : Jvm.MethodName)) ∈ lw_all := lw_g (lw_at lw_m9 133 rfl) rfl
theorem q2149 : (Jvm.Cond.codeWith ({ cls := "CourierClashLaw", name := "hasOrder", desc := "(LCourierClash;I[J)I" } : Jvm.MethodName) method_24_code (4 : Nat) (Option.some Jvm.ClassFile.FieldType.int) [((0 : Nat), (16 : Nat), (19 : Nat), (13 : Nat))]) ∈ lw_all := lw_g (lw_at lw_m9 134 rfl) rfl
theorem q2150 : (Jvm.Cond.methodLink "CourierClashLaw" (84 : Nat) ({ cls := "CourierClash", name := "hasOrder", desc := "(I)Z" } : Jvm.MethodName)) ∈ lw_all := lw_g (lw_at lw_m9 135 rfl) rfl
theorem q2154 : (Jvm.Cond.methodLink "CourierClashLaw" (240 : Nat) ({ cls := "CourierClashLaw", name := "orderOf", desc := "(LCourierClash;I[J)I" } : Jvm.MethodName)) ∈ lw_all := lw_g (lw_at lw_m9 139 rfl) rfl
theorem q2155 : (Jvm.Cond.static ({ cls := "CourierClashLaw", name := "orderOf", desc := "(LCourierClash;I[J)I" } : Jvm.MethodName)) ∈ lw_all := lw_g (lw_at lw_m9 140 rfl) rfl
theorem q2156 : (Jvm.Cond.codeWith ({ cls := "CourierClashLaw", name := "orderOf", desc := "(LCourierClash;I[J)I" } : Jvm.MethodName) method_25_code (4 : Nat) (Option.some Jvm.ClassFile.FieldType.int) [((0 : Nat), (9 : Nat), (12 : Nat), (13 : Nat)), ((0 : Nat), (9 : Nat), (15 : Nat), (17 : Nat))]) ∈ lw_all := lw_g (lw_at lw_m9 141 rfl) rfl
theorem q2157 : (Jvm.Cond.methodLink "CourierClashLaw" (87 : Nat) ({ cls := "CourierClash", name := "orderOf", desc := "(I)I" } : Jvm.MethodName)) ∈ lw_all := lw_g (lw_at lw_m9 142 rfl) rfl
theorem q2161 : (Jvm.Cond.methodLink "CourierClashLaw" (243 : Nat) ({ cls := "CourierClashLaw", name := "movesOf", desc := "(LCourierClash;I[J)I" } : Jvm.MethodName)) ∈ lw_all := lw_g (lw_at lw_m9 146 rfl) rfl
theorem q2162 : (Jvm.Cond.static ({ cls := "CourierClashLaw", name := "movesOf", desc := "(LCourierClash;I[J)I" } : Jvm.MethodName)) ∈ lw_all := lw_g (lw_at lw_m9 147 rfl) rfl
theorem q2163 : (Jvm.Cond.codeWith ({ cls := "CourierClashLaw", name := "movesOf", desc := "(LCourierClash;I[J)I" } : Jvm.MethodName) method_26_code (4 : Nat) (Option.some Jvm.ClassFile.FieldType.int) [((0 : Nat), (9 : Nat), (12 : Nat), (13 : Nat))]) ∈ lw_all := lw_g (lw_at lw_m9 148 rfl) rfl
theorem q2164 : (Jvm.Cond.methodLink "CourierClashLaw" (90 : Nat) ({ cls := "CourierClash", name := "movesOf", desc := "(I)I" } : Jvm.MethodName)) ∈ lw_all := lw_g (lw_at lw_m9 149 rfl) rfl
theorem q2168 : (Jvm.Cond.methodLink "CourierClashLaw" (246 : Nat) ({ cls := "CourierClashLaw", name := "outcomeOf", desc := "(LCourierClash;I[J)I" } : Jvm.MethodName)) ∈ lw_all := lw_g (lw_at lw_m9 153 rfl) rfl
theorem q2169 : (Jvm.Cond.static ({ cls := "CourierClashLaw", name := "outcomeOf", desc := "(LCourierClash;I[J)I" } : Jvm.MethodName)) ∈ lw_all := lw_g (lw_at lw_m9 154 rfl) rfl
theorem q2170 : (Jvm.Cond.codeWith ({ cls := "CourierClashLaw", name := "outcomeOf", desc := "(LCourierClash;I[J)I" } : Jvm.MethodName) method_27_code (4 : Nat) (Option.some Jvm.ClassFile.FieldType.int) [((0 : Nat), (9 : Nat), (12 : Nat), (13 : Nat))]) ∈ lw_all := lw_g (lw_at lw_m9 155 rfl) rfl
theorem q2171 : (Jvm.Cond.methodLink "CourierClashLaw" (93 : Nat) ({ cls := "CourierClash", name := "outcomeOf", desc := "(I)I" } : Jvm.MethodName)) ∈ lw_all := lw_g (lw_at lw_m9 156 rfl) rfl
theorem q2175 : (Jvm.Cond.methodLink "CourierClashLaw" (253 : Nat) ({ cls := "CourierClashLaw", name := "isWaiting", desc := "(LCourierClash;I[J)I" } : Jvm.MethodName)) ∈ lw_all := lw_g (lw_at lw_m9 160 rfl) rfl
theorem q2176 : (Jvm.Cond.static ({ cls := "CourierClashLaw", name := "isWaiting", desc := "(LCourierClash;I[J)I" } : Jvm.MethodName)) ∈ lw_all := lw_g (lw_at lw_m9 161 rfl) rfl
theorem q2177 : (Jvm.Cond.codeWith ({ cls := "CourierClashLaw", name := "isWaiting", desc := "(LCourierClash;I[J)I" } : Jvm.MethodName) method_28_code (4 : Nat) (Option.some Jvm.ClassFile.FieldType.int) [((0 : Nat), (16 : Nat), (19 : Nat), (13 : Nat))]) ∈ lw_all := lw_g (lw_at lw_m9 162 rfl) rfl
theorem q2178 : (Jvm.Cond.methodLink "CourierClashLaw" (96 : Nat) ({ cls := "CourierClash", name := "isWaiting", desc := "(I)Z" } : Jvm.MethodName)) ∈ lw_all := lw_g (lw_at lw_m9 163 rfl) rfl
theorem q2186 : (Jvm.Cond.methodLink "CourierClashLaw" (256 : Nat) ({ cls := "CourierClashLaw", name := "isDelivered", desc := "(LCourierClash;I[J)I" } : Jvm.MethodName)) ∈ lw_all := lw_g (lw_at lw_m9 171 rfl) rfl
theorem q2187 : (Jvm.Cond.static ({ cls := "CourierClashLaw", name := "isDelivered", desc := "(LCourierClash;I[J)I" } : Jvm.MethodName)) ∈ lw_all := lw_g (lw_at lw_m9 172 rfl) rfl
theorem q2188 : (Jvm.Cond.codeWith ({ cls := "CourierClashLaw", name := "isDelivered", desc := "(LCourierClash;I[J)I" } : Jvm.MethodName) method_29_code (4 : Nat) (Option.some Jvm.ClassFile.FieldType.int) [((0 : Nat), (16 : Nat), (19 : Nat), (13 : Nat))]) ∈ lw_all := lw_g (lw_at lw_m9 173 rfl) rfl
theorem q2189 : (Jvm.Cond.methodLink "CourierClashLaw" (99 : Nat) ({ cls := "CourierClash", name := "isDelivered", desc := "(I)Z" } : Jvm.MethodName)) ∈ lw_all := lw_g (lw_at lw_m9 174 rfl) rfl
theorem q2193 : (Jvm.Cond.methodLink "CourierClashLaw" (259 : Nat) ({ cls := "CourierClashLaw", name := "courierOf", desc := "(LCourierClash;I[J)I" } : Jvm.MethodName)) ∈ lw_all := lw_g (lw_at lw_m9 178 rfl) rfl
theorem q2194 : (Jvm.Cond.static ({ cls := "CourierClashLaw", name := "courierOf", desc := "(LCourierClash;I[J)I" } : Jvm.MethodName)) ∈ lw_all := lw_g (lw_at lw_m9 179 rfl) rfl
theorem q2195 : (Jvm.Cond.codeWith ({ cls := "CourierClashLaw", name := "courierOf", desc := "(LCourierClash;I[J)I" } : Jvm.MethodName) method_30_code (4 : Nat) (Option.some Jvm.ClassFile.FieldType.int) [((0 : Nat), (9 : Nat), (12 : Nat), (13 : Nat)), ((0 : Nat), (9 : Nat), (15 : Nat), (17 : Nat))]) ∈ lw_all := lw_g (lw_at lw_m9 180 rfl) rfl
theorem q2196 : (Jvm.Cond.methodLink "CourierClashLaw" (102 : Nat) ({ cls := "CourierClash", name := "courierOf", desc := "(I)I" } : Jvm.MethodName)) ∈ lw_all := lw_g (lw_at lw_m9 181 rfl) rfl
theorem q2200 : (Jvm.Cond.methodLink "CourierClashLaw" (262 : Nat) ({ cls := "CourierClashLaw", name := "placeOf", desc := "(LCourierClash;I[J)I" } : Jvm.MethodName)) ∈ lw_all := lw_g (lw_at lw_m9 185 rfl) rfl
theorem q2201 : (Jvm.Cond.static ({ cls := "CourierClashLaw", name := "placeOf", desc := "(LCourierClash;I[J)I" } : Jvm.MethodName)) ∈ lw_all := lw_g (lw_at lw_m9 186 rfl) rfl
theorem q2202 : (Jvm.Cond.codeWith ({ cls := "CourierClashLaw", name := "placeOf", desc := "(LCourierClash;I[J)I" } : Jvm.MethodName) method_31_code (4 : Nat) (Option.some Jvm.ClassFile.FieldType.int) [((0 : Nat), (9 : Nat), (12 : Nat), (13 : Nat))]) ∈ lw_all := lw_g (lw_at lw_m9 187 rfl) rfl
theorem q2203 : (Jvm.Cond.methodLink "CourierClashLaw" (105 : Nat) ({ cls := "CourierClash", name := "placeOf", desc := "(I)I" } : Jvm.MethodName)) ∈ lw_all := lw_g (lw_at lw_m9 188 rfl) rfl
theorem q2207 : (Jvm.Cond.methodLink "CourierClashLaw" (265 : Nat) ({ cls := "CourierClashLaw", name := "pointsOf", desc := "(LCourierClash;I[J)I" } : Jvm.MethodName)) ∈ lw_all := lw_g (lw_at lw_m9 192 rfl) rfl
theorem q2208 : (Jvm.Cond.static ({ cls := "CourierClashLaw", name := "pointsOf", desc := "(LCourierClash;I[J)I" } : Jvm.MethodName)) ∈ lw_all := lw_g (lw_at lw_m9 193 rfl) rfl
theorem q2209 : (Jvm.Cond.codeWith ({ cls := "CourierClashLaw", name := "pointsOf", desc := "(LCourierClash;I[J)I" } : Jvm.MethodName) method_32_code (4 : Nat) (Option.some Jvm.ClassFile.FieldType.int) [((0 : Nat), (9 : Nat), (12 : Nat), (13 : Nat))]) ∈ lw_all := lw_g (lw_at lw_m9 194 rfl) rfl
theorem q2210 : (Jvm.Cond.methodLink "CourierClashLaw" (108 : Nat) ({ cls := "CourierClash", name := "pointsOf", desc := "(I)I" } : Jvm.MethodName)) ∈ lw_all := lw_g (lw_at lw_m9 195 rfl) rfl
theorem q2217 : (Jvm.Cond.methodLink "CourierClashLaw" (268 : Nat) ({ cls := "CourierClashLaw", name := "pointsByParcels", desc := "(LCourierClash;I[J)I" } : Jvm.MethodName)) ∈ lw_all := lw_g (lw_at lw_m9 202 rfl) rfl
theorem q2218 : (Jvm.Cond.static ({ cls := "CourierClashLaw", name := "pointsByParcels", desc := "(LCourierClash;I[J)I" } : Jvm.MethodName)) ∈ lw_all := lw_g (lw_at lw_m9 203 rfl) rfl
theorem q2219 : (Jvm.Cond.codeWith ({ cls := "CourierClashLaw", name := "pointsByParcels", desc := "(LCourierClash;I[J)I" } : Jvm.MethodName) method_33_code (4 : Nat) (Option.some Jvm.ClassFile.FieldType.int) [((0 : Nat), (9 : Nat), (12 : Nat), (13 : Nat))]) ∈ lw_all := lw_g (lw_at lw_m9 204 rfl) rfl
theorem q2220 : (Jvm.Cond.methodLink "CourierClashLaw" (111 : Nat) ({ cls := "CourierClash", name := "pointsByParcels", desc := "(I)I" } : Jvm.MethodName)) ∈ lw_all := lw_g (lw_at lw_m9 205 rfl) rfl
theorem q2224 : (Jvm.Cond.methodLink "CourierClashLaw" (291 : Nat) ({ cls := "CourierClashLaw", name := "reach", desc := "(LCourierClash;I[J)I" } : Jvm.MethodName)) ∈ lw_all := lw_g (lw_at lw_m9 209 rfl) rfl
theorem q2225 : (Jvm.Cond.static ({ cls := "CourierClashLaw", name := "reach", desc := "(LCourierClash;I[J)I" } : Jvm.MethodName)) ∈ lw_all := lw_g (lw_at lw_m9 210 rfl) rfl
theorem q2226 : (Jvm.Cond.codeWith ({ cls := "CourierClashLaw", name := "reach", desc := "(LCourierClash;I[J)I" } : Jvm.MethodName) method_34_code (4 : Nat) (Option.some Jvm.ClassFile.FieldType.int) [((0 : Nat), (9 : Nat), (12 : Nat), (13 : Nat))]) ∈ lw_all := lw_g (lw_at lw_m9 211 rfl) rfl
theorem q2227 : (Jvm.Cond.methodLink "CourierClashLaw" (114 : Nat) ({ cls := "CourierClash", name := "reach", desc := "(I)I" } : Jvm.MethodName)) ∈ lw_all := lw_g (lw_at lw_m9 212 rfl) rfl
theorem q2231 : (Jvm.Cond.methodLink "CourierClashLaw" (294 : Nat) ({ cls := "CourierClashLaw", name := "reachByJoining", desc := "(LCourierClash;I[J)I" } : Jvm.MethodName)) ∈ lw_all := lw_g (lw_at lw_m9 216 rfl) rfl
theorem q2232 : (Jvm.Cond.static ({ cls := "CourierClashLaw", name := "reachByJoining", desc := "(LCourierClash;I[J)I" } : Jvm.MethodName)) ∈ lw_all := lw_g (lw_at lw_m9 217 rfl) rfl
theorem q2233 : (Jvm.Cond.codeWith ({ cls := "CourierClashLaw", name := "reachByJoining", desc := "(LCourierClash;I[J)I" } : Jvm.MethodName) method_35_code (4 : Nat) (Option.some Jvm.ClassFile.FieldType.int) [((0 : Nat), (9 : Nat), (12 : Nat), (13 : Nat))]) ∈ lw_all := lw_g (lw_at lw_m9 218 rfl) rfl
theorem q2234 : (Jvm.Cond.methodLink "CourierClashLaw" (117 : Nat) ({ cls := "CourierClash", name := "reachByJoining", desc := "(I)I" } : Jvm.MethodName)) ∈ lw_all := lw_g (lw_at lw_m9 219 rfl) rfl
theorem q2238 : (Jvm.Cond.methodLink "CourierClashLaw" (297 : Nat) ({ cls := "CourierClashLaw", name := "distance", desc := "(LCourierClash;II[J)I" } : Jvm.MethodName)) ∈ lw_all := lw_g (lw_at lw_m9 223 rfl) rfl
theorem q2239 : (Jvm.Cond.static ({ cls := "CourierClashLaw", name := "distance", desc := "(LCourierClash;II[J)I" } : Jvm.MethodName)) ∈ lw_all := lw_g (lw_at lw_m9 224 rfl) rfl
theorem q2240 : (Jvm.Cond.codeWith ({ cls := "CourierClashLaw", name := "distance", desc := "(LCourierClash;II[J)I" } : Jvm.MethodName) method_36_code (5 : Nat) (Option.some Jvm.ClassFile.FieldType.int) [((0 : Nat), (10 : Nat), (13 : Nat), (13 : Nat))]) ∈ lw_all := lw_g (lw_at lw_m9 225 rfl) rfl
theorem q2241 : (Jvm.Cond.methodLink "CourierClashLaw" (120 : Nat) ({ cls := "CourierClash", name := "distance", desc := "(II)I" } : Jvm.MethodName)) ∈ lw_all := lw_g (lw_at lw_m9 226 rfl) rfl
theorem q2245 : (Jvm.Cond.methodLink "CourierClashLaw" (300 : Nat) ({ cls := "CourierClashLaw", name := "nextStreet", desc := "(LCourierClash;II[J)I" } : Jvm.MethodName)) ∈ lw_all := lw_g (lw_at lw_m9 230 rfl) rfl
theorem q2246 : (Jvm.Cond.static ({ cls := "CourierClashLaw", name := "nextStreet", desc := "(LCourierClash;II[J)I" } : Jvm.MethodName)) ∈ lw_all := lw_g (lw_at lw_m9 231 rfl) rfl
theorem q2247 : (Jvm.Cond.codeWith ({ cls := "CourierClashLaw", name := "nextStreet", desc := "(LCourierClash;II[J)I" } : Jvm.MethodName) method_37_code (5 : Nat) (Option.some Jvm.ClassFile.FieldType.int) [((0 : Nat), (10 : Nat), (13 : Nat), (13 : Nat)), ((0 : Nat), (10 : Nat), (17 : Nat), (17 : Nat))]) ∈ lw_all := lw_g (lw_at lw_m9 232 rfl) rfl
theorem q2248 : (Jvm.Cond.methodLink "CourierClashLaw" (123 : Nat) ({ cls := "CourierClash", name := "nextStreet", desc := "(II)I" } : Jvm.MethodName)) ∈ lw_all := lw_g (lw_at lw_m9 233 rfl) rfl
theorem q2256 : (Jvm.Cond.methodLink "CourierClashLaw" (303 : Nat) ({ cls := "CourierClashLaw", name := "bestParcel", desc := "(LCourierClash;I[J)I" } : Jvm.MethodName)) ∈ lw_all := lw_g (lw_at lw_m10 1 rfl) rfl
theorem q2257 : (Jvm.Cond.static ({ cls := "CourierClashLaw", name := "bestParcel", desc := "(LCourierClash;I[J)I" } : Jvm.MethodName)) ∈ lw_all := lw_g (lw_at lw_m10 2 rfl) rfl
theorem q2258 : (Jvm.Cond.codeWith ({ cls := "CourierClashLaw", name := "bestParcel", desc := "(LCourierClash;I[J)I" } : Jvm.MethodName) method_38_code (4 : Nat) (Option.some Jvm.ClassFile.FieldType.int) [((0 : Nat), (9 : Nat), (12 : Nat), (13 : Nat)), ((0 : Nat), (9 : Nat), (15 : Nat), (17 : Nat))]) ∈ lw_all := lw_g (lw_at lw_m10 3 rfl) rfl
theorem q2259 : (Jvm.Cond.methodLink "CourierClashLaw" (126 : Nat) ({ cls := "CourierClash", name := "bestParcel", desc := "(I)I" } : Jvm.MethodName)) ∈ lw_all := lw_g (lw_at lw_m10 4 rfl) rfl
theorem q2321 : (Jvm.Cond.methodLink "CourierClashLaw" (306 : Nat) ({ cls := "CourierClashLaw", name := "whyNoOrder", desc := "(LCourierClash;II[J)I" } : Jvm.MethodName)) ∈ lw_all := lw_g (lw_at lw_m10 66 rfl) rfl
theorem q2322 : (Jvm.Cond.static ({ cls := "CourierClashLaw", name := "whyNoOrder", desc := "(LCourierClash;II[J)I" } : Jvm.MethodName)) ∈ lw_all := lw_g (lw_at lw_m10 67 rfl) rfl
theorem q2323 : (Jvm.Cond.codeWith ({ cls := "CourierClashLaw", name := "whyNoOrder", desc := "(LCourierClash;II[J)I" } : Jvm.MethodName) method_39_code (5 : Nat) (Option.some Jvm.ClassFile.FieldType.int) [((0 : Nat), (10 : Nat), (13 : Nat), (13 : Nat))]) ∈ lw_all := lw_g (lw_at lw_m10 68 rfl) rfl
theorem q2324 : (Jvm.Cond.methodLink "CourierClashLaw" (129 : Nat) ({ cls := "CourierClash", name := "whyNoOrder", desc := "(II)I" } : Jvm.MethodName)) ∈ lw_all := lw_g (lw_at lw_m10 69 rfl) rfl
theorem q2328 : (Jvm.Cond.methodLink "CourierClashLaw" (309 : Nat) ({ cls := "CourierClashLaw", name := "wouldGo", desc := "(LCourierClash;I[J)I" } : Jvm.MethodName)) ∈ lw_all := lw_g (lw_at lw_m10 73 rfl) rfl
theorem q2329 : (Jvm.Cond.static ({ cls := "CourierClashLaw", name := "wouldGo", desc := "(LCourierClash;I[J)I" } : Jvm.MethodName)) ∈ lw_all := lw_g (lw_at lw_m10 74 rfl) rfl
theorem q2330 : (Jvm.Cond.codeWith ({ cls := "CourierClashLaw", name := "wouldGo", desc := "(LCourierClash;I[J)I" } : Jvm.MethodName) method_40_code (4 : Nat) (Option.some Jvm.ClassFile.FieldType.int) [((0 : Nat), (9 : Nat), (12 : Nat), (13 : Nat))]) ∈ lw_all := lw_g (lw_at lw_m10 75 rfl) rfl
theorem q2331 : (Jvm.Cond.methodLink "CourierClashLaw" (132 : Nat) ({ cls := "CourierClash", name := "wouldGo", desc := "(I)I" } : Jvm.MethodName)) ∈ lw_all := lw_g (lw_at lw_m10 76 rfl) rfl
theorem q2335 : (Jvm.Cond.classLink "CourierClashLaw" (136 : Nat) "CourierClashModel") ∈ lw_all := lw_g (lw_at lw_m10 80 rfl) rfl
theorem q2337 : (Jvm.Cond.methodLink "CourierClashLaw" (138 : Nat) ({ cls := "CourierClashModel", name := "<init>", desc := "()V" } : Jvm.MethodName)) ∈ lw_all := lw_g (lw_at lw_m10 82 rfl) rfl
theorem q2412 : (Jvm.Cond.methodLink "CourierClashLaw" (145 : Nat) ({ cls := "CourierClashModel", name := "thrown", desc := "()I" } : Jvm.MethodName)) ∈ lw_all := lw_g (lw_at lw_m10 157 rfl) rfl
theorem q2416 : (Jvm.Cond.methodLink "CourierClashLaw" (144 : Nat) ({ cls := "CourierClashModel", name := "addStreet", desc := "(IIZ)I" } : Jvm.MethodName)) ∈ lw_all := lw_g (lw_at lw_m10 161 rfl) rfl
theorem q2442 : (Jvm.Cond.methodLink "CourierClashLaw" (151 : Nat) ({ cls := "CourierClashModel", name := "toggleStreet", desc := "(I)Z" } : Jvm.MethodName)) ∈ lw_all := lw_g (lw_at lw_m10 187 rfl) rfl
theorem q2458 : (Jvm.Cond.methodLink "CourierClashLaw" (155 : Nat) ({ cls := "CourierClashModel", name := "place", desc := "(II)I" } : Jvm.MethodName)) ∈ lw_all := lw_g (lw_at lw_m10 203 rfl) rfl
theorem q2469 : (Jvm.Cond.methodLink "CourierClashLaw" (158 : Nat) ({ cls := "CourierClashModel", name := "toggleVan", desc := "(I)Z" } : Jvm.MethodName)) ∈ lw_all := lw_g (lw_at lw_m10 214 rfl) rfl
theorem q2485 : (Jvm.Cond.methodLink "CourierClashLaw" (161 : Nat) ({ cls := "CourierClashModel", name := "setCapacity", desc := "(I)I" } : Jvm.MethodName)) ∈ lw_all := lw_g (lw_at lw_m10 230 rfl) rfl
theorem q2489 : (Jvm.Cond.methodLink "CourierClashLaw" (165 : Nat) ({ cls := "CourierClashModel", name := "addParcel", desc := "(IIII)I" } : Jvm.MethodName)) ∈ lw_all := lw_g (lw_at lw_m10 234 rfl) rfl
theorem q2497 : (Jvm.Cond.methodLink "CourierClashLaw" (168 : Nat) ({ cls := "CourierClashModel", name := "setLimit", desc := "(I)I" } : Jvm.MethodName)) ∈ lw_all := lw_g (lw_at lw_m11 2 rfl) rfl
theorem q2501 : (Jvm.Cond.methodLink "CourierClashLaw" (171 : Nat) ({ cls := "CourierClashModel", name := "order", desc := "(II)I" } : Jvm.MethodName)) ∈ lw_all := lw_g (lw_at lw_m11 6 rfl) rfl
theorem q2517 : (Jvm.Cond.methodLink "CourierClashLaw" (174 : Nat) ({ cls := "CourierClashModel", name := "takeBack", desc := "(I)Z" } : Jvm.MethodName)) ∈ lw_all := lw_g (lw_at lw_m11 22 rfl) rfl
theorem q2521 : (Jvm.Cond.methodLink "CourierClashLaw" (178 : Nat) ({ cls := "CourierClashModel", name := "turn", desc := "()I" } : Jvm.MethodName)) ∈ lw_all := lw_g (lw_at lw_m11 26 rfl) rfl
theorem q2557 : (Jvm.Cond.methodLink "CourierClashLaw" (181 : Nat) ({ cls := "CourierClashModel", name := "append", desc := "(I)I" } : Jvm.MethodName)) ∈ lw_all := lw_g (lw_at lw_m11 62 rfl) rfl
theorem q2561 : (Jvm.Cond.methodLink "CourierClashLaw" (185 : Nat) ({ cls := "CourierClashModel", name := "clearBuffer", desc := "()I" } : Jvm.MethodName)) ∈ lw_all := lw_g (lw_at lw_m11 66 rfl) rfl
theorem q2565 : (Jvm.Cond.methodLink "CourierClashLaw" (189 : Nat) ({ cls := "CourierClashModel", name := "firstError", desc := "()I" } : Jvm.MethodName)) ∈ lw_all := lw_g (lw_at lw_m11 70 rfl) rfl
theorem q2585 : (Jvm.Cond.methodLink "CourierClashLaw" (192 : Nat) ({ cls := "CourierClashModel", name := "play", desc := "()I" } : Jvm.MethodName)) ∈ lw_all := lw_g (lw_at lw_m11 90 rfl) rfl
theorem q2589 : (Jvm.Cond.methodLink "CourierClashLaw" (197 : Nat) ({ cls := "CourierClashModel", name := "hasStopped", desc := "()Z" } : Jvm.MethodName)) ∈ lw_all := lw_g (lw_at lw_m11 94 rfl) rfl
theorem q2593 : (Jvm.Cond.methodLink "CourierClashLaw" (200 : Nat) ({ cls := "CourierClashModel", name := "stoppedPart", desc := "()I" } : Jvm.MethodName)) ∈ lw_all := lw_g (lw_at lw_m11 98 rfl) rfl
theorem q2597 : (Jvm.Cond.methodLink "CourierClashLaw" (203 : Nat) ({ cls := "CourierClashModel", name := "undo", desc := "()I" } : Jvm.MethodName)) ∈ lw_all := lw_g (lw_at lw_m11 102 rfl) rfl
theorem q2601 : (Jvm.Cond.methodLink "CourierClashLaw" (207 : Nat) ({ cls := "CourierClashModel", name := "keep", desc := "()I" } : Jvm.MethodName)) ∈ lw_all := lw_g (lw_at lw_m11 106 rfl) rfl
theorem q2605 : (Jvm.Cond.methodLink "CourierClashLaw" (210 : Nat) ({ cls := "CourierClashModel", name := "restore", desc := "()I" } : Jvm.MethodName)) ∈ lw_all := lw_g (lw_at lw_m11 110 rfl) rfl
theorem q2609 : (Jvm.Cond.methodLink "CourierClashLaw" (214 : Nat) ({ cls := "CourierClashModel", name := "savedStates", desc := "()I" } : Jvm.MethodName)) ∈ lw_all := lw_g (lw_at lw_m11 114 rfl) rfl
theorem q2613 : (Jvm.Cond.methodLink "CourierClashLaw" (218 : Nat) ({ cls := "CourierClashModel", name := "streets", desc := "()I" } : Jvm.MethodName)) ∈ lw_all := lw_g (lw_at lw_m11 118 rfl) rfl
theorem q2617 : (Jvm.Cond.methodLink "CourierClashLaw" (221 : Nat) ({ cls := "CourierClashModel", name := "fromOf", desc := "(I)I" } : Jvm.MethodName)) ∈ lw_all := lw_g (lw_at lw_m11 122 rfl) rfl
theorem q2621 : (Jvm.Cond.methodLink "CourierClashLaw" (224 : Nat) ({ cls := "CourierClashModel", name := "toOf", desc := "(I)I" } : Jvm.MethodName)) ∈ lw_all := lw_g (lw_at lw_m11 126 rfl) rfl
theorem q2625 : (Jvm.Cond.methodLink "CourierClashLaw" (227 : Nat) ({ cls := "CourierClashModel", name := "isOpen", desc := "(I)Z" } : Jvm.MethodName)) ∈ lw_all := lw_g (lw_at lw_m11 130 rfl) rfl
theorem q2629 : (Jvm.Cond.methodLink "CourierClashLaw" (230 : Nat) ({ cls := "CourierClashModel", name := "junctionOf", desc := "(I)I" } : Jvm.MethodName)) ∈ lw_all := lw_g (lw_at lw_m11 134 rfl) rfl
theorem q2637 : (Jvm.Cond.methodLink "CourierClashLaw" (233 : Nat) ({ cls := "CourierClashModel", name := "hasVan", desc := "(I)Z" } : Jvm.MethodName)) ∈ lw_all := lw_g (lw_at lw_m11 142 rfl) rfl
theorem q2641 : (Jvm.Cond.methodLink "CourierClashLaw" (236 : Nat) ({ cls := "CourierClashModel", name := "loadOf", desc := "(I)I" } : Jvm.MethodName)) ∈ lw_all := lw_g (lw_at lw_m11 146 rfl) rfl
theorem q2645 : (Jvm.Cond.methodLink "CourierClashLaw" (239 : Nat) ({ cls := "CourierClashModel", name := "hasOrder", desc := "(I)Z" } : Jvm.MethodName)) ∈ lw_all := lw_g (lw_at lw_m11 150 rfl) rfl
theorem q2649 : (Jvm.Cond.methodLink "CourierClashLaw" (242 : Nat) ({ cls := "CourierClashModel", name := "orderOf", desc := "(I)I" } : Jvm.MethodName)) ∈ lw_all := lw_g (lw_at lw_m11 154 rfl) rfl
theorem q2653 : (Jvm.Cond.methodLink "CourierClashLaw" (245 : Nat) ({ cls := "CourierClashModel", name := "movesOf", desc := "(I)I" } : Jvm.MethodName)) ∈ lw_all := lw_g (lw_at lw_m11 158 rfl) rfl
theorem q2657 : (Jvm.Cond.methodLink "CourierClashLaw" (248 : Nat) ({ cls := "CourierClashModel", name := "outcomeOf", desc := "(I)I" } : Jvm.MethodName)) ∈ lw_all := lw_g (lw_at lw_m11 162 rfl) rfl
theorem q2661 : (Jvm.Cond.methodLink "CourierClashLaw" (252 : Nat) ({ cls := "CourierClashModel", name := "parcels", desc := "()I" } : Jvm.MethodName)) ∈ lw_all := lw_g (lw_at lw_m11 166 rfl) rfl
theorem q2665 : (Jvm.Cond.methodLink "CourierClashLaw" (255 : Nat) ({ cls := "CourierClashModel", name := "isWaiting", desc := "(I)Z" } : Jvm.MethodName)) ∈ lw_all := lw_g (lw_at lw_m11 170 rfl) rfl
theorem q2673 : (Jvm.Cond.methodLink "CourierClashLaw" (258 : Nat) ({ cls := "CourierClashModel", name := "isDelivered", desc := "(I)Z" } : Jvm.MethodName)) ∈ lw_all := lw_g (lw_at lw_m11 178 rfl) rfl
theorem q2677 : (Jvm.Cond.methodLink "CourierClashLaw" (261 : Nat) ({ cls := "CourierClashModel", name := "courierOf", desc := "(I)I" } : Jvm.MethodName)) ∈ lw_all := lw_g (lw_at lw_m11 182 rfl) rfl
theorem q2681 : (Jvm.Cond.methodLink "CourierClashLaw" (264 : Nat) ({ cls := "CourierClashModel", name := "placeOf", desc := "(I)I" } : Jvm.MethodName)) ∈ lw_all := lw_g (lw_at lw_m11 186 rfl) rfl
theorem q2689 : (Jvm.Cond.methodLink "CourierClashLaw" (267 : Nat) ({ cls := "CourierClashModel", name := "pointsOf", desc := "(I)I" } : Jvm.MethodName)) ∈ lw_all := lw_g (lw_at lw_m11 194 rfl) rfl
theorem q2693 : (Jvm.Cond.methodLink "CourierClashLaw" (270 : Nat) ({ cls := "CourierClashModel", name := "pointsByParcels", desc := "(I)I" } : Jvm.MethodName)) ∈ lw_all := lw_g (lw_at lw_m11 198 rfl) rfl
theorem q2697 : (Jvm.Cond.methodLink "CourierClashLaw" (274 : Nat) ({ cls := "CourierClashModel", name := "turnsPassed", desc := "()I" } : Jvm.MethodName)) ∈ lw_all := lw_g (lw_at lw_m11 202 rfl) rfl
theorem q2701 : (Jvm.Cond.methodLink "CourierClashLaw" (278 : Nat) ({ cls := "CourierClashModel", name := "failedMoves", desc := "()I" } : Jvm.MethodName)) ∈ lw_all := lw_g (lw_at lw_m11 206 rfl) rfl
theorem q2705 : (Jvm.Cond.methodLink "CourierClashLaw" (282 : Nat) ({ cls := "CourierClashModel", name := "timesNoted", desc := "()I" } : Jvm.MethodName)) ∈ lw_all := lw_g (lw_at lw_m11 210 rfl) rfl
theorem q2709 : (Jvm.Cond.methodLink "CourierClashLaw" (286 : Nat) ({ cls := "CourierClashModel", name := "positionsNoted", desc := "()I" } : Jvm.MethodName)) ∈ lw_all := lw_g (lw_at lw_m11 214 rfl) rfl
theorem q2717 : (Jvm.Cond.methodLink "CourierClashLaw" (290 : Nat) ({ cls := "CourierClashModel", name := "whyOver", desc := "()I" } : Jvm.MethodName)) ∈ lw_all := lw_g (lw_at lw_m11 222 rfl) rfl
theorem q2721 : (Jvm.Cond.methodLink "CourierClashLaw" (293 : Nat) ({ cls := "CourierClashModel", name := "reach", desc := "(I)I" } : Jvm.MethodName)) ∈ lw_all := lw_g (lw_at lw_m11 226 rfl) rfl
theorem q2733 : (Jvm.Cond.methodLink "CourierClashLaw" (296 : Nat) ({ cls := "CourierClashModel", name := "reachByJoining", desc := "(I)I" } : Jvm.MethodName)) ∈ lw_all := lw_g (lw_at lw_m11 238 rfl) rfl
theorem q2737 : (Jvm.Cond.methodLink "CourierClashLaw" (299 : Nat) ({ cls := "CourierClashModel", name := "distance", desc := "(II)I" } : Jvm.MethodName)) ∈ lw_all := lw_g (lw_at lw_m12 2 rfl) rfl
theorem q2745 : (Jvm.Cond.methodLink "CourierClashLaw" (302 : Nat) ({ cls := "CourierClashModel", name := "nextStreet", desc := "(II)I" } : Jvm.MethodName)) ∈ lw_all := lw_g (lw_at lw_m12 10 rfl) rfl
theorem q2749 : (Jvm.Cond.methodLink "CourierClashLaw" (305 : Nat) ({ cls := "CourierClashModel", name := "bestParcel", desc := "(I)I" } : Jvm.MethodName)) ∈ lw_all := lw_g (lw_at lw_m12 14 rfl) rfl
theorem q2753 : (Jvm.Cond.methodLink "CourierClashLaw" (308 : Nat) ({ cls := "CourierClashModel", name := "whyNoOrder", desc := "(II)I" } : Jvm.MethodName)) ∈ lw_all := lw_g (lw_at lw_m12 18 rfl) rfl
theorem q2757 : (Jvm.Cond.methodLink "CourierClashLaw" (311 : Nat) ({ cls := "CourierClashModel", name := "wouldGo", desc := "(I)I" } : Jvm.MethodName)) ∈ lw_all := lw_g (lw_at lw_m12 22 rfl) rfl
theorem q2761 : (Jvm.Cond.methodLink "CourierClashLaw" (316 : Nat) ({ cls := "CourierClashModel", name := "meanLoad", desc := "()F" } : Jvm.MethodName)) ∈ lw_all := lw_g (lw_at lw_m12 26 rfl) rfl
theorem q2770 : (Jvm.Cond.methodLink "CourierClashLaw" (321 : Nat) ({ cls := "CourierClashModel", name := "deliveredShare", desc := "()D" } : Jvm.MethodName)) ∈ lw_all := lw_g (lw_at lw_m12 35 rfl) rfl
theorem q2778 : (Jvm.Cond.methodLink "CourierClashLaw" (326 : Nat) ({ cls := "CourierClashModel", name := "digest", desc := "()J" } : Jvm.MethodName)) ∈ lw_all := lw_g (lw_at lw_m12 43 rfl) rfl

/-! the law's own entry -/
set_option maxRecDepth 100000
abbrev cL_law : ByteArray := code
def dkwL_law_110 : List UInt8 := [148, 153, 0, 5, 3, 172, 132, 4, 5, 167, 245, 60, 4, 172]
abbrev dktL_law_110 : List UInt8 := dkwL_law_110 ++ []
def dkwL_law_109 : List UInt8 := [153, 0, 11, 24, 7, 24, 7, 151, 154, 0, 5, 3, 172, 167, 0, 17, 43, 182, 1, 66, 44, 182, 1, 70]
abbrev dktL_law_109 : List UInt8 := dkwL_law_109 ++ dktL_law_110
def dkwL_law_108 : List UInt8 := [182, 1, 61, 57, 5, 44, 182, 1, 65, 57, 7, 24, 5, 24, 7, 151, 153, 0, 21, 24, 5, 24, 5, 151]
abbrev dktL_law_108 : List UInt8 := dkwL_law_108 ++ dktL_law_109
def dkwL_law_107 : List UInt8 := [23, 5, 23, 5, 149, 153, 0, 11, 23, 6, 23, 6, 149, 154, 0, 5, 3, 172, 167, 0, 58, 43]
abbrev dktL_law_107 : List UInt8 := dkwL_law_107 ++ dktL_law_108
def dkwL_law_106 : List UInt8 := [167, 0, 99, 43, 182, 1, 56, 56, 5, 44, 182, 1, 60, 56, 6, 23, 5, 23, 6, 149, 153, 0, 21]
abbrev dktL_law_106 : List UInt8 := dkwL_law_106 ++ dktL_law_107
def dkwL_law_105 : List UInt8 := [159, 0, 5, 3, 172, 21, 5, 154, 0, 15, 45, 3, 47, 21, 6, 133, 148, 153, 0, 5, 3, 172]
abbrev dktL_law_105 : List UInt8 := dkwL_law_105 ++ dktL_law_106
def dkwL_law_104 : List UInt8 := [184, 1, 53, 54, 5, 44, 42, 21, 4, 4, 96, 46, 182, 1, 55, 54, 6, 44, 182, 0, 145, 21, 5]
abbrev dktL_law_104 : List UInt8 := dkwL_law_104 ++ dktL_law_105
def dkwL_law_103 : List UInt8 := [3, 47, 21, 6, 133, 148, 153, 0, 5, 3, 172, 167, 0, 155, 43, 42, 21, 4, 4, 96, 46, 45]
abbrev dktL_law_103 : List UInt8 := dkwL_law_103 ++ dktL_law_104
def dkwL_law_102 : List UInt8 := [96, 46, 182, 1, 52, 54, 6, 44, 182, 0, 145, 21, 5, 159, 0, 5, 3, 172, 21, 5, 154, 0, 15, 45]
abbrev dktL_law_102 : List UInt8 := dkwL_law_102 ++ dktL_law_103
def dkwL_law_101 : List UInt8 := [46, 42, 21, 4, 5, 96, 46, 45, 184, 1, 50, 54, 5, 44, 42, 21, 4, 4, 96, 46, 42, 21, 4, 5]
abbrev dktL_law_101 : List UInt8 := dkwL_law_101 ++ dktL_law_102
def dkwL_law_100 : List UInt8 := [154, 0, 15, 45, 3, 47, 21, 6, 133, 148, 153, 0, 5, 3, 172, 167, 0, 223, 43, 42, 21, 4, 4, 96]
abbrev dktL_law_100 : List UInt8 := dkwL_law_100 ++ dktL_law_101
def dkwL_law_99 : List UInt8 := [21, 4, 4, 96, 46, 182, 1, 49, 54, 6, 44, 182, 0, 145, 21, 5, 159, 0, 5, 3, 172, 21, 5]
abbrev dktL_law_99 : List UInt8 := dkwL_law_99 ++ dktL_law_100
def dkwL_law_98 : List UInt8 := [153, 0, 5, 3, 172, 167, 1, 23, 43, 42, 21, 4, 4, 96, 46, 45, 184, 1, 47, 54, 5, 44, 42]
abbrev dktL_law_98 : List UInt8 := dkwL_law_98 ++ dktL_law_99
def dkwL_law_97 : List UInt8 := [182, 0, 145, 21, 5, 159, 0, 5, 3, 172, 21, 5, 154, 0, 15, 45, 3, 47, 21, 6, 133, 148]
abbrev dktL_law_97 : List UInt8 := dkwL_law_97 ++ dktL_law_98
def dkwL_law_96 : List UInt8 := [184, 1, 44, 54, 5, 44, 42, 21, 4, 4, 96, 46, 42, 21, 4, 5, 96, 46, 182, 1, 46, 54, 6, 44]
abbrev dktL_law_96 : List UInt8 := dkwL_law_96 ++ dktL_law_97
def dkwL_law_95 : List UInt8 := [148, 153, 0, 5, 3, 172, 167, 1, 91, 43, 42, 21, 4, 4, 96, 46, 42, 21, 4, 5, 96, 46, 45]
abbrev dktL_law_95 : List UInt8 := dkwL_law_95 ++ dktL_law_96
def dkwL_law_94 : List UInt8 := [54, 6, 44, 182, 0, 145, 21, 5, 159, 0, 5, 3, 172, 21, 5, 154, 0, 15, 45, 3, 47, 21, 6, 133]
abbrev dktL_law_94 : List UInt8 := dkwL_law_94 ++ dktL_law_95
def dkwL_law_93 : List UInt8 := [46, 45, 184, 1, 41, 54, 5, 44, 42, 21, 4, 4, 96, 46, 42, 21, 4, 5, 96, 46, 182, 1, 43]
abbrev dktL_law_93 : List UInt8 := dkwL_law_93 ++ dktL_law_94
def dkwL_law_92 : List UInt8 := [21, 6, 133, 148, 153, 0, 5, 3, 172, 167, 1, 159, 43, 42, 21, 4, 4, 96, 46, 42, 21, 4, 5, 96]
abbrev dktL_law_92 : List UInt8 := dkwL_law_92 ++ dktL_law_93
def dkwL_law_91 : List UInt8 := [182, 1, 40, 54, 6, 44, 182, 0, 145, 21, 5, 159, 0, 5, 3, 172, 21, 5, 154, 0, 15, 45, 3, 47]
abbrev dktL_law_91 : List UInt8 := dkwL_law_91 ++ dktL_law_92
def dkwL_law_90 : List UInt8 := [167, 1, 215, 43, 42, 21, 4, 4, 96, 46, 45, 184, 1, 38, 54, 5, 44, 42, 21, 4, 4, 96, 46]
abbrev dktL_law_90 : List UInt8 := dkwL_law_90 ++ dktL_law_91
def dkwL_law_89 : List UInt8 := [21, 5, 159, 0, 5, 3, 172, 21, 5, 154, 0, 15, 45, 3, 47, 21, 6, 133, 148, 153, 0, 5, 3, 172]
abbrev dktL_law_89 : List UInt8 := dkwL_law_89 ++ dktL_law_90
def dkwL_law_88 : List UInt8 := [46, 45, 184, 1, 35, 54, 5, 44, 42, 21, 4, 4, 96, 46, 182, 1, 37, 54, 6, 44, 182, 0, 145]
abbrev dktL_law_88 : List UInt8 := dkwL_law_88 ++ dktL_law_89
def dkwL_law_87 : List UInt8 := [159, 2, 30, 3, 172, 43, 182, 1, 31, 44, 182, 1, 34, 159, 2, 17, 3, 172, 43, 42, 21, 4, 4, 96]
abbrev dktL_law_87 : List UInt8 := dkwL_law_87 ++ dktL_law_88
def dkwL_law_86 : List UInt8 := [172, 43, 182, 1, 23, 44, 182, 1, 26, 159, 2, 43, 3, 172, 43, 182, 1, 27, 44, 182, 1, 30]
abbrev dktL_law_86 : List UInt8 := dkwL_law_86 ++ dktL_law_87
def dkwL_law_85 : List UInt8 := [182, 1, 15, 44, 182, 1, 18, 159, 2, 69, 3, 172, 43, 182, 1, 19, 44, 182, 1, 22, 159, 2, 56, 3]
abbrev dktL_law_85 : List UInt8 := dkwL_law_85 ++ dktL_law_86
def dkwL_law_84 : List UInt8 := [172, 21, 5, 154, 0, 15, 45, 3, 47, 21, 6, 133, 148, 153, 0, 5, 3, 172, 167, 2, 80, 43]
abbrev dktL_law_84 : List UInt8 := dkwL_law_84 ++ dktL_law_85
def dkwL_law_83 : List UInt8 := [54, 5, 44, 42, 21, 4, 4, 96, 46, 182, 1, 14, 54, 6, 44, 182, 0, 145, 21, 5, 159, 0, 5, 3]
abbrev dktL_law_83 : List UInt8 := dkwL_law_83 ++ dktL_law_84
def dkwL_law_82 : List UInt8 := [21, 6, 133, 148, 153, 0, 5, 3, 172, 167, 2, 136, 43, 42, 21, 4, 4, 96, 46, 45, 184, 1, 12]
abbrev dktL_law_82 : List UInt8 := dkwL_law_82 ++ dktL_law_83
def dkwL_law_81 : List UInt8 := [182, 1, 11, 54, 6, 44, 182, 0, 145, 21, 5, 159, 0, 5, 3, 172, 21, 5, 154, 0, 15, 45, 3, 47]
abbrev dktL_law_81 : List UInt8 := dkwL_law_81 ++ dktL_law_82
def dkwL_law_80 : List UInt8 := [167, 2, 192, 43, 42, 21, 4, 4, 96, 46, 45, 184, 1, 9, 54, 5, 44, 42, 21, 4, 4, 96, 46]
abbrev dktL_law_80 : List UInt8 := dkwL_law_80 ++ dktL_law_81
def dkwL_law_79 : List UInt8 := [21, 5, 159, 0, 5, 3, 172, 21, 5, 154, 0, 15, 45, 3, 47, 21, 6, 133, 148, 153, 0, 5, 3, 172]
abbrev dktL_law_79 : List UInt8 := dkwL_law_79 ++ dktL_law_80
def dkwL_law_78 : List UInt8 := [46, 45, 184, 1, 6, 54, 5, 44, 42, 21, 4, 4, 96, 46, 182, 1, 8, 54, 6, 44, 182, 0, 145]
abbrev dktL_law_78 : List UInt8 := dkwL_law_78 ++ dktL_law_79
def dkwL_law_77 : List UInt8 := [154, 0, 15, 45, 3, 47, 21, 6, 133, 148, 153, 0, 5, 3, 172, 167, 2, 248, 43, 42, 21, 4, 4, 96]
abbrev dktL_law_77 : List UInt8 := dkwL_law_77 ++ dktL_law_78
def dkwL_law_76 : List UInt8 := [21, 4, 4, 96, 46, 182, 1, 5, 54, 6, 44, 182, 0, 145, 21, 5, 159, 0, 5, 3, 172, 21, 5]
abbrev dktL_law_76 : List UInt8 := dkwL_law_76 ++ dktL_law_77
def dkwL_law_75 : List UInt8 := [153, 0, 5, 3, 172, 167, 3, 48, 43, 42, 21, 4, 4, 96, 46, 45, 184, 1, 3, 54, 5, 44, 42]
abbrev dktL_law_75 : List UInt8 := dkwL_law_75 ++ dktL_law_76
def dkwL_law_74 : List UInt8 := [159, 0, 5, 3, 172, 21, 5, 154, 0, 22, 45, 3, 47, 21, 6, 153, 0, 7, 10, 167, 0, 4, 9, 148]
abbrev dktL_law_74 : List UInt8 := dkwL_law_74 ++ dktL_law_75
def dkwL_law_73 : List UInt8 := [45, 184, 1, 0, 54, 5, 44, 42, 21, 4, 4, 96, 46, 182, 1, 2, 54, 6, 44, 182, 0, 145, 21, 5]
abbrev dktL_law_73 : List UInt8 := dkwL_law_73 ++ dktL_law_74
def dkwL_law_72 : List UInt8 := [153, 0, 7, 10, 167, 0, 4, 9, 148, 153, 0, 5, 3, 172, 167, 3, 111, 43, 42, 21, 4, 4, 96, 46]
abbrev dktL_law_72 : List UInt8 := dkwL_law_72 ++ dktL_law_73
def dkwL_law_71 : List UInt8 := [54, 6, 44, 182, 0, 145, 21, 5, 159, 0, 5, 3, 172, 21, 5, 154, 0, 22, 45, 3, 47, 21, 6]
abbrev dktL_law_71 : List UInt8 := dkwL_law_71 ++ dktL_law_72
def dkwL_law_70 : List UInt8 := [172, 43, 42, 21, 4, 4, 96, 46, 45, 184, 0, 253, 54, 5, 44, 42, 21, 4, 4, 96, 46, 182, 0, 255]
abbrev dktL_law_70 : List UInt8 := dkwL_law_70 ++ dktL_law_71
def dkwL_law_69 : List UInt8 := [21, 6, 133, 148, 153, 0, 5, 3, 172, 167, 3, 187, 43, 182, 0, 249, 44, 182, 0, 252, 159, 3, 176, 3]
abbrev dktL_law_69 : List UInt8 := dkwL_law_69 ++ dktL_law_70
def dkwL_law_68 : List UInt8 := [182, 0, 248, 54, 6, 44, 182, 0, 145, 21, 5, 159, 0, 5, 3, 172, 21, 5, 154, 0, 15, 45, 3, 47]
abbrev dktL_law_68 : List UInt8 := dkwL_law_68 ++ dktL_law_69
def dkwL_law_67 : List UInt8 := [167, 3, 243, 43, 42, 21, 4, 4, 96, 46, 45, 184, 0, 246, 54, 5, 44, 42, 21, 4, 4, 96, 46]
abbrev dktL_law_67 : List UInt8 := dkwL_law_67 ++ dktL_law_68
def dkwL_law_66 : List UInt8 := [21, 5, 159, 0, 5, 3, 172, 21, 5, 154, 0, 15, 45, 3, 47, 21, 6, 133, 148, 153, 0, 5, 3, 172]
abbrev dktL_law_66 : List UInt8 := dkwL_law_66 ++ dktL_law_67
def dkwL_law_65 : List UInt8 := [46, 45, 184, 0, 243, 54, 5, 44, 42, 21, 4, 4, 96, 46, 182, 0, 245, 54, 6, 44, 182, 0, 145]
abbrev dktL_law_65 : List UInt8 := dkwL_law_65 ++ dktL_law_66
def dkwL_law_64 : List UInt8 := [154, 0, 15, 45, 3, 47, 21, 6, 133, 148, 153, 0, 5, 3, 172, 167, 4, 43, 43, 42, 21, 4, 4, 96]
abbrev dktL_law_64 : List UInt8 := dkwL_law_64 ++ dktL_law_65
def dkwL_law_63 : List UInt8 := [42, 21, 4, 4, 96, 46, 182, 0, 242, 54, 6, 44, 182, 0, 145, 21, 5, 159, 0, 5, 3, 172, 21, 5]
abbrev dktL_law_63 : List UInt8 := dkwL_law_63 ++ dktL_law_64
def dkwL_law_62 : List UInt8 := [9, 148, 153, 0, 5, 3, 172, 167, 4, 99, 43, 42, 21, 4, 4, 96, 46, 45, 184, 0, 240, 54, 5, 44]
abbrev dktL_law_62 : List UInt8 := dkwL_law_62 ++ dktL_law_63
def dkwL_law_61 : List UInt8 := [21, 5, 159, 0, 5, 3, 172, 21, 5, 154, 0, 22, 45, 3, 47, 21, 6, 153, 0, 7, 10, 167, 0, 4]
abbrev dktL_law_61 : List UInt8 := dkwL_law_61 ++ dktL_law_62
def dkwL_law_60 : List UInt8 := [46, 45, 184, 0, 237, 54, 5, 44, 42, 21, 4, 4, 96, 46, 182, 0, 239, 54, 6, 44, 182, 0, 145]
abbrev dktL_law_60 : List UInt8 := dkwL_law_60 ++ dktL_law_61
def dkwL_law_59 : List UInt8 := [154, 0, 15, 45, 3, 47, 21, 6, 133, 148, 153, 0, 5, 3, 172, 167, 4, 162, 43, 42, 21, 4, 4, 96]
abbrev dktL_law_59 : List UInt8 := dkwL_law_59 ++ dktL_law_60
def dkwL_law_58 : List UInt8 := [42, 21, 4, 4, 96, 46, 182, 0, 236, 54, 6, 44, 182, 0, 145, 21, 5, 159, 0, 5, 3, 172, 21, 5]
abbrev dktL_law_58 : List UInt8 := dkwL_law_58 ++ dktL_law_59
def dkwL_law_57 : List UInt8 := [9, 148, 153, 0, 5, 3, 172, 167, 4, 218, 43, 42, 21, 4, 4, 96, 46, 45, 184, 0, 234, 54, 5, 44]
abbrev dktL_law_57 : List UInt8 := dkwL_law_57 ++ dktL_law_58
def dkwL_law_56 : List UInt8 := [21, 5, 159, 0, 5, 3, 172, 21, 5, 154, 0, 22, 45, 3, 47, 21, 6, 153, 0, 7, 10, 167, 0, 4]
abbrev dktL_law_56 : List UInt8 := dkwL_law_56 ++ dktL_law_57
def dkwL_law_55 : List UInt8 := [46, 45, 184, 0, 231, 54, 5, 44, 42, 21, 4, 4, 96, 46, 182, 0, 233, 54, 6, 44, 182, 0, 145]
abbrev dktL_law_55 : List UInt8 := dkwL_law_55 ++ dktL_law_56
def dkwL_law_54 : List UInt8 := [154, 0, 15, 45, 3, 47, 21, 6, 133, 148, 153, 0, 5, 3, 172, 167, 5, 25, 43, 42, 21, 4, 4, 96]
abbrev dktL_law_54 : List UInt8 := dkwL_law_54 ++ dktL_law_55
def dkwL_law_53 : List UInt8 := [42, 21, 4, 4, 96, 46, 182, 0, 230, 54, 6, 44, 182, 0, 145, 21, 5, 159, 0, 5, 3, 172, 21, 5]
abbrev dktL_law_53 : List UInt8 := dkwL_law_53 ++ dktL_law_54
def dkwL_law_52 : List UInt8 := [9, 148, 153, 0, 5, 3, 172, 167, 5, 81, 43, 42, 21, 4, 4, 96, 46, 45, 184, 0, 228, 54, 5, 44]
abbrev dktL_law_52 : List UInt8 := dkwL_law_52 ++ dktL_law_53
def dkwL_law_51 : List UInt8 := [21, 5, 159, 0, 5, 3, 172, 21, 5, 154, 0, 22, 45, 3, 47, 21, 6, 153, 0, 7, 10, 167, 0, 4]
abbrev dktL_law_51 : List UInt8 := dkwL_law_51 ++ dktL_law_52
def dkwL_law_50 : List UInt8 := [46, 45, 184, 0, 225, 54, 5, 44, 42, 21, 4, 4, 96, 46, 182, 0, 227, 54, 6, 44, 182, 0, 145]
abbrev dktL_law_50 : List UInt8 := dkwL_law_50 ++ dktL_law_51
def dkwL_law_49 : List UInt8 := [154, 0, 15, 45, 3, 47, 21, 6, 133, 148, 153, 0, 5, 3, 172, 167, 5, 144, 43, 42, 21, 4, 4, 96]
abbrev dktL_law_49 : List UInt8 := dkwL_law_49 ++ dktL_law_50
def dkwL_law_48 : List UInt8 := [21, 4, 4, 96, 46, 182, 0, 224, 54, 6, 44, 182, 0, 145, 21, 5, 159, 0, 5, 3, 172, 21, 5]
abbrev dktL_law_48 : List UInt8 := dkwL_law_48 ++ dktL_law_49
def dkwL_law_47 : List UInt8 := [153, 0, 5, 3, 172, 167, 5, 200, 43, 42, 21, 4, 4, 96, 46, 45, 184, 0, 222, 54, 5, 44, 42]
abbrev dktL_law_47 : List UInt8 := dkwL_law_47 ++ dktL_law_48
def dkwL_law_46 : List UInt8 := [182, 0, 145, 21, 5, 159, 0, 5, 3, 172, 21, 5, 154, 0, 15, 45, 3, 47, 21, 6, 133, 148]
abbrev dktL_law_46 : List UInt8 := dkwL_law_46 ++ dktL_law_47
def dkwL_law_45 : List UInt8 := [21, 4, 4, 96, 46, 45, 184, 0, 219, 54, 5, 44, 42, 21, 4, 4, 96, 46, 182, 0, 221, 54, 6, 44]
abbrev dktL_law_45 : List UInt8 := dkwL_law_45 ++ dktL_law_46
def dkwL_law_44 : List UInt8 := [182, 0, 214, 159, 6, 15, 3, 172, 43, 182, 0, 215, 44, 182, 0, 218, 159, 6, 2, 3, 172, 43, 42]
abbrev dktL_law_44 : List UInt8 := dkwL_law_44 ++ dktL_law_45
def dkwL_law_43 : List UInt8 := [154, 0, 15, 45, 3, 47, 21, 6, 133, 148, 153, 0, 5, 3, 172, 167, 6, 26, 43, 182, 0, 211, 44]
abbrev dktL_law_43 : List UInt8 := dkwL_law_43 ++ dktL_law_44
def dkwL_law_42 : List UInt8 := [184, 0, 208, 54, 5, 44, 182, 0, 210, 54, 6, 44, 182, 0, 145, 21, 5, 159, 0, 5, 3, 172, 21, 5]
abbrev dktL_law_42 : List UInt8 := dkwL_law_42 ++ dktL_law_43
def dkwL_law_41 : List UInt8 := [148, 153, 0, 5, 3, 172, 167, 6, 83, 43, 182, 0, 204, 44, 182, 0, 207, 159, 6, 72, 3, 172, 43, 45]
abbrev dktL_law_41 : List UInt8 := dkwL_law_41 ++ dktL_law_42
def dkwL_law_40 : List UInt8 := [54, 6, 44, 182, 0, 145, 21, 5, 159, 0, 5, 3, 172, 21, 5, 154, 0, 15, 45, 3, 47, 21, 6, 133]
abbrev dktL_law_40 : List UInt8 := dkwL_law_40 ++ dktL_law_41
def dkwL_law_39 : List UInt8 := [21, 6, 133, 148, 153, 0, 5, 3, 172, 167, 6, 127, 43, 45, 184, 0, 201, 54, 5, 44, 182, 0, 203]
abbrev dktL_law_39 : List UInt8 := dkwL_law_39 ++ dktL_law_40
def dkwL_law_38 : List UInt8 := [182, 0, 200, 54, 6, 44, 182, 0, 145, 21, 5, 159, 0, 5, 3, 172, 21, 5, 154, 0, 15, 45, 3, 47]
abbrev dktL_law_38 : List UInt8 := dkwL_law_38 ++ dktL_law_39
def dkwL_law_37 : List UInt8 := [167, 6, 184, 43, 182, 0, 193, 44, 182, 0, 197, 159, 6, 173, 3, 172, 43, 45, 184, 0, 198, 54, 5, 44]
abbrev dktL_law_37 : List UInt8 := dkwL_law_37 ++ dktL_law_38
def dkwL_law_36 : List UInt8 := [159, 0, 5, 3, 172, 21, 5, 154, 0, 15, 45, 3, 47, 21, 6, 133, 148, 153, 0, 5, 3, 172]
abbrev dktL_law_36 : List UInt8 := dkwL_law_36 ++ dktL_law_37
def dkwL_law_35 : List UInt8 := [159, 6, 230, 3, 172, 43, 45, 184, 0, 190, 54, 5, 44, 182, 0, 192, 54, 6, 44, 182, 0, 145, 21, 5]
abbrev dktL_law_35 : List UInt8 := dkwL_law_35 ++ dktL_law_36
def dkwL_law_34 : List UInt8 := [167, 6, 254, 43, 182, 0, 182, 44, 182, 0, 185, 159, 6, 243, 3, 172, 43, 182, 0, 186, 44, 182, 0, 189]
abbrev dktL_law_34 : List UInt8 := dkwL_law_34 ++ dktL_law_35
def dkwL_law_33 : List UInt8 := [159, 0, 5, 3, 172, 21, 5, 154, 0, 15, 45, 3, 47, 21, 6, 133, 148, 153, 0, 5, 3, 172]
abbrev dktL_law_33 : List UInt8 := dkwL_law_33 ++ dktL_law_34
def dkwL_law_32 : List UInt8 := [184, 0, 179, 54, 5, 44, 42, 21, 4, 4, 96, 46, 182, 0, 181, 54, 6, 44, 182, 0, 145, 21, 5]
abbrev dktL_law_32 : List UInt8 := dkwL_law_32 ++ dktL_law_33
def dkwL_law_31 : List UInt8 := [45, 3, 47, 21, 6, 133, 148, 153, 0, 5, 3, 172, 167, 7, 54, 43, 42, 21, 4, 4, 96, 46, 45]
abbrev dktL_law_31 : List UInt8 := dkwL_law_31 ++ dktL_law_32
def dkwL_law_30 : List UInt8 := [54, 5, 44, 182, 0, 178, 54, 6, 44, 182, 0, 145, 21, 5, 159, 0, 5, 3, 172, 21, 5, 154, 0, 15]
abbrev dktL_law_30 : List UInt8 := dkwL_law_30 ++ dktL_law_31
def dkwL_law_29 : List UInt8 := [21, 6, 153, 0, 7, 10, 167, 0, 4, 9, 148, 153, 0, 5, 3, 172, 167, 7, 98, 43, 45, 184, 0, 175]
abbrev dktL_law_29 : List UInt8 := dkwL_law_29 ++ dktL_law_30
def dkwL_law_28 : List UInt8 := [182, 0, 174, 54, 6, 44, 182, 0, 145, 21, 5, 159, 0, 5, 3, 172, 21, 5, 154, 0, 22, 45, 3, 47]
abbrev dktL_law_28 : List UInt8 := dkwL_law_28 ++ dktL_law_29
def dkwL_law_27 : List UInt8 := [167, 7, 161, 43, 42, 21, 4, 4, 96, 46, 45, 184, 0, 172, 54, 5, 44, 42, 21, 4, 4, 96, 46]
abbrev dktL_law_27 : List UInt8 := dkwL_law_27 ++ dktL_law_28
def dkwL_law_26 : List UInt8 := [159, 0, 5, 3, 172, 21, 5, 154, 0, 15, 45, 3, 47, 21, 6, 133, 148, 153, 0, 5, 3, 172]
abbrev dktL_law_26 : List UInt8 := dkwL_law_26 ++ dktL_law_27
def dkwL_law_25 : List UInt8 := [21, 4, 4, 96, 46, 42, 21, 4, 5, 96, 46, 182, 0, 171, 54, 6, 44, 182, 0, 145, 21, 5]
abbrev dktL_law_25 : List UInt8 := dkwL_law_25 ++ dktL_law_26
def dkwL_law_24 : List UInt8 := [167, 7, 229, 43, 42, 21, 4, 4, 96, 46, 42, 21, 4, 5, 96, 46, 45, 184, 0, 169, 54, 5, 44, 42]
abbrev dktL_law_24 : List UInt8 := dkwL_law_24 ++ dktL_law_25
def dkwL_law_23 : List UInt8 := [159, 0, 5, 3, 172, 21, 5, 154, 0, 15, 45, 3, 47, 21, 6, 133, 148, 153, 0, 5, 3, 172]
abbrev dktL_law_23 : List UInt8 := dkwL_law_23 ++ dktL_law_24
def dkwL_law_22 : List UInt8 := [184, 0, 166, 54, 5, 44, 42, 21, 4, 4, 96, 46, 182, 0, 168, 54, 6, 44, 182, 0, 145, 21, 5]
abbrev dktL_law_22 : List UInt8 := dkwL_law_22 ++ dktL_law_23
def dkwL_law_21 : List UInt8 := [45, 3, 47, 21, 6, 133, 148, 153, 0, 5, 3, 172, 167, 8, 29, 43, 42, 21, 4, 4, 96, 46, 45]
abbrev dktL_law_21 : List UInt8 := dkwL_law_21 ++ dktL_law_22
def dkwL_law_20 : List UInt8 := [7, 96, 46, 182, 0, 165, 54, 6, 44, 182, 0, 145, 21, 5, 159, 0, 5, 3, 172, 21, 5, 154, 0, 15]
abbrev dktL_law_20 : List UInt8 := dkwL_law_20 ++ dktL_law_21
def dkwL_law_19 : List UInt8 := [54, 5, 44, 42, 21, 4, 4, 96, 46, 42, 21, 4, 5, 96, 46, 42, 21, 4, 6, 96, 46, 42, 21, 4]
abbrev dktL_law_19 : List UInt8 := dkwL_law_19 ++ dktL_law_20
def dkwL_law_18 : List UInt8 := [46, 42, 21, 4, 5, 96, 46, 42, 21, 4, 6, 96, 46, 42, 21, 4, 7, 96, 46, 45, 184, 0, 162]
abbrev dktL_law_18 : List UInt8 := dkwL_law_18 ++ dktL_law_19
def dkwL_law_17 : List UInt8 := [154, 0, 15, 45, 3, 47, 21, 6, 133, 148, 153, 0, 5, 3, 172, 167, 8, 121, 43, 42, 21, 4, 4, 96]
abbrev dktL_law_17 : List UInt8 := dkwL_law_17 ++ dktL_law_18
def dkwL_law_16 : List UInt8 := [21, 4, 4, 96, 46, 182, 0, 161, 54, 6, 44, 182, 0, 145, 21, 5, 159, 0, 5, 3, 172, 21, 5]
abbrev dktL_law_16 : List UInt8 := dkwL_law_16 ++ dktL_law_17
def dkwL_law_15 : List UInt8 := [153, 0, 5, 3, 172, 167, 8, 177, 43, 42, 21, 4, 4, 96, 46, 45, 184, 0, 159, 54, 5, 44, 42]
abbrev dktL_law_15 : List UInt8 := dkwL_law_15 ++ dktL_law_16
def dkwL_law_14 : List UInt8 := [159, 0, 5, 3, 172, 21, 5, 154, 0, 22, 45, 3, 47, 21, 6, 153, 0, 7, 10, 167, 0, 4, 9, 148]
abbrev dktL_law_14 : List UInt8 := dkwL_law_14 ++ dktL_law_15
def dkwL_law_13 : List UInt8 := [184, 0, 156, 54, 5, 44, 42, 21, 4, 4, 96, 46, 182, 0, 158, 54, 6, 44, 182, 0, 145, 21, 5]
abbrev dktL_law_13 : List UInt8 := dkwL_law_13 ++ dktL_law_14
def dkwL_law_12 : List UInt8 := [45, 3, 47, 21, 6, 133, 148, 153, 0, 5, 3, 172, 167, 8, 240, 43, 42, 21, 4, 4, 96, 46, 45]
abbrev dktL_law_12 : List UInt8 := dkwL_law_12 ++ dktL_law_13
def dkwL_law_11 : List UInt8 := [5, 96, 46, 182, 0, 155, 54, 6, 44, 182, 0, 145, 21, 5, 159, 0, 5, 3, 172, 21, 5, 154, 0, 15]
abbrev dktL_law_11 : List UInt8 := dkwL_law_11 ++ dktL_law_12
def dkwL_law_10 : List UInt8 := [96, 46, 42, 21, 4, 5, 96, 46, 45, 184, 0, 152, 54, 5, 44, 42, 21, 4, 4, 96, 46, 42, 21, 4]
abbrev dktL_law_10 : List UInt8 := dkwL_law_10 ++ dktL_law_11
def dkwL_law_9 : List UInt8 := [21, 6, 153, 0, 7, 10, 167, 0, 4, 9, 148, 153, 0, 5, 3, 172, 167, 9, 52, 43, 42, 21, 4, 4]
abbrev dktL_law_9 : List UInt8 := dkwL_law_9 ++ dktL_law_10
def dkwL_law_8 : List UInt8 := [182, 0, 151, 54, 6, 44, 182, 0, 145, 21, 5, 159, 0, 5, 3, 172, 21, 5, 154, 0, 22, 45, 3, 47]
abbrev dktL_law_8 : List UInt8 := dkwL_law_8 ++ dktL_law_9
def dkwL_law_7 : List UInt8 := [167, 9, 115, 43, 42, 21, 4, 4, 96, 46, 45, 184, 0, 148, 54, 5, 44, 42, 21, 4, 4, 96, 46]
abbrev dktL_law_7 : List UInt8 := dkwL_law_7 ++ dktL_law_8
def dkwL_law_6 : List UInt8 := [159, 0, 5, 3, 172, 21, 5, 154, 0, 15, 45, 3, 47, 21, 6, 133, 148, 153, 0, 5, 3, 172]
abbrev dktL_law_6 : List UInt8 := dkwL_law_6 ++ dktL_law_7
def dkwL_law_5 : List UInt8 := [21, 4, 6, 96, 46, 153, 0, 7, 4, 167, 0, 4, 3, 182, 0, 144, 54, 6, 44, 182, 0, 145, 21, 5]
abbrev dktL_law_5 : List UInt8 := dkwL_law_5 ++ dktL_law_6
def dkwL_law_4 : List UInt8 := [167, 0, 4, 3, 45, 184, 0, 139, 54, 5, 44, 42, 21, 4, 4, 96, 46, 42, 21, 4, 5, 96, 46, 42]
abbrev dktL_law_4 : List UInt8 := dkwL_law_4 ++ dktL_law_5
def dkwL_law_3 : List UInt8 := [43, 42, 21, 4, 4, 96, 46, 42, 21, 4, 5, 96, 46, 42, 21, 4, 6, 96, 46, 153, 0, 7, 4]
abbrev dktL_law_3 : List UInt8 := dkwL_law_3 ++ dktL_law_4
def dkwL_law_2 : List UInt8 := [170, 0, 0, 10, 177, 0, 0, 0, 0, 0, 0, 0, 52, 0, 0, 0, 225, 0, 0, 1, 65, 0, 0, 1, 128, 0, 0, 1, 196, 0, 0, 2, 3, 0, 0, 2, 59, 0, 0, 2, 151, 0, 0, 2, 207, 0, 0, 3, 19, 0, 0, 3, 82, 0, 0, 3, 126, 0, 0, 3, 182, 0, 0, 3, 195, 0, 0, 3, 208, 0, 0, 3, 252, 0, 0, 4, 9, 0, 0, 4, 53, 0, 0, 4, 97, 0, 0, 4, 110, 0, 0, 4, 154, 0, 0, 4, 167, 0, 0, 4, 180, 0, 0, 4, 236, 0, 0, 5, 36, 0, 0, 5, 99, 0, 0, 5, 155, 0, 0, 5, 218, 0, 0, 6, 18, 0, 0, 6, 81, 0, 0, 6, 137, 0, 0, 6, 193, 0, 0, 6, 249, 0, 0, 7, 6, 0, 0, 7, 69, 0, 0, 7, 132, 0, 0, 7, 188, 0, 0, 7, 244, 0, 0, 8, 44, 0, 0, 8, 100, 0, 0, 8, 113, 0, 0, 8, 126, 0, 0, 8, 139, 0, 0, 8, 152, 0, 0, 8, 165, 0, 0, 8, 221, 0, 0, 9, 21, 0, 0, 9, 89, 0, 0, 9, 157, 0, 0, 9, 213, 0, 0, 10, 25, 0, 0, 10, 81, 0, 0, 10, 122, 0, 0, 10, 163]
abbrev dktL_law_2 : List UInt8 := dkwL_law_2 ++ dktL_law_3
def dkwL_law_1 : List UInt8 := [21, 4, 42, 190, 8, 100, 163, 10, 193, 42, 21, 4, 46, 16, 63, 126]
abbrev dktL_law_1 : List UInt8 := dkwL_law_1 ++ dktL_law_2
def dkwL_law_0 : List UInt8 := [187, 0, 8, 89, 183, 0, 135, 76, 187, 0, 136, 89, 183, 0, 138, 77, 4, 188, 11, 78, 3, 54, 4]
abbrev dktL_law_0 : List UInt8 := dkwL_law_0 ++ dktL_law_1
theorem dksL_law_0 : cL_law.data.toList.drop 0 = dktL_law_0 := by decide +kernel
theorem dksL_law_1 : cL_law.data.toList.drop 23 = dktL_law_1 := dk_seg dksL_law_0 23 rfl rfl
theorem dksL_law_2 : cL_law.data.toList.drop 39 = dktL_law_2 := dk_seg dksL_law_1 16 rfl rfl
theorem dksL_law_3 : cL_law.data.toList.drop 264 = dktL_law_3 := dk_seg dksL_law_2 225 rfl rfl
theorem dksL_law_4 : cL_law.data.toList.drop 287 = dktL_law_4 := dk_seg dksL_law_3 23 rfl rfl
theorem dksL_law_5 : cL_law.data.toList.drop 311 = dktL_law_5 := dk_seg dksL_law_4 24 rfl rfl
theorem dksL_law_6 : cL_law.data.toList.drop 335 = dktL_law_6 := dk_seg dksL_law_5 24 rfl rfl
theorem dksL_law_7 : cL_law.data.toList.drop 357 = dktL_law_7 := dk_seg dksL_law_6 22 rfl rfl
theorem dksL_law_8 : cL_law.data.toList.drop 380 = dktL_law_8 := dk_seg dksL_law_7 23 rfl rfl
theorem dksL_law_9 : cL_law.data.toList.drop 404 = dktL_law_9 := dk_seg dksL_law_8 24 rfl rfl
theorem dksL_law_10 : cL_law.data.toList.drop 428 = dktL_law_10 := dk_seg dksL_law_9 24 rfl rfl
theorem dksL_law_11 : cL_law.data.toList.drop 452 = dktL_law_11 := dk_seg dksL_law_10 24 rfl rfl
theorem dksL_law_12 : cL_law.data.toList.drop 476 = dktL_law_12 := dk_seg dksL_law_11 24 rfl rfl
theorem dksL_law_13 : cL_law.data.toList.drop 499 = dktL_law_13 := dk_seg dksL_law_12 23 rfl rfl
theorem dksL_law_14 : cL_law.data.toList.drop 522 = dktL_law_14 := dk_seg dksL_law_13 23 rfl rfl
theorem dksL_law_15 : cL_law.data.toList.drop 546 = dktL_law_15 := dk_seg dksL_law_14 24 rfl rfl
theorem dksL_law_16 : cL_law.data.toList.drop 569 = dktL_law_16 := dk_seg dksL_law_15 23 rfl rfl
theorem dksL_law_17 : cL_law.data.toList.drop 592 = dktL_law_17 := dk_seg dksL_law_16 23 rfl rfl
theorem dksL_law_18 : cL_law.data.toList.drop 616 = dktL_law_18 := dk_seg dksL_law_17 24 rfl rfl
theorem dksL_law_19 : cL_law.data.toList.drop 639 = dktL_law_19 := dk_seg dksL_law_18 23 rfl rfl
theorem dksL_law_20 : cL_law.data.toList.drop 663 = dktL_law_20 := dk_seg dksL_law_19 24 rfl rfl
theorem dksL_law_21 : cL_law.data.toList.drop 687 = dktL_law_21 := dk_seg dksL_law_20 24 rfl rfl
theorem dksL_law_22 : cL_law.data.toList.drop 710 = dktL_law_22 := dk_seg dksL_law_21 23 rfl rfl
theorem dksL_law_23 : cL_law.data.toList.drop 733 = dktL_law_23 := dk_seg dksL_law_22 23 rfl rfl
theorem dksL_law_24 : cL_law.data.toList.drop 755 = dktL_law_24 := dk_seg dksL_law_23 22 rfl rfl
theorem dksL_law_25 : cL_law.data.toList.drop 779 = dktL_law_25 := dk_seg dksL_law_24 24 rfl rfl
theorem dksL_law_26 : cL_law.data.toList.drop 801 = dktL_law_26 := dk_seg dksL_law_25 22 rfl rfl
theorem dksL_law_27 : cL_law.data.toList.drop 823 = dktL_law_27 := dk_seg dksL_law_26 22 rfl rfl
theorem dksL_law_28 : cL_law.data.toList.drop 846 = dktL_law_28 := dk_seg dksL_law_27 23 rfl rfl
theorem dksL_law_29 : cL_law.data.toList.drop 870 = dktL_law_29 := dk_seg dksL_law_28 24 rfl rfl
theorem dksL_law_30 : cL_law.data.toList.drop 894 = dktL_law_30 := dk_seg dksL_law_29 24 rfl rfl
theorem dksL_law_31 : cL_law.data.toList.drop 918 = dktL_law_31 := dk_seg dksL_law_30 24 rfl rfl
theorem dksL_law_32 : cL_law.data.toList.drop 941 = dktL_law_32 := dk_seg dksL_law_31 23 rfl rfl
theorem dksL_law_33 : cL_law.data.toList.drop 964 = dktL_law_33 := dk_seg dksL_law_32 23 rfl rfl
theorem dksL_law_34 : cL_law.data.toList.drop 986 = dktL_law_34 := dk_seg dksL_law_33 22 rfl rfl
theorem dksL_law_35 : cL_law.data.toList.drop 1010 = dktL_law_35 := dk_seg dksL_law_34 24 rfl rfl
theorem dksL_law_36 : cL_law.data.toList.drop 1034 = dktL_law_36 := dk_seg dksL_law_35 24 rfl rfl
theorem dksL_law_37 : cL_law.data.toList.drop 1056 = dktL_law_37 := dk_seg dksL_law_36 22 rfl rfl
theorem dksL_law_38 : cL_law.data.toList.drop 1080 = dktL_law_38 := dk_seg dksL_law_37 24 rfl rfl
theorem dksL_law_39 : cL_law.data.toList.drop 1104 = dktL_law_39 := dk_seg dksL_law_38 24 rfl rfl
theorem dksL_law_40 : cL_law.data.toList.drop 1127 = dktL_law_40 := dk_seg dksL_law_39 23 rfl rfl
theorem dksL_law_41 : cL_law.data.toList.drop 1151 = dktL_law_41 := dk_seg dksL_law_40 24 rfl rfl
theorem dksL_law_42 : cL_law.data.toList.drop 1175 = dktL_law_42 := dk_seg dksL_law_41 24 rfl rfl
theorem dksL_law_43 : cL_law.data.toList.drop 1199 = dktL_law_43 := dk_seg dksL_law_42 24 rfl rfl
theorem dksL_law_44 : cL_law.data.toList.drop 1222 = dktL_law_44 := dk_seg dksL_law_43 23 rfl rfl
theorem dksL_law_45 : cL_law.data.toList.drop 1245 = dktL_law_45 := dk_seg dksL_law_44 23 rfl rfl
theorem dksL_law_46 : cL_law.data.toList.drop 1269 = dktL_law_46 := dk_seg dksL_law_45 24 rfl rfl
theorem dksL_law_47 : cL_law.data.toList.drop 1291 = dktL_law_47 := dk_seg dksL_law_46 22 rfl rfl
theorem dksL_law_48 : cL_law.data.toList.drop 1314 = dktL_law_48 := dk_seg dksL_law_47 23 rfl rfl
theorem dksL_law_49 : cL_law.data.toList.drop 1337 = dktL_law_49 := dk_seg dksL_law_48 23 rfl rfl
theorem dksL_law_50 : cL_law.data.toList.drop 1361 = dktL_law_50 := dk_seg dksL_law_49 24 rfl rfl
theorem dksL_law_51 : cL_law.data.toList.drop 1384 = dktL_law_51 := dk_seg dksL_law_50 23 rfl rfl
theorem dksL_law_52 : cL_law.data.toList.drop 1408 = dktL_law_52 := dk_seg dksL_law_51 24 rfl rfl
theorem dksL_law_53 : cL_law.data.toList.drop 1432 = dktL_law_53 := dk_seg dksL_law_52 24 rfl rfl
theorem dksL_law_54 : cL_law.data.toList.drop 1456 = dktL_law_54 := dk_seg dksL_law_53 24 rfl rfl
theorem dksL_law_55 : cL_law.data.toList.drop 1480 = dktL_law_55 := dk_seg dksL_law_54 24 rfl rfl
theorem dksL_law_56 : cL_law.data.toList.drop 1503 = dktL_law_56 := dk_seg dksL_law_55 23 rfl rfl
theorem dksL_law_57 : cL_law.data.toList.drop 1527 = dktL_law_57 := dk_seg dksL_law_56 24 rfl rfl
theorem dksL_law_58 : cL_law.data.toList.drop 1551 = dktL_law_58 := dk_seg dksL_law_57 24 rfl rfl
theorem dksL_law_59 : cL_law.data.toList.drop 1575 = dktL_law_59 := dk_seg dksL_law_58 24 rfl rfl
theorem dksL_law_60 : cL_law.data.toList.drop 1599 = dktL_law_60 := dk_seg dksL_law_59 24 rfl rfl
theorem dksL_law_61 : cL_law.data.toList.drop 1622 = dktL_law_61 := dk_seg dksL_law_60 23 rfl rfl
theorem dksL_law_62 : cL_law.data.toList.drop 1646 = dktL_law_62 := dk_seg dksL_law_61 24 rfl rfl
theorem dksL_law_63 : cL_law.data.toList.drop 1670 = dktL_law_63 := dk_seg dksL_law_62 24 rfl rfl
theorem dksL_law_64 : cL_law.data.toList.drop 1694 = dktL_law_64 := dk_seg dksL_law_63 24 rfl rfl
theorem dksL_law_65 : cL_law.data.toList.drop 1718 = dktL_law_65 := dk_seg dksL_law_64 24 rfl rfl
theorem dksL_law_66 : cL_law.data.toList.drop 1741 = dktL_law_66 := dk_seg dksL_law_65 23 rfl rfl
theorem dksL_law_67 : cL_law.data.toList.drop 1765 = dktL_law_67 := dk_seg dksL_law_66 24 rfl rfl
theorem dksL_law_68 : cL_law.data.toList.drop 1788 = dktL_law_68 := dk_seg dksL_law_67 23 rfl rfl
theorem dksL_law_69 : cL_law.data.toList.drop 1812 = dktL_law_69 := dk_seg dksL_law_68 24 rfl rfl
theorem dksL_law_70 : cL_law.data.toList.drop 1836 = dktL_law_70 := dk_seg dksL_law_69 24 rfl rfl
theorem dksL_law_71 : cL_law.data.toList.drop 1860 = dktL_law_71 := dk_seg dksL_law_70 24 rfl rfl
theorem dksL_law_72 : cL_law.data.toList.drop 1883 = dktL_law_72 := dk_seg dksL_law_71 23 rfl rfl
theorem dksL_law_73 : cL_law.data.toList.drop 1907 = dktL_law_73 := dk_seg dksL_law_72 24 rfl rfl
theorem dksL_law_74 : cL_law.data.toList.drop 1931 = dktL_law_74 := dk_seg dksL_law_73 24 rfl rfl
theorem dksL_law_75 : cL_law.data.toList.drop 1955 = dktL_law_75 := dk_seg dksL_law_74 24 rfl rfl
theorem dksL_law_76 : cL_law.data.toList.drop 1978 = dktL_law_76 := dk_seg dksL_law_75 23 rfl rfl
theorem dksL_law_77 : cL_law.data.toList.drop 2001 = dktL_law_77 := dk_seg dksL_law_76 23 rfl rfl
theorem dksL_law_78 : cL_law.data.toList.drop 2025 = dktL_law_78 := dk_seg dksL_law_77 24 rfl rfl
theorem dksL_law_79 : cL_law.data.toList.drop 2048 = dktL_law_79 := dk_seg dksL_law_78 23 rfl rfl
theorem dksL_law_80 : cL_law.data.toList.drop 2072 = dktL_law_80 := dk_seg dksL_law_79 24 rfl rfl
theorem dksL_law_81 : cL_law.data.toList.drop 2095 = dktL_law_81 := dk_seg dksL_law_80 23 rfl rfl
theorem dksL_law_82 : cL_law.data.toList.drop 2119 = dktL_law_82 := dk_seg dksL_law_81 24 rfl rfl
theorem dksL_law_83 : cL_law.data.toList.drop 2142 = dktL_law_83 := dk_seg dksL_law_82 23 rfl rfl
theorem dksL_law_84 : cL_law.data.toList.drop 2166 = dktL_law_84 := dk_seg dksL_law_83 24 rfl rfl
theorem dksL_law_85 : cL_law.data.toList.drop 2188 = dktL_law_85 := dk_seg dksL_law_84 22 rfl rfl
theorem dksL_law_86 : cL_law.data.toList.drop 2212 = dktL_law_86 := dk_seg dksL_law_85 24 rfl rfl
theorem dksL_law_87 : cL_law.data.toList.drop 2234 = dktL_law_87 := dk_seg dksL_law_86 22 rfl rfl
theorem dksL_law_88 : cL_law.data.toList.drop 2258 = dktL_law_88 := dk_seg dksL_law_87 24 rfl rfl
theorem dksL_law_89 : cL_law.data.toList.drop 2281 = dktL_law_89 := dk_seg dksL_law_88 23 rfl rfl
theorem dksL_law_90 : cL_law.data.toList.drop 2305 = dktL_law_90 := dk_seg dksL_law_89 24 rfl rfl
theorem dksL_law_91 : cL_law.data.toList.drop 2328 = dktL_law_91 := dk_seg dksL_law_90 23 rfl rfl
theorem dksL_law_92 : cL_law.data.toList.drop 2352 = dktL_law_92 := dk_seg dksL_law_91 24 rfl rfl
theorem dksL_law_93 : cL_law.data.toList.drop 2376 = dktL_law_93 := dk_seg dksL_law_92 24 rfl rfl
theorem dksL_law_94 : cL_law.data.toList.drop 2399 = dktL_law_94 := dk_seg dksL_law_93 23 rfl rfl
theorem dksL_law_95 : cL_law.data.toList.drop 2423 = dktL_law_95 := dk_seg dksL_law_94 24 rfl rfl
theorem dksL_law_96 : cL_law.data.toList.drop 2446 = dktL_law_96 := dk_seg dksL_law_95 23 rfl rfl
theorem dksL_law_97 : cL_law.data.toList.drop 2470 = dktL_law_97 := dk_seg dksL_law_96 24 rfl rfl
theorem dksL_law_98 : cL_law.data.toList.drop 2492 = dktL_law_98 := dk_seg dksL_law_97 22 rfl rfl
theorem dksL_law_99 : cL_law.data.toList.drop 2515 = dktL_law_99 := dk_seg dksL_law_98 23 rfl rfl
theorem dksL_law_100 : cL_law.data.toList.drop 2538 = dktL_law_100 := dk_seg dksL_law_99 23 rfl rfl
theorem dksL_law_101 : cL_law.data.toList.drop 2562 = dktL_law_101 := dk_seg dksL_law_100 24 rfl rfl
theorem dksL_law_102 : cL_law.data.toList.drop 2586 = dktL_law_102 := dk_seg dksL_law_101 24 rfl rfl
theorem dksL_law_103 : cL_law.data.toList.drop 2610 = dktL_law_103 := dk_seg dksL_law_102 24 rfl rfl
theorem dksL_law_104 : cL_law.data.toList.drop 2632 = dktL_law_104 := dk_seg dksL_law_103 22 rfl rfl
theorem dksL_law_105 : cL_law.data.toList.drop 2655 = dktL_law_105 := dk_seg dksL_law_104 23 rfl rfl
theorem dksL_law_106 : cL_law.data.toList.drop 2677 = dktL_law_106 := dk_seg dksL_law_105 22 rfl rfl
theorem dksL_law_107 : cL_law.data.toList.drop 2700 = dktL_law_107 := dk_seg dksL_law_106 23 rfl rfl
theorem dksL_law_108 : cL_law.data.toList.drop 2722 = dktL_law_108 := dk_seg dksL_law_107 22 rfl rfl
theorem dksL_law_109 : cL_law.data.toList.drop 2746 = dktL_law_109 := dk_seg dksL_law_108 24 rfl rfl
theorem dksL_law_110 : cL_law.data.toList.drop 2770 = dktL_law_110 := dk_seg dksL_law_109 24 rfl rfl
theorem dL_law_0 : decode cL_law 0 = .ok (.new 8, 3) := dk_187 0 8 (dk_at dksL_law_0 0 rfl rfl)
theorem dL_law_3 : decode cL_law 3 = .ok (.dup, 1) := dk_89 (dk_at dksL_law_0 3 rfl rfl)
theorem dL_law_4 : decode cL_law 4 = .ok (.invokespecial 135, 3) := dk_183 0 135 (dk_at dksL_law_0 4 rfl rfl)
theorem dL_law_7 : decode cL_law 7 = .ok (.astore_n 1, 1) := dk_76 (dk_at dksL_law_0 7 rfl rfl)
theorem dL_law_8 : decode cL_law 8 = .ok (.new 136, 3) := dk_187 0 136 (dk_at dksL_law_0 8 rfl rfl)
theorem dL_law_11 : decode cL_law 11 = .ok (.dup, 1) := dk_89 (dk_at dksL_law_0 11 rfl rfl)
theorem dL_law_12 : decode cL_law 12 = .ok (.invokespecial 138, 3) := dk_183 0 138 (dk_at dksL_law_0 12 rfl rfl)
theorem dL_law_15 : decode cL_law 15 = .ok (.astore_n 2, 1) := dk_77 (dk_at dksL_law_0 15 rfl rfl)
theorem dL_law_16 : decode cL_law 16 = .ok (.iconst 1, 1) := dk_4 (dk_at dksL_law_0 16 rfl rfl)
theorem dL_law_17 : decode cL_law 17 = .ok (.newarray .long, 2) := dk_188_11 (dk_at dksL_law_0 17 rfl rfl)
theorem dL_law_19 : decode cL_law 19 = .ok (.astore_n 3, 1) := dk_78 (dk_at dksL_law_0 19 rfl rfl)
theorem dL_law_20 : decode cL_law 20 = .ok (.iconst 0, 1) := dk_3 (dk_at dksL_law_0 20 rfl rfl)
theorem dL_law_21 : decode cL_law 21 = .ok (.istore 4, 2) := dk_54 4 (dk_at dksL_law_0 21 rfl rfl)
theorem dL_law_23 : decode cL_law 23 = .ok (.iload 4, 2) := dk_21 4 (dk_at dksL_law_1 0 rfl rfl)
theorem dL_law_25 : decode cL_law 25 = .ok (.aload_n 0, 1) := dk_42 (dk_at dksL_law_1 2 rfl rfl)
theorem dL_law_26 : decode cL_law 26 = .ok (.arraylength, 1) := dk_190 (dk_at dksL_law_1 3 rfl rfl)
theorem dL_law_27 : decode cL_law 27 = .ok (.iconst 5, 1) := dk_8 (dk_at dksL_law_1 4 rfl rfl)
theorem dL_law_28 : decode cL_law 28 = .ok (.isub, 1) := dk_100 (dk_at dksL_law_1 5 rfl rfl)
theorem dL_law_29 : decode cL_law 29 = .ok (.if_icmp .gt 2753, 3) := dk_163 10 193 (dk_at dksL_law_1 6 rfl rfl)
theorem dL_law_32 : decode cL_law 32 = .ok (.aload_n 0, 1) := dk_42 (dk_at dksL_law_1 9 rfl rfl)
theorem dL_law_33 : decode cL_law 33 = .ok (.iload 4, 2) := dk_21 4 (dk_at dksL_law_1 10 rfl rfl)
theorem dL_law_35 : decode cL_law 35 = .ok (.iaload, 1) := dk_46 (dk_at dksL_law_1 12 rfl rfl)
theorem dL_law_36 : decode cL_law 36 = .ok (.bipush 63, 2) := dk_16 63 (dk_at dksL_law_1 13 rfl rfl)
theorem dL_law_38 : decode cL_law 38 = .ok (.iand, 1) := dk_126 (dk_at dksL_law_1 15 rfl rfl)
theorem dL_law_39 : decode cL_law 39 = .ok (.tableswitch 2737 0 52 #[225, 321, 384, 452, 515, 571, 663, 719, 787, 850, 894, 950, 963, 976, 1020, 1033, 1077, 1121, 1134, 1178, 1191, 1204, 1260, 1316, 1379, 1435, 1498, 1554, 1617, 1673, 1729, 1785, 1798, 1861, 1924, 1980, 2036, 2092, 2148, 2161, 2174, 2187, 2200, 2213, 2269, 2325, 2393, 2461, 2517, 2585, 2641, 2682, 2723], 225) := by decide +kernel
theorem dL_law_264 : decode cL_law 264 = .ok (.aload_n 1, 1) := dk_43 (dk_at dksL_law_3 0 rfl rfl)
theorem dL_law_265 : decode cL_law 265 = .ok (.aload_n 0, 1) := dk_42 (dk_at dksL_law_3 1 rfl rfl)
theorem dL_law_266 : decode cL_law 266 = .ok (.iload 4, 2) := dk_21 4 (dk_at dksL_law_3 2 rfl rfl)
theorem dL_law_268 : decode cL_law 268 = .ok (.iconst 1, 1) := dk_4 (dk_at dksL_law_3 4 rfl rfl)
theorem dL_law_269 : decode cL_law 269 = .ok (.iadd, 1) := dk_96 (dk_at dksL_law_3 5 rfl rfl)
theorem dL_law_270 : decode cL_law 270 = .ok (.iaload, 1) := dk_46 (dk_at dksL_law_3 6 rfl rfl)
theorem dL_law_271 : decode cL_law 271 = .ok (.aload_n 0, 1) := dk_42 (dk_at dksL_law_3 7 rfl rfl)
theorem dL_law_272 : decode cL_law 272 = .ok (.iload 4, 2) := dk_21 4 (dk_at dksL_law_3 8 rfl rfl)
theorem dL_law_274 : decode cL_law 274 = .ok (.iconst 2, 1) := dk_5 (dk_at dksL_law_3 10 rfl rfl)
theorem dL_law_275 : decode cL_law 275 = .ok (.iadd, 1) := dk_96 (dk_at dksL_law_3 11 rfl rfl)
theorem dL_law_276 : decode cL_law 276 = .ok (.iaload, 1) := dk_46 (dk_at dksL_law_3 12 rfl rfl)
theorem dL_law_277 : decode cL_law 277 = .ok (.aload_n 0, 1) := dk_42 (dk_at dksL_law_3 13 rfl rfl)
theorem dL_law_278 : decode cL_law 278 = .ok (.iload 4, 2) := dk_21 4 (dk_at dksL_law_3 14 rfl rfl)
theorem dL_law_280 : decode cL_law 280 = .ok (.iconst 3, 1) := dk_6 (dk_at dksL_law_3 16 rfl rfl)
theorem dL_law_281 : decode cL_law 281 = .ok (.iadd, 1) := dk_96 (dk_at dksL_law_3 17 rfl rfl)
theorem dL_law_282 : decode cL_law 282 = .ok (.iaload, 1) := dk_46 (dk_at dksL_law_3 18 rfl rfl)
theorem dL_law_283 : decode cL_law 283 = .ok (.ifCond .eq 7, 3) := dk_153 0 7 (dk_at dksL_law_3 19 rfl rfl)
theorem dL_law_286 : decode cL_law 286 = .ok (.iconst 1, 1) := dk_4 (dk_at dksL_law_3 22 rfl rfl)
theorem dL_law_287 : decode cL_law 287 = .ok (.goto 4, 3) := dk_167 0 4 (dk_at dksL_law_4 0 rfl rfl)
theorem dL_law_290 : decode cL_law 290 = .ok (.iconst 0, 1) := dk_3 (dk_at dksL_law_4 3 rfl rfl)
theorem dL_law_291 : decode cL_law 291 = .ok (.aload_n 3, 1) := dk_45 (dk_at dksL_law_4 4 rfl rfl)
theorem dL_law_292 : decode cL_law 292 = .ok (.invokestatic 139, 3) := dk_184 0 139 (dk_at dksL_law_4 5 rfl rfl)
theorem dL_law_295 : decode cL_law 295 = .ok (.istore 5, 2) := dk_54 5 (dk_at dksL_law_4 8 rfl rfl)
theorem dL_law_297 : decode cL_law 297 = .ok (.aload_n 2, 1) := dk_44 (dk_at dksL_law_4 10 rfl rfl)
theorem dL_law_298 : decode cL_law 298 = .ok (.aload_n 0, 1) := dk_42 (dk_at dksL_law_4 11 rfl rfl)
theorem dL_law_299 : decode cL_law 299 = .ok (.iload 4, 2) := dk_21 4 (dk_at dksL_law_4 12 rfl rfl)
theorem dL_law_301 : decode cL_law 301 = .ok (.iconst 1, 1) := dk_4 (dk_at dksL_law_4 14 rfl rfl)
theorem dL_law_302 : decode cL_law 302 = .ok (.iadd, 1) := dk_96 (dk_at dksL_law_4 15 rfl rfl)
theorem dL_law_303 : decode cL_law 303 = .ok (.iaload, 1) := dk_46 (dk_at dksL_law_4 16 rfl rfl)
theorem dL_law_304 : decode cL_law 304 = .ok (.aload_n 0, 1) := dk_42 (dk_at dksL_law_4 17 rfl rfl)
theorem dL_law_305 : decode cL_law 305 = .ok (.iload 4, 2) := dk_21 4 (dk_at dksL_law_4 18 rfl rfl)
theorem dL_law_307 : decode cL_law 307 = .ok (.iconst 2, 1) := dk_5 (dk_at dksL_law_4 20 rfl rfl)
theorem dL_law_308 : decode cL_law 308 = .ok (.iadd, 1) := dk_96 (dk_at dksL_law_4 21 rfl rfl)
theorem dL_law_309 : decode cL_law 309 = .ok (.iaload, 1) := dk_46 (dk_at dksL_law_4 22 rfl rfl)
theorem dL_law_310 : decode cL_law 310 = .ok (.aload_n 0, 1) := dk_42 (dk_at dksL_law_4 23 rfl rfl)
theorem dL_law_311 : decode cL_law 311 = .ok (.iload 4, 2) := dk_21 4 (dk_at dksL_law_5 0 rfl rfl)
theorem dL_law_313 : decode cL_law 313 = .ok (.iconst 3, 1) := dk_6 (dk_at dksL_law_5 2 rfl rfl)
theorem dL_law_314 : decode cL_law 314 = .ok (.iadd, 1) := dk_96 (dk_at dksL_law_5 3 rfl rfl)
theorem dL_law_315 : decode cL_law 315 = .ok (.iaload, 1) := dk_46 (dk_at dksL_law_5 4 rfl rfl)
theorem dL_law_316 : decode cL_law 316 = .ok (.ifCond .eq 7, 3) := dk_153 0 7 (dk_at dksL_law_5 5 rfl rfl)
theorem dL_law_319 : decode cL_law 319 = .ok (.iconst 1, 1) := dk_4 (dk_at dksL_law_5 8 rfl rfl)
theorem dL_law_320 : decode cL_law 320 = .ok (.goto 4, 3) := dk_167 0 4 (dk_at dksL_law_5 9 rfl rfl)
theorem dL_law_323 : decode cL_law 323 = .ok (.iconst 0, 1) := dk_3 (dk_at dksL_law_5 12 rfl rfl)
theorem dL_law_324 : decode cL_law 324 = .ok (.invokevirtual 144, 3) := dk_182 0 144 (dk_at dksL_law_5 13 rfl rfl)
theorem dL_law_327 : decode cL_law 327 = .ok (.istore 6, 2) := dk_54 6 (dk_at dksL_law_5 16 rfl rfl)
theorem dL_law_329 : decode cL_law 329 = .ok (.aload_n 2, 1) := dk_44 (dk_at dksL_law_5 18 rfl rfl)
theorem dL_law_330 : decode cL_law 330 = .ok (.invokevirtual 145, 3) := dk_182 0 145 (dk_at dksL_law_5 19 rfl rfl)
theorem dL_law_333 : decode cL_law 333 = .ok (.iload 5, 2) := dk_21 5 (dk_at dksL_law_5 22 rfl rfl)
theorem dL_law_335 : decode cL_law 335 = .ok (.if_icmp .eq 5, 3) := dk_159 0 5 (dk_at dksL_law_6 0 rfl rfl)
theorem dL_law_338 : decode cL_law 338 = .ok (.iconst 0, 1) := dk_3 (dk_at dksL_law_6 3 rfl rfl)
theorem dL_law_339 : decode cL_law 339 = .ok (.ireturn, 1) := dk_172 (dk_at dksL_law_6 4 rfl rfl)
theorem dL_law_340 : decode cL_law 340 = .ok (.iload 5, 2) := dk_21 5 (dk_at dksL_law_6 5 rfl rfl)
theorem dL_law_342 : decode cL_law 342 = .ok (.ifCond .ne 15, 3) := dk_154 0 15 (dk_at dksL_law_6 7 rfl rfl)
theorem dL_law_345 : decode cL_law 345 = .ok (.aload_n 3, 1) := dk_45 (dk_at dksL_law_6 10 rfl rfl)
theorem dL_law_346 : decode cL_law 346 = .ok (.iconst 0, 1) := dk_3 (dk_at dksL_law_6 11 rfl rfl)
theorem dL_law_347 : decode cL_law 347 = .ok (.laload, 1) := dk_47 (dk_at dksL_law_6 12 rfl rfl)
theorem dL_law_348 : decode cL_law 348 = .ok (.iload 6, 2) := dk_21 6 (dk_at dksL_law_6 13 rfl rfl)
theorem dL_law_350 : decode cL_law 350 = .ok (.i2l, 1) := dk_133 (dk_at dksL_law_6 15 rfl rfl)
theorem dL_law_351 : decode cL_law 351 = .ok (.lcmp, 1) := dk_148 (dk_at dksL_law_6 16 rfl rfl)
theorem dL_law_352 : decode cL_law 352 = .ok (.ifCond .eq 5, 3) := dk_153 0 5 (dk_at dksL_law_6 17 rfl rfl)
theorem dL_law_355 : decode cL_law 355 = .ok (.iconst 0, 1) := dk_3 (dk_at dksL_law_6 20 rfl rfl)
theorem dL_law_356 : decode cL_law 356 = .ok (.ireturn, 1) := dk_172 (dk_at dksL_law_6 21 rfl rfl)
theorem dL_law_357 : decode cL_law 357 = .ok (.goto 2419, 3) := dk_167 9 115 (dk_at dksL_law_7 0 rfl rfl)
theorem dL_law_360 : decode cL_law 360 = .ok (.aload_n 1, 1) := dk_43 (dk_at dksL_law_7 3 rfl rfl)
theorem dL_law_361 : decode cL_law 361 = .ok (.aload_n 0, 1) := dk_42 (dk_at dksL_law_7 4 rfl rfl)
theorem dL_law_362 : decode cL_law 362 = .ok (.iload 4, 2) := dk_21 4 (dk_at dksL_law_7 5 rfl rfl)
theorem dL_law_364 : decode cL_law 364 = .ok (.iconst 1, 1) := dk_4 (dk_at dksL_law_7 7 rfl rfl)
theorem dL_law_365 : decode cL_law 365 = .ok (.iadd, 1) := dk_96 (dk_at dksL_law_7 8 rfl rfl)
theorem dL_law_366 : decode cL_law 366 = .ok (.iaload, 1) := dk_46 (dk_at dksL_law_7 9 rfl rfl)
theorem dL_law_367 : decode cL_law 367 = .ok (.aload_n 3, 1) := dk_45 (dk_at dksL_law_7 10 rfl rfl)
theorem dL_law_368 : decode cL_law 368 = .ok (.invokestatic 148, 3) := dk_184 0 148 (dk_at dksL_law_7 11 rfl rfl)
theorem dL_law_371 : decode cL_law 371 = .ok (.istore 5, 2) := dk_54 5 (dk_at dksL_law_7 14 rfl rfl)
theorem dL_law_373 : decode cL_law 373 = .ok (.aload_n 2, 1) := dk_44 (dk_at dksL_law_7 16 rfl rfl)
theorem dL_law_374 : decode cL_law 374 = .ok (.aload_n 0, 1) := dk_42 (dk_at dksL_law_7 17 rfl rfl)
theorem dL_law_375 : decode cL_law 375 = .ok (.iload 4, 2) := dk_21 4 (dk_at dksL_law_7 18 rfl rfl)
theorem dL_law_377 : decode cL_law 377 = .ok (.iconst 1, 1) := dk_4 (dk_at dksL_law_7 20 rfl rfl)
theorem dL_law_378 : decode cL_law 378 = .ok (.iadd, 1) := dk_96 (dk_at dksL_law_7 21 rfl rfl)
theorem dL_law_379 : decode cL_law 379 = .ok (.iaload, 1) := dk_46 (dk_at dksL_law_7 22 rfl rfl)
theorem dL_law_380 : decode cL_law 380 = .ok (.invokevirtual 151, 3) := dk_182 0 151 (dk_at dksL_law_8 0 rfl rfl)
theorem dL_law_383 : decode cL_law 383 = .ok (.istore 6, 2) := dk_54 6 (dk_at dksL_law_8 3 rfl rfl)
theorem dL_law_385 : decode cL_law 385 = .ok (.aload_n 2, 1) := dk_44 (dk_at dksL_law_8 5 rfl rfl)
theorem dL_law_386 : decode cL_law 386 = .ok (.invokevirtual 145, 3) := dk_182 0 145 (dk_at dksL_law_8 6 rfl rfl)
theorem dL_law_389 : decode cL_law 389 = .ok (.iload 5, 2) := dk_21 5 (dk_at dksL_law_8 9 rfl rfl)
theorem dL_law_391 : decode cL_law 391 = .ok (.if_icmp .eq 5, 3) := dk_159 0 5 (dk_at dksL_law_8 11 rfl rfl)
theorem dL_law_394 : decode cL_law 394 = .ok (.iconst 0, 1) := dk_3 (dk_at dksL_law_8 14 rfl rfl)
theorem dL_law_395 : decode cL_law 395 = .ok (.ireturn, 1) := dk_172 (dk_at dksL_law_8 15 rfl rfl)
theorem dL_law_396 : decode cL_law 396 = .ok (.iload 5, 2) := dk_21 5 (dk_at dksL_law_8 16 rfl rfl)
theorem dL_law_398 : decode cL_law 398 = .ok (.ifCond .ne 22, 3) := dk_154 0 22 (dk_at dksL_law_8 18 rfl rfl)
theorem dL_law_401 : decode cL_law 401 = .ok (.aload_n 3, 1) := dk_45 (dk_at dksL_law_8 21 rfl rfl)
theorem dL_law_402 : decode cL_law 402 = .ok (.iconst 0, 1) := dk_3 (dk_at dksL_law_8 22 rfl rfl)
theorem dL_law_403 : decode cL_law 403 = .ok (.laload, 1) := dk_47 (dk_at dksL_law_8 23 rfl rfl)
theorem dL_law_404 : decode cL_law 404 = .ok (.iload 6, 2) := dk_21 6 (dk_at dksL_law_9 0 rfl rfl)
theorem dL_law_406 : decode cL_law 406 = .ok (.ifCond .eq 7, 3) := dk_153 0 7 (dk_at dksL_law_9 2 rfl rfl)
theorem dL_law_409 : decode cL_law 409 = .ok (.lconst 1, 1) := dk_10 (dk_at dksL_law_9 5 rfl rfl)
theorem dL_law_410 : decode cL_law 410 = .ok (.goto 4, 3) := dk_167 0 4 (dk_at dksL_law_9 6 rfl rfl)
theorem dL_law_413 : decode cL_law 413 = .ok (.lconst 0, 1) := dk_9 (dk_at dksL_law_9 9 rfl rfl)
theorem dL_law_414 : decode cL_law 414 = .ok (.lcmp, 1) := dk_148 (dk_at dksL_law_9 10 rfl rfl)
theorem dL_law_415 : decode cL_law 415 = .ok (.ifCond .eq 5, 3) := dk_153 0 5 (dk_at dksL_law_9 11 rfl rfl)
theorem dL_law_418 : decode cL_law 418 = .ok (.iconst 0, 1) := dk_3 (dk_at dksL_law_9 14 rfl rfl)
theorem dL_law_419 : decode cL_law 419 = .ok (.ireturn, 1) := dk_172 (dk_at dksL_law_9 15 rfl rfl)
theorem dL_law_420 : decode cL_law 420 = .ok (.goto 2356, 3) := dk_167 9 52 (dk_at dksL_law_9 16 rfl rfl)
theorem dL_law_423 : decode cL_law 423 = .ok (.aload_n 1, 1) := dk_43 (dk_at dksL_law_9 19 rfl rfl)
theorem dL_law_424 : decode cL_law 424 = .ok (.aload_n 0, 1) := dk_42 (dk_at dksL_law_9 20 rfl rfl)
theorem dL_law_425 : decode cL_law 425 = .ok (.iload 4, 2) := dk_21 4 (dk_at dksL_law_9 21 rfl rfl)
theorem dL_law_427 : decode cL_law 427 = .ok (.iconst 1, 1) := dk_4 (dk_at dksL_law_9 23 rfl rfl)
theorem dL_law_428 : decode cL_law 428 = .ok (.iadd, 1) := dk_96 (dk_at dksL_law_10 0 rfl rfl)
theorem dL_law_429 : decode cL_law 429 = .ok (.iaload, 1) := dk_46 (dk_at dksL_law_10 1 rfl rfl)
theorem dL_law_430 : decode cL_law 430 = .ok (.aload_n 0, 1) := dk_42 (dk_at dksL_law_10 2 rfl rfl)
theorem dL_law_431 : decode cL_law 431 = .ok (.iload 4, 2) := dk_21 4 (dk_at dksL_law_10 3 rfl rfl)
theorem dL_law_433 : decode cL_law 433 = .ok (.iconst 2, 1) := dk_5 (dk_at dksL_law_10 5 rfl rfl)
theorem dL_law_434 : decode cL_law 434 = .ok (.iadd, 1) := dk_96 (dk_at dksL_law_10 6 rfl rfl)
theorem dL_law_435 : decode cL_law 435 = .ok (.iaload, 1) := dk_46 (dk_at dksL_law_10 7 rfl rfl)
theorem dL_law_436 : decode cL_law 436 = .ok (.aload_n 3, 1) := dk_45 (dk_at dksL_law_10 8 rfl rfl)
theorem dL_law_437 : decode cL_law 437 = .ok (.invokestatic 152, 3) := dk_184 0 152 (dk_at dksL_law_10 9 rfl rfl)
theorem dL_law_440 : decode cL_law 440 = .ok (.istore 5, 2) := dk_54 5 (dk_at dksL_law_10 12 rfl rfl)
theorem dL_law_442 : decode cL_law 442 = .ok (.aload_n 2, 1) := dk_44 (dk_at dksL_law_10 14 rfl rfl)
theorem dL_law_443 : decode cL_law 443 = .ok (.aload_n 0, 1) := dk_42 (dk_at dksL_law_10 15 rfl rfl)
theorem dL_law_444 : decode cL_law 444 = .ok (.iload 4, 2) := dk_21 4 (dk_at dksL_law_10 16 rfl rfl)
theorem dL_law_446 : decode cL_law 446 = .ok (.iconst 1, 1) := dk_4 (dk_at dksL_law_10 18 rfl rfl)
theorem dL_law_447 : decode cL_law 447 = .ok (.iadd, 1) := dk_96 (dk_at dksL_law_10 19 rfl rfl)
theorem dL_law_448 : decode cL_law 448 = .ok (.iaload, 1) := dk_46 (dk_at dksL_law_10 20 rfl rfl)
theorem dL_law_449 : decode cL_law 449 = .ok (.aload_n 0, 1) := dk_42 (dk_at dksL_law_10 21 rfl rfl)
theorem dL_law_450 : decode cL_law 450 = .ok (.iload 4, 2) := dk_21 4 (dk_at dksL_law_10 22 rfl rfl)
theorem dL_law_452 : decode cL_law 452 = .ok (.iconst 2, 1) := dk_5 (dk_at dksL_law_11 0 rfl rfl)
theorem dL_law_453 : decode cL_law 453 = .ok (.iadd, 1) := dk_96 (dk_at dksL_law_11 1 rfl rfl)
theorem dL_law_454 : decode cL_law 454 = .ok (.iaload, 1) := dk_46 (dk_at dksL_law_11 2 rfl rfl)
theorem dL_law_455 : decode cL_law 455 = .ok (.invokevirtual 155, 3) := dk_182 0 155 (dk_at dksL_law_11 3 rfl rfl)
theorem dL_law_458 : decode cL_law 458 = .ok (.istore 6, 2) := dk_54 6 (dk_at dksL_law_11 6 rfl rfl)
theorem dL_law_460 : decode cL_law 460 = .ok (.aload_n 2, 1) := dk_44 (dk_at dksL_law_11 8 rfl rfl)
theorem dL_law_461 : decode cL_law 461 = .ok (.invokevirtual 145, 3) := dk_182 0 145 (dk_at dksL_law_11 9 rfl rfl)
theorem dL_law_464 : decode cL_law 464 = .ok (.iload 5, 2) := dk_21 5 (dk_at dksL_law_11 12 rfl rfl)
theorem dL_law_466 : decode cL_law 466 = .ok (.if_icmp .eq 5, 3) := dk_159 0 5 (dk_at dksL_law_11 14 rfl rfl)
theorem dL_law_469 : decode cL_law 469 = .ok (.iconst 0, 1) := dk_3 (dk_at dksL_law_11 17 rfl rfl)
theorem dL_law_470 : decode cL_law 470 = .ok (.ireturn, 1) := dk_172 (dk_at dksL_law_11 18 rfl rfl)
theorem dL_law_471 : decode cL_law 471 = .ok (.iload 5, 2) := dk_21 5 (dk_at dksL_law_11 19 rfl rfl)
theorem dL_law_473 : decode cL_law 473 = .ok (.ifCond .ne 15, 3) := dk_154 0 15 (dk_at dksL_law_11 21 rfl rfl)
theorem dL_law_476 : decode cL_law 476 = .ok (.aload_n 3, 1) := dk_45 (dk_at dksL_law_12 0 rfl rfl)
theorem dL_law_477 : decode cL_law 477 = .ok (.iconst 0, 1) := dk_3 (dk_at dksL_law_12 1 rfl rfl)
theorem dL_law_478 : decode cL_law 478 = .ok (.laload, 1) := dk_47 (dk_at dksL_law_12 2 rfl rfl)
theorem dL_law_479 : decode cL_law 479 = .ok (.iload 6, 2) := dk_21 6 (dk_at dksL_law_12 3 rfl rfl)
theorem dL_law_481 : decode cL_law 481 = .ok (.i2l, 1) := dk_133 (dk_at dksL_law_12 5 rfl rfl)
theorem dL_law_482 : decode cL_law 482 = .ok (.lcmp, 1) := dk_148 (dk_at dksL_law_12 6 rfl rfl)
theorem dL_law_483 : decode cL_law 483 = .ok (.ifCond .eq 5, 3) := dk_153 0 5 (dk_at dksL_law_12 7 rfl rfl)
theorem dL_law_486 : decode cL_law 486 = .ok (.iconst 0, 1) := dk_3 (dk_at dksL_law_12 10 rfl rfl)
theorem dL_law_487 : decode cL_law 487 = .ok (.ireturn, 1) := dk_172 (dk_at dksL_law_12 11 rfl rfl)
theorem dL_law_488 : decode cL_law 488 = .ok (.goto 2288, 3) := dk_167 8 240 (dk_at dksL_law_12 12 rfl rfl)
theorem dL_law_491 : decode cL_law 491 = .ok (.aload_n 1, 1) := dk_43 (dk_at dksL_law_12 15 rfl rfl)
theorem dL_law_492 : decode cL_law 492 = .ok (.aload_n 0, 1) := dk_42 (dk_at dksL_law_12 16 rfl rfl)
theorem dL_law_493 : decode cL_law 493 = .ok (.iload 4, 2) := dk_21 4 (dk_at dksL_law_12 17 rfl rfl)
theorem dL_law_495 : decode cL_law 495 = .ok (.iconst 1, 1) := dk_4 (dk_at dksL_law_12 19 rfl rfl)
theorem dL_law_496 : decode cL_law 496 = .ok (.iadd, 1) := dk_96 (dk_at dksL_law_12 20 rfl rfl)
theorem dL_law_497 : decode cL_law 497 = .ok (.iaload, 1) := dk_46 (dk_at dksL_law_12 21 rfl rfl)
theorem dL_law_498 : decode cL_law 498 = .ok (.aload_n 3, 1) := dk_45 (dk_at dksL_law_12 22 rfl rfl)
theorem dL_law_499 : decode cL_law 499 = .ok (.invokestatic 156, 3) := dk_184 0 156 (dk_at dksL_law_13 0 rfl rfl)
theorem dL_law_502 : decode cL_law 502 = .ok (.istore 5, 2) := dk_54 5 (dk_at dksL_law_13 3 rfl rfl)
theorem dL_law_504 : decode cL_law 504 = .ok (.aload_n 2, 1) := dk_44 (dk_at dksL_law_13 5 rfl rfl)
theorem dL_law_505 : decode cL_law 505 = .ok (.aload_n 0, 1) := dk_42 (dk_at dksL_law_13 6 rfl rfl)
theorem dL_law_506 : decode cL_law 506 = .ok (.iload 4, 2) := dk_21 4 (dk_at dksL_law_13 7 rfl rfl)
theorem dL_law_508 : decode cL_law 508 = .ok (.iconst 1, 1) := dk_4 (dk_at dksL_law_13 9 rfl rfl)
theorem dL_law_509 : decode cL_law 509 = .ok (.iadd, 1) := dk_96 (dk_at dksL_law_13 10 rfl rfl)
theorem dL_law_510 : decode cL_law 510 = .ok (.iaload, 1) := dk_46 (dk_at dksL_law_13 11 rfl rfl)
theorem dL_law_511 : decode cL_law 511 = .ok (.invokevirtual 158, 3) := dk_182 0 158 (dk_at dksL_law_13 12 rfl rfl)
theorem dL_law_514 : decode cL_law 514 = .ok (.istore 6, 2) := dk_54 6 (dk_at dksL_law_13 15 rfl rfl)
theorem dL_law_516 : decode cL_law 516 = .ok (.aload_n 2, 1) := dk_44 (dk_at dksL_law_13 17 rfl rfl)
theorem dL_law_517 : decode cL_law 517 = .ok (.invokevirtual 145, 3) := dk_182 0 145 (dk_at dksL_law_13 18 rfl rfl)
theorem dL_law_520 : decode cL_law 520 = .ok (.iload 5, 2) := dk_21 5 (dk_at dksL_law_13 21 rfl rfl)
theorem dL_law_522 : decode cL_law 522 = .ok (.if_icmp .eq 5, 3) := dk_159 0 5 (dk_at dksL_law_14 0 rfl rfl)
theorem dL_law_525 : decode cL_law 525 = .ok (.iconst 0, 1) := dk_3 (dk_at dksL_law_14 3 rfl rfl)
theorem dL_law_526 : decode cL_law 526 = .ok (.ireturn, 1) := dk_172 (dk_at dksL_law_14 4 rfl rfl)
theorem dL_law_527 : decode cL_law 527 = .ok (.iload 5, 2) := dk_21 5 (dk_at dksL_law_14 5 rfl rfl)
theorem dL_law_529 : decode cL_law 529 = .ok (.ifCond .ne 22, 3) := dk_154 0 22 (dk_at dksL_law_14 7 rfl rfl)
theorem dL_law_532 : decode cL_law 532 = .ok (.aload_n 3, 1) := dk_45 (dk_at dksL_law_14 10 rfl rfl)
theorem dL_law_533 : decode cL_law 533 = .ok (.iconst 0, 1) := dk_3 (dk_at dksL_law_14 11 rfl rfl)
theorem dL_law_534 : decode cL_law 534 = .ok (.laload, 1) := dk_47 (dk_at dksL_law_14 12 rfl rfl)
theorem dL_law_535 : decode cL_law 535 = .ok (.iload 6, 2) := dk_21 6 (dk_at dksL_law_14 13 rfl rfl)
theorem dL_law_537 : decode cL_law 537 = .ok (.ifCond .eq 7, 3) := dk_153 0 7 (dk_at dksL_law_14 15 rfl rfl)
theorem dL_law_540 : decode cL_law 540 = .ok (.lconst 1, 1) := dk_10 (dk_at dksL_law_14 18 rfl rfl)
theorem dL_law_541 : decode cL_law 541 = .ok (.goto 4, 3) := dk_167 0 4 (dk_at dksL_law_14 19 rfl rfl)
theorem dL_law_544 : decode cL_law 544 = .ok (.lconst 0, 1) := dk_9 (dk_at dksL_law_14 22 rfl rfl)
theorem dL_law_545 : decode cL_law 545 = .ok (.lcmp, 1) := dk_148 (dk_at dksL_law_14 23 rfl rfl)
theorem dL_law_546 : decode cL_law 546 = .ok (.ifCond .eq 5, 3) := dk_153 0 5 (dk_at dksL_law_15 0 rfl rfl)
theorem dL_law_549 : decode cL_law 549 = .ok (.iconst 0, 1) := dk_3 (dk_at dksL_law_15 3 rfl rfl)
theorem dL_law_550 : decode cL_law 550 = .ok (.ireturn, 1) := dk_172 (dk_at dksL_law_15 4 rfl rfl)
theorem dL_law_551 : decode cL_law 551 = .ok (.goto 2225, 3) := dk_167 8 177 (dk_at dksL_law_15 5 rfl rfl)
theorem dL_law_554 : decode cL_law 554 = .ok (.aload_n 1, 1) := dk_43 (dk_at dksL_law_15 8 rfl rfl)
theorem dL_law_555 : decode cL_law 555 = .ok (.aload_n 0, 1) := dk_42 (dk_at dksL_law_15 9 rfl rfl)
theorem dL_law_556 : decode cL_law 556 = .ok (.iload 4, 2) := dk_21 4 (dk_at dksL_law_15 10 rfl rfl)
theorem dL_law_558 : decode cL_law 558 = .ok (.iconst 1, 1) := dk_4 (dk_at dksL_law_15 12 rfl rfl)
theorem dL_law_559 : decode cL_law 559 = .ok (.iadd, 1) := dk_96 (dk_at dksL_law_15 13 rfl rfl)
theorem dL_law_560 : decode cL_law 560 = .ok (.iaload, 1) := dk_46 (dk_at dksL_law_15 14 rfl rfl)
theorem dL_law_561 : decode cL_law 561 = .ok (.aload_n 3, 1) := dk_45 (dk_at dksL_law_15 15 rfl rfl)
theorem dL_law_562 : decode cL_law 562 = .ok (.invokestatic 159, 3) := dk_184 0 159 (dk_at dksL_law_15 16 rfl rfl)
theorem dL_law_565 : decode cL_law 565 = .ok (.istore 5, 2) := dk_54 5 (dk_at dksL_law_15 19 rfl rfl)
theorem dL_law_567 : decode cL_law 567 = .ok (.aload_n 2, 1) := dk_44 (dk_at dksL_law_15 21 rfl rfl)
theorem dL_law_568 : decode cL_law 568 = .ok (.aload_n 0, 1) := dk_42 (dk_at dksL_law_15 22 rfl rfl)
theorem dL_law_569 : decode cL_law 569 = .ok (.iload 4, 2) := dk_21 4 (dk_at dksL_law_16 0 rfl rfl)
theorem dL_law_571 : decode cL_law 571 = .ok (.iconst 1, 1) := dk_4 (dk_at dksL_law_16 2 rfl rfl)
theorem dL_law_572 : decode cL_law 572 = .ok (.iadd, 1) := dk_96 (dk_at dksL_law_16 3 rfl rfl)
theorem dL_law_573 : decode cL_law 573 = .ok (.iaload, 1) := dk_46 (dk_at dksL_law_16 4 rfl rfl)
theorem dL_law_574 : decode cL_law 574 = .ok (.invokevirtual 161, 3) := dk_182 0 161 (dk_at dksL_law_16 5 rfl rfl)
theorem dL_law_577 : decode cL_law 577 = .ok (.istore 6, 2) := dk_54 6 (dk_at dksL_law_16 8 rfl rfl)
theorem dL_law_579 : decode cL_law 579 = .ok (.aload_n 2, 1) := dk_44 (dk_at dksL_law_16 10 rfl rfl)
theorem dL_law_580 : decode cL_law 580 = .ok (.invokevirtual 145, 3) := dk_182 0 145 (dk_at dksL_law_16 11 rfl rfl)
theorem dL_law_583 : decode cL_law 583 = .ok (.iload 5, 2) := dk_21 5 (dk_at dksL_law_16 14 rfl rfl)
theorem dL_law_585 : decode cL_law 585 = .ok (.if_icmp .eq 5, 3) := dk_159 0 5 (dk_at dksL_law_16 16 rfl rfl)
theorem dL_law_588 : decode cL_law 588 = .ok (.iconst 0, 1) := dk_3 (dk_at dksL_law_16 19 rfl rfl)
theorem dL_law_589 : decode cL_law 589 = .ok (.ireturn, 1) := dk_172 (dk_at dksL_law_16 20 rfl rfl)
theorem dL_law_590 : decode cL_law 590 = .ok (.iload 5, 2) := dk_21 5 (dk_at dksL_law_16 21 rfl rfl)
theorem dL_law_592 : decode cL_law 592 = .ok (.ifCond .ne 15, 3) := dk_154 0 15 (dk_at dksL_law_17 0 rfl rfl)
theorem dL_law_595 : decode cL_law 595 = .ok (.aload_n 3, 1) := dk_45 (dk_at dksL_law_17 3 rfl rfl)
theorem dL_law_596 : decode cL_law 596 = .ok (.iconst 0, 1) := dk_3 (dk_at dksL_law_17 4 rfl rfl)
theorem dL_law_597 : decode cL_law 597 = .ok (.laload, 1) := dk_47 (dk_at dksL_law_17 5 rfl rfl)
theorem dL_law_598 : decode cL_law 598 = .ok (.iload 6, 2) := dk_21 6 (dk_at dksL_law_17 6 rfl rfl)
theorem dL_law_600 : decode cL_law 600 = .ok (.i2l, 1) := dk_133 (dk_at dksL_law_17 8 rfl rfl)
theorem dL_law_601 : decode cL_law 601 = .ok (.lcmp, 1) := dk_148 (dk_at dksL_law_17 9 rfl rfl)
theorem dL_law_602 : decode cL_law 602 = .ok (.ifCond .eq 5, 3) := dk_153 0 5 (dk_at dksL_law_17 10 rfl rfl)
theorem dL_law_605 : decode cL_law 605 = .ok (.iconst 0, 1) := dk_3 (dk_at dksL_law_17 13 rfl rfl)
theorem dL_law_606 : decode cL_law 606 = .ok (.ireturn, 1) := dk_172 (dk_at dksL_law_17 14 rfl rfl)
theorem dL_law_607 : decode cL_law 607 = .ok (.goto 2169, 3) := dk_167 8 121 (dk_at dksL_law_17 15 rfl rfl)
theorem dL_law_610 : decode cL_law 610 = .ok (.aload_n 1, 1) := dk_43 (dk_at dksL_law_17 18 rfl rfl)
theorem dL_law_611 : decode cL_law 611 = .ok (.aload_n 0, 1) := dk_42 (dk_at dksL_law_17 19 rfl rfl)
theorem dL_law_612 : decode cL_law 612 = .ok (.iload 4, 2) := dk_21 4 (dk_at dksL_law_17 20 rfl rfl)
theorem dL_law_614 : decode cL_law 614 = .ok (.iconst 1, 1) := dk_4 (dk_at dksL_law_17 22 rfl rfl)
theorem dL_law_615 : decode cL_law 615 = .ok (.iadd, 1) := dk_96 (dk_at dksL_law_17 23 rfl rfl)
theorem dL_law_616 : decode cL_law 616 = .ok (.iaload, 1) := dk_46 (dk_at dksL_law_18 0 rfl rfl)
theorem dL_law_617 : decode cL_law 617 = .ok (.aload_n 0, 1) := dk_42 (dk_at dksL_law_18 1 rfl rfl)
theorem dL_law_618 : decode cL_law 618 = .ok (.iload 4, 2) := dk_21 4 (dk_at dksL_law_18 2 rfl rfl)
theorem dL_law_620 : decode cL_law 620 = .ok (.iconst 2, 1) := dk_5 (dk_at dksL_law_18 4 rfl rfl)
theorem dL_law_621 : decode cL_law 621 = .ok (.iadd, 1) := dk_96 (dk_at dksL_law_18 5 rfl rfl)
theorem dL_law_622 : decode cL_law 622 = .ok (.iaload, 1) := dk_46 (dk_at dksL_law_18 6 rfl rfl)
theorem dL_law_623 : decode cL_law 623 = .ok (.aload_n 0, 1) := dk_42 (dk_at dksL_law_18 7 rfl rfl)
theorem dL_law_624 : decode cL_law 624 = .ok (.iload 4, 2) := dk_21 4 (dk_at dksL_law_18 8 rfl rfl)
theorem dL_law_626 : decode cL_law 626 = .ok (.iconst 3, 1) := dk_6 (dk_at dksL_law_18 10 rfl rfl)
theorem dL_law_627 : decode cL_law 627 = .ok (.iadd, 1) := dk_96 (dk_at dksL_law_18 11 rfl rfl)
theorem dL_law_628 : decode cL_law 628 = .ok (.iaload, 1) := dk_46 (dk_at dksL_law_18 12 rfl rfl)
theorem dL_law_629 : decode cL_law 629 = .ok (.aload_n 0, 1) := dk_42 (dk_at dksL_law_18 13 rfl rfl)
theorem dL_law_630 : decode cL_law 630 = .ok (.iload 4, 2) := dk_21 4 (dk_at dksL_law_18 14 rfl rfl)
theorem dL_law_632 : decode cL_law 632 = .ok (.iconst 4, 1) := dk_7 (dk_at dksL_law_18 16 rfl rfl)
theorem dL_law_633 : decode cL_law 633 = .ok (.iadd, 1) := dk_96 (dk_at dksL_law_18 17 rfl rfl)
theorem dL_law_634 : decode cL_law 634 = .ok (.iaload, 1) := dk_46 (dk_at dksL_law_18 18 rfl rfl)
theorem dL_law_635 : decode cL_law 635 = .ok (.aload_n 3, 1) := dk_45 (dk_at dksL_law_18 19 rfl rfl)
theorem dL_law_636 : decode cL_law 636 = .ok (.invokestatic 162, 3) := dk_184 0 162 (dk_at dksL_law_18 20 rfl rfl)
theorem dL_law_639 : decode cL_law 639 = .ok (.istore 5, 2) := dk_54 5 (dk_at dksL_law_19 0 rfl rfl)
theorem dL_law_641 : decode cL_law 641 = .ok (.aload_n 2, 1) := dk_44 (dk_at dksL_law_19 2 rfl rfl)
theorem dL_law_642 : decode cL_law 642 = .ok (.aload_n 0, 1) := dk_42 (dk_at dksL_law_19 3 rfl rfl)
theorem dL_law_643 : decode cL_law 643 = .ok (.iload 4, 2) := dk_21 4 (dk_at dksL_law_19 4 rfl rfl)
theorem dL_law_645 : decode cL_law 645 = .ok (.iconst 1, 1) := dk_4 (dk_at dksL_law_19 6 rfl rfl)
theorem dL_law_646 : decode cL_law 646 = .ok (.iadd, 1) := dk_96 (dk_at dksL_law_19 7 rfl rfl)
theorem dL_law_647 : decode cL_law 647 = .ok (.iaload, 1) := dk_46 (dk_at dksL_law_19 8 rfl rfl)
theorem dL_law_648 : decode cL_law 648 = .ok (.aload_n 0, 1) := dk_42 (dk_at dksL_law_19 9 rfl rfl)
theorem dL_law_649 : decode cL_law 649 = .ok (.iload 4, 2) := dk_21 4 (dk_at dksL_law_19 10 rfl rfl)
theorem dL_law_651 : decode cL_law 651 = .ok (.iconst 2, 1) := dk_5 (dk_at dksL_law_19 12 rfl rfl)
theorem dL_law_652 : decode cL_law 652 = .ok (.iadd, 1) := dk_96 (dk_at dksL_law_19 13 rfl rfl)
theorem dL_law_653 : decode cL_law 653 = .ok (.iaload, 1) := dk_46 (dk_at dksL_law_19 14 rfl rfl)
theorem dL_law_654 : decode cL_law 654 = .ok (.aload_n 0, 1) := dk_42 (dk_at dksL_law_19 15 rfl rfl)
theorem dL_law_655 : decode cL_law 655 = .ok (.iload 4, 2) := dk_21 4 (dk_at dksL_law_19 16 rfl rfl)
theorem dL_law_657 : decode cL_law 657 = .ok (.iconst 3, 1) := dk_6 (dk_at dksL_law_19 18 rfl rfl)
theorem dL_law_658 : decode cL_law 658 = .ok (.iadd, 1) := dk_96 (dk_at dksL_law_19 19 rfl rfl)
theorem dL_law_659 : decode cL_law 659 = .ok (.iaload, 1) := dk_46 (dk_at dksL_law_19 20 rfl rfl)
theorem dL_law_660 : decode cL_law 660 = .ok (.aload_n 0, 1) := dk_42 (dk_at dksL_law_19 21 rfl rfl)
theorem dL_law_661 : decode cL_law 661 = .ok (.iload 4, 2) := dk_21 4 (dk_at dksL_law_19 22 rfl rfl)
theorem dL_law_663 : decode cL_law 663 = .ok (.iconst 4, 1) := dk_7 (dk_at dksL_law_20 0 rfl rfl)
theorem dL_law_664 : decode cL_law 664 = .ok (.iadd, 1) := dk_96 (dk_at dksL_law_20 1 rfl rfl)
theorem dL_law_665 : decode cL_law 665 = .ok (.iaload, 1) := dk_46 (dk_at dksL_law_20 2 rfl rfl)
theorem dL_law_666 : decode cL_law 666 = .ok (.invokevirtual 165, 3) := dk_182 0 165 (dk_at dksL_law_20 3 rfl rfl)
theorem dL_law_669 : decode cL_law 669 = .ok (.istore 6, 2) := dk_54 6 (dk_at dksL_law_20 6 rfl rfl)
theorem dL_law_671 : decode cL_law 671 = .ok (.aload_n 2, 1) := dk_44 (dk_at dksL_law_20 8 rfl rfl)
theorem dL_law_672 : decode cL_law 672 = .ok (.invokevirtual 145, 3) := dk_182 0 145 (dk_at dksL_law_20 9 rfl rfl)
theorem dL_law_675 : decode cL_law 675 = .ok (.iload 5, 2) := dk_21 5 (dk_at dksL_law_20 12 rfl rfl)
theorem dL_law_677 : decode cL_law 677 = .ok (.if_icmp .eq 5, 3) := dk_159 0 5 (dk_at dksL_law_20 14 rfl rfl)
theorem dL_law_680 : decode cL_law 680 = .ok (.iconst 0, 1) := dk_3 (dk_at dksL_law_20 17 rfl rfl)
theorem dL_law_681 : decode cL_law 681 = .ok (.ireturn, 1) := dk_172 (dk_at dksL_law_20 18 rfl rfl)
theorem dL_law_682 : decode cL_law 682 = .ok (.iload 5, 2) := dk_21 5 (dk_at dksL_law_20 19 rfl rfl)
theorem dL_law_684 : decode cL_law 684 = .ok (.ifCond .ne 15, 3) := dk_154 0 15 (dk_at dksL_law_20 21 rfl rfl)
theorem dL_law_687 : decode cL_law 687 = .ok (.aload_n 3, 1) := dk_45 (dk_at dksL_law_21 0 rfl rfl)
theorem dL_law_688 : decode cL_law 688 = .ok (.iconst 0, 1) := dk_3 (dk_at dksL_law_21 1 rfl rfl)
theorem dL_law_689 : decode cL_law 689 = .ok (.laload, 1) := dk_47 (dk_at dksL_law_21 2 rfl rfl)
theorem dL_law_690 : decode cL_law 690 = .ok (.iload 6, 2) := dk_21 6 (dk_at dksL_law_21 3 rfl rfl)
theorem dL_law_692 : decode cL_law 692 = .ok (.i2l, 1) := dk_133 (dk_at dksL_law_21 5 rfl rfl)
theorem dL_law_693 : decode cL_law 693 = .ok (.lcmp, 1) := dk_148 (dk_at dksL_law_21 6 rfl rfl)
theorem dL_law_694 : decode cL_law 694 = .ok (.ifCond .eq 5, 3) := dk_153 0 5 (dk_at dksL_law_21 7 rfl rfl)
theorem dL_law_697 : decode cL_law 697 = .ok (.iconst 0, 1) := dk_3 (dk_at dksL_law_21 10 rfl rfl)
theorem dL_law_698 : decode cL_law 698 = .ok (.ireturn, 1) := dk_172 (dk_at dksL_law_21 11 rfl rfl)
theorem dL_law_699 : decode cL_law 699 = .ok (.goto 2077, 3) := dk_167 8 29 (dk_at dksL_law_21 12 rfl rfl)
theorem dL_law_702 : decode cL_law 702 = .ok (.aload_n 1, 1) := dk_43 (dk_at dksL_law_21 15 rfl rfl)
theorem dL_law_703 : decode cL_law 703 = .ok (.aload_n 0, 1) := dk_42 (dk_at dksL_law_21 16 rfl rfl)
theorem dL_law_704 : decode cL_law 704 = .ok (.iload 4, 2) := dk_21 4 (dk_at dksL_law_21 17 rfl rfl)
theorem dL_law_706 : decode cL_law 706 = .ok (.iconst 1, 1) := dk_4 (dk_at dksL_law_21 19 rfl rfl)
theorem dL_law_707 : decode cL_law 707 = .ok (.iadd, 1) := dk_96 (dk_at dksL_law_21 20 rfl rfl)
theorem dL_law_708 : decode cL_law 708 = .ok (.iaload, 1) := dk_46 (dk_at dksL_law_21 21 rfl rfl)
theorem dL_law_709 : decode cL_law 709 = .ok (.aload_n 3, 1) := dk_45 (dk_at dksL_law_21 22 rfl rfl)
theorem dL_law_710 : decode cL_law 710 = .ok (.invokestatic 166, 3) := dk_184 0 166 (dk_at dksL_law_22 0 rfl rfl)
theorem dL_law_713 : decode cL_law 713 = .ok (.istore 5, 2) := dk_54 5 (dk_at dksL_law_22 3 rfl rfl)
theorem dL_law_715 : decode cL_law 715 = .ok (.aload_n 2, 1) := dk_44 (dk_at dksL_law_22 5 rfl rfl)
theorem dL_law_716 : decode cL_law 716 = .ok (.aload_n 0, 1) := dk_42 (dk_at dksL_law_22 6 rfl rfl)
theorem dL_law_717 : decode cL_law 717 = .ok (.iload 4, 2) := dk_21 4 (dk_at dksL_law_22 7 rfl rfl)
theorem dL_law_719 : decode cL_law 719 = .ok (.iconst 1, 1) := dk_4 (dk_at dksL_law_22 9 rfl rfl)
theorem dL_law_720 : decode cL_law 720 = .ok (.iadd, 1) := dk_96 (dk_at dksL_law_22 10 rfl rfl)
theorem dL_law_721 : decode cL_law 721 = .ok (.iaload, 1) := dk_46 (dk_at dksL_law_22 11 rfl rfl)
theorem dL_law_722 : decode cL_law 722 = .ok (.invokevirtual 168, 3) := dk_182 0 168 (dk_at dksL_law_22 12 rfl rfl)
theorem dL_law_725 : decode cL_law 725 = .ok (.istore 6, 2) := dk_54 6 (dk_at dksL_law_22 15 rfl rfl)
theorem dL_law_727 : decode cL_law 727 = .ok (.aload_n 2, 1) := dk_44 (dk_at dksL_law_22 17 rfl rfl)
theorem dL_law_728 : decode cL_law 728 = .ok (.invokevirtual 145, 3) := dk_182 0 145 (dk_at dksL_law_22 18 rfl rfl)
theorem dL_law_731 : decode cL_law 731 = .ok (.iload 5, 2) := dk_21 5 (dk_at dksL_law_22 21 rfl rfl)
theorem dL_law_733 : decode cL_law 733 = .ok (.if_icmp .eq 5, 3) := dk_159 0 5 (dk_at dksL_law_23 0 rfl rfl)
theorem dL_law_736 : decode cL_law 736 = .ok (.iconst 0, 1) := dk_3 (dk_at dksL_law_23 3 rfl rfl)
theorem dL_law_737 : decode cL_law 737 = .ok (.ireturn, 1) := dk_172 (dk_at dksL_law_23 4 rfl rfl)
theorem dL_law_738 : decode cL_law 738 = .ok (.iload 5, 2) := dk_21 5 (dk_at dksL_law_23 5 rfl rfl)
theorem dL_law_740 : decode cL_law 740 = .ok (.ifCond .ne 15, 3) := dk_154 0 15 (dk_at dksL_law_23 7 rfl rfl)
theorem dL_law_743 : decode cL_law 743 = .ok (.aload_n 3, 1) := dk_45 (dk_at dksL_law_23 10 rfl rfl)
theorem dL_law_744 : decode cL_law 744 = .ok (.iconst 0, 1) := dk_3 (dk_at dksL_law_23 11 rfl rfl)
theorem dL_law_745 : decode cL_law 745 = .ok (.laload, 1) := dk_47 (dk_at dksL_law_23 12 rfl rfl)
theorem dL_law_746 : decode cL_law 746 = .ok (.iload 6, 2) := dk_21 6 (dk_at dksL_law_23 13 rfl rfl)
theorem dL_law_748 : decode cL_law 748 = .ok (.i2l, 1) := dk_133 (dk_at dksL_law_23 15 rfl rfl)
theorem dL_law_749 : decode cL_law 749 = .ok (.lcmp, 1) := dk_148 (dk_at dksL_law_23 16 rfl rfl)
theorem dL_law_750 : decode cL_law 750 = .ok (.ifCond .eq 5, 3) := dk_153 0 5 (dk_at dksL_law_23 17 rfl rfl)
theorem dL_law_753 : decode cL_law 753 = .ok (.iconst 0, 1) := dk_3 (dk_at dksL_law_23 20 rfl rfl)
theorem dL_law_754 : decode cL_law 754 = .ok (.ireturn, 1) := dk_172 (dk_at dksL_law_23 21 rfl rfl)
theorem dL_law_755 : decode cL_law 755 = .ok (.goto 2021, 3) := dk_167 7 229 (dk_at dksL_law_24 0 rfl rfl)
theorem dL_law_758 : decode cL_law 758 = .ok (.aload_n 1, 1) := dk_43 (dk_at dksL_law_24 3 rfl rfl)
theorem dL_law_759 : decode cL_law 759 = .ok (.aload_n 0, 1) := dk_42 (dk_at dksL_law_24 4 rfl rfl)
theorem dL_law_760 : decode cL_law 760 = .ok (.iload 4, 2) := dk_21 4 (dk_at dksL_law_24 5 rfl rfl)
theorem dL_law_762 : decode cL_law 762 = .ok (.iconst 1, 1) := dk_4 (dk_at dksL_law_24 7 rfl rfl)
theorem dL_law_763 : decode cL_law 763 = .ok (.iadd, 1) := dk_96 (dk_at dksL_law_24 8 rfl rfl)
theorem dL_law_764 : decode cL_law 764 = .ok (.iaload, 1) := dk_46 (dk_at dksL_law_24 9 rfl rfl)
theorem dL_law_765 : decode cL_law 765 = .ok (.aload_n 0, 1) := dk_42 (dk_at dksL_law_24 10 rfl rfl)
theorem dL_law_766 : decode cL_law 766 = .ok (.iload 4, 2) := dk_21 4 (dk_at dksL_law_24 11 rfl rfl)
theorem dL_law_768 : decode cL_law 768 = .ok (.iconst 2, 1) := dk_5 (dk_at dksL_law_24 13 rfl rfl)
theorem dL_law_769 : decode cL_law 769 = .ok (.iadd, 1) := dk_96 (dk_at dksL_law_24 14 rfl rfl)
theorem dL_law_770 : decode cL_law 770 = .ok (.iaload, 1) := dk_46 (dk_at dksL_law_24 15 rfl rfl)
theorem dL_law_771 : decode cL_law 771 = .ok (.aload_n 3, 1) := dk_45 (dk_at dksL_law_24 16 rfl rfl)
theorem dL_law_772 : decode cL_law 772 = .ok (.invokestatic 169, 3) := dk_184 0 169 (dk_at dksL_law_24 17 rfl rfl)
theorem dL_law_775 : decode cL_law 775 = .ok (.istore 5, 2) := dk_54 5 (dk_at dksL_law_24 20 rfl rfl)
theorem dL_law_777 : decode cL_law 777 = .ok (.aload_n 2, 1) := dk_44 (dk_at dksL_law_24 22 rfl rfl)
theorem dL_law_778 : decode cL_law 778 = .ok (.aload_n 0, 1) := dk_42 (dk_at dksL_law_24 23 rfl rfl)
theorem dL_law_779 : decode cL_law 779 = .ok (.iload 4, 2) := dk_21 4 (dk_at dksL_law_25 0 rfl rfl)
theorem dL_law_781 : decode cL_law 781 = .ok (.iconst 1, 1) := dk_4 (dk_at dksL_law_25 2 rfl rfl)
theorem dL_law_782 : decode cL_law 782 = .ok (.iadd, 1) := dk_96 (dk_at dksL_law_25 3 rfl rfl)
theorem dL_law_783 : decode cL_law 783 = .ok (.iaload, 1) := dk_46 (dk_at dksL_law_25 4 rfl rfl)
theorem dL_law_784 : decode cL_law 784 = .ok (.aload_n 0, 1) := dk_42 (dk_at dksL_law_25 5 rfl rfl)
theorem dL_law_785 : decode cL_law 785 = .ok (.iload 4, 2) := dk_21 4 (dk_at dksL_law_25 6 rfl rfl)
theorem dL_law_787 : decode cL_law 787 = .ok (.iconst 2, 1) := dk_5 (dk_at dksL_law_25 8 rfl rfl)
theorem dL_law_788 : decode cL_law 788 = .ok (.iadd, 1) := dk_96 (dk_at dksL_law_25 9 rfl rfl)
theorem dL_law_789 : decode cL_law 789 = .ok (.iaload, 1) := dk_46 (dk_at dksL_law_25 10 rfl rfl)
theorem dL_law_790 : decode cL_law 790 = .ok (.invokevirtual 171, 3) := dk_182 0 171 (dk_at dksL_law_25 11 rfl rfl)
theorem dL_law_793 : decode cL_law 793 = .ok (.istore 6, 2) := dk_54 6 (dk_at dksL_law_25 14 rfl rfl)
theorem dL_law_795 : decode cL_law 795 = .ok (.aload_n 2, 1) := dk_44 (dk_at dksL_law_25 16 rfl rfl)
theorem dL_law_796 : decode cL_law 796 = .ok (.invokevirtual 145, 3) := dk_182 0 145 (dk_at dksL_law_25 17 rfl rfl)
theorem dL_law_799 : decode cL_law 799 = .ok (.iload 5, 2) := dk_21 5 (dk_at dksL_law_25 20 rfl rfl)
theorem dL_law_801 : decode cL_law 801 = .ok (.if_icmp .eq 5, 3) := dk_159 0 5 (dk_at dksL_law_26 0 rfl rfl)
theorem dL_law_804 : decode cL_law 804 = .ok (.iconst 0, 1) := dk_3 (dk_at dksL_law_26 3 rfl rfl)
theorem dL_law_805 : decode cL_law 805 = .ok (.ireturn, 1) := dk_172 (dk_at dksL_law_26 4 rfl rfl)
theorem dL_law_806 : decode cL_law 806 = .ok (.iload 5, 2) := dk_21 5 (dk_at dksL_law_26 5 rfl rfl)
theorem dL_law_808 : decode cL_law 808 = .ok (.ifCond .ne 15, 3) := dk_154 0 15 (dk_at dksL_law_26 7 rfl rfl)
theorem dL_law_811 : decode cL_law 811 = .ok (.aload_n 3, 1) := dk_45 (dk_at dksL_law_26 10 rfl rfl)
theorem dL_law_812 : decode cL_law 812 = .ok (.iconst 0, 1) := dk_3 (dk_at dksL_law_26 11 rfl rfl)
theorem dL_law_813 : decode cL_law 813 = .ok (.laload, 1) := dk_47 (dk_at dksL_law_26 12 rfl rfl)
theorem dL_law_814 : decode cL_law 814 = .ok (.iload 6, 2) := dk_21 6 (dk_at dksL_law_26 13 rfl rfl)
theorem dL_law_816 : decode cL_law 816 = .ok (.i2l, 1) := dk_133 (dk_at dksL_law_26 15 rfl rfl)
theorem dL_law_817 : decode cL_law 817 = .ok (.lcmp, 1) := dk_148 (dk_at dksL_law_26 16 rfl rfl)
theorem dL_law_818 : decode cL_law 818 = .ok (.ifCond .eq 5, 3) := dk_153 0 5 (dk_at dksL_law_26 17 rfl rfl)
theorem dL_law_821 : decode cL_law 821 = .ok (.iconst 0, 1) := dk_3 (dk_at dksL_law_26 20 rfl rfl)
theorem dL_law_822 : decode cL_law 822 = .ok (.ireturn, 1) := dk_172 (dk_at dksL_law_26 21 rfl rfl)
theorem dL_law_823 : decode cL_law 823 = .ok (.goto 1953, 3) := dk_167 7 161 (dk_at dksL_law_27 0 rfl rfl)
theorem dL_law_826 : decode cL_law 826 = .ok (.aload_n 1, 1) := dk_43 (dk_at dksL_law_27 3 rfl rfl)
theorem dL_law_827 : decode cL_law 827 = .ok (.aload_n 0, 1) := dk_42 (dk_at dksL_law_27 4 rfl rfl)
theorem dL_law_828 : decode cL_law 828 = .ok (.iload 4, 2) := dk_21 4 (dk_at dksL_law_27 5 rfl rfl)
theorem dL_law_830 : decode cL_law 830 = .ok (.iconst 1, 1) := dk_4 (dk_at dksL_law_27 7 rfl rfl)
theorem dL_law_831 : decode cL_law 831 = .ok (.iadd, 1) := dk_96 (dk_at dksL_law_27 8 rfl rfl)
theorem dL_law_832 : decode cL_law 832 = .ok (.iaload, 1) := dk_46 (dk_at dksL_law_27 9 rfl rfl)
theorem dL_law_833 : decode cL_law 833 = .ok (.aload_n 3, 1) := dk_45 (dk_at dksL_law_27 10 rfl rfl)
theorem dL_law_834 : decode cL_law 834 = .ok (.invokestatic 172, 3) := dk_184 0 172 (dk_at dksL_law_27 11 rfl rfl)
theorem dL_law_837 : decode cL_law 837 = .ok (.istore 5, 2) := dk_54 5 (dk_at dksL_law_27 14 rfl rfl)
theorem dL_law_839 : decode cL_law 839 = .ok (.aload_n 2, 1) := dk_44 (dk_at dksL_law_27 16 rfl rfl)
theorem dL_law_840 : decode cL_law 840 = .ok (.aload_n 0, 1) := dk_42 (dk_at dksL_law_27 17 rfl rfl)
theorem dL_law_841 : decode cL_law 841 = .ok (.iload 4, 2) := dk_21 4 (dk_at dksL_law_27 18 rfl rfl)
theorem dL_law_843 : decode cL_law 843 = .ok (.iconst 1, 1) := dk_4 (dk_at dksL_law_27 20 rfl rfl)
theorem dL_law_844 : decode cL_law 844 = .ok (.iadd, 1) := dk_96 (dk_at dksL_law_27 21 rfl rfl)
theorem dL_law_845 : decode cL_law 845 = .ok (.iaload, 1) := dk_46 (dk_at dksL_law_27 22 rfl rfl)
theorem dL_law_846 : decode cL_law 846 = .ok (.invokevirtual 174, 3) := dk_182 0 174 (dk_at dksL_law_28 0 rfl rfl)
theorem dL_law_849 : decode cL_law 849 = .ok (.istore 6, 2) := dk_54 6 (dk_at dksL_law_28 3 rfl rfl)
theorem dL_law_851 : decode cL_law 851 = .ok (.aload_n 2, 1) := dk_44 (dk_at dksL_law_28 5 rfl rfl)
theorem dL_law_852 : decode cL_law 852 = .ok (.invokevirtual 145, 3) := dk_182 0 145 (dk_at dksL_law_28 6 rfl rfl)
theorem dL_law_855 : decode cL_law 855 = .ok (.iload 5, 2) := dk_21 5 (dk_at dksL_law_28 9 rfl rfl)
theorem dL_law_857 : decode cL_law 857 = .ok (.if_icmp .eq 5, 3) := dk_159 0 5 (dk_at dksL_law_28 11 rfl rfl)
theorem dL_law_860 : decode cL_law 860 = .ok (.iconst 0, 1) := dk_3 (dk_at dksL_law_28 14 rfl rfl)
theorem dL_law_861 : decode cL_law 861 = .ok (.ireturn, 1) := dk_172 (dk_at dksL_law_28 15 rfl rfl)
theorem dL_law_862 : decode cL_law 862 = .ok (.iload 5, 2) := dk_21 5 (dk_at dksL_law_28 16 rfl rfl)
theorem dL_law_864 : decode cL_law 864 = .ok (.ifCond .ne 22, 3) := dk_154 0 22 (dk_at dksL_law_28 18 rfl rfl)
theorem dL_law_867 : decode cL_law 867 = .ok (.aload_n 3, 1) := dk_45 (dk_at dksL_law_28 21 rfl rfl)
theorem dL_law_868 : decode cL_law 868 = .ok (.iconst 0, 1) := dk_3 (dk_at dksL_law_28 22 rfl rfl)
theorem dL_law_869 : decode cL_law 869 = .ok (.laload, 1) := dk_47 (dk_at dksL_law_28 23 rfl rfl)
theorem dL_law_870 : decode cL_law 870 = .ok (.iload 6, 2) := dk_21 6 (dk_at dksL_law_29 0 rfl rfl)
theorem dL_law_872 : decode cL_law 872 = .ok (.ifCond .eq 7, 3) := dk_153 0 7 (dk_at dksL_law_29 2 rfl rfl)
theorem dL_law_875 : decode cL_law 875 = .ok (.lconst 1, 1) := dk_10 (dk_at dksL_law_29 5 rfl rfl)
theorem dL_law_876 : decode cL_law 876 = .ok (.goto 4, 3) := dk_167 0 4 (dk_at dksL_law_29 6 rfl rfl)
theorem dL_law_879 : decode cL_law 879 = .ok (.lconst 0, 1) := dk_9 (dk_at dksL_law_29 9 rfl rfl)
theorem dL_law_880 : decode cL_law 880 = .ok (.lcmp, 1) := dk_148 (dk_at dksL_law_29 10 rfl rfl)
theorem dL_law_881 : decode cL_law 881 = .ok (.ifCond .eq 5, 3) := dk_153 0 5 (dk_at dksL_law_29 11 rfl rfl)
theorem dL_law_884 : decode cL_law 884 = .ok (.iconst 0, 1) := dk_3 (dk_at dksL_law_29 14 rfl rfl)
theorem dL_law_885 : decode cL_law 885 = .ok (.ireturn, 1) := dk_172 (dk_at dksL_law_29 15 rfl rfl)
theorem dL_law_886 : decode cL_law 886 = .ok (.goto 1890, 3) := dk_167 7 98 (dk_at dksL_law_29 16 rfl rfl)
theorem dL_law_889 : decode cL_law 889 = .ok (.aload_n 1, 1) := dk_43 (dk_at dksL_law_29 19 rfl rfl)
theorem dL_law_890 : decode cL_law 890 = .ok (.aload_n 3, 1) := dk_45 (dk_at dksL_law_29 20 rfl rfl)
theorem dL_law_891 : decode cL_law 891 = .ok (.invokestatic 175, 3) := dk_184 0 175 (dk_at dksL_law_29 21 rfl rfl)
theorem dL_law_894 : decode cL_law 894 = .ok (.istore 5, 2) := dk_54 5 (dk_at dksL_law_30 0 rfl rfl)
theorem dL_law_896 : decode cL_law 896 = .ok (.aload_n 2, 1) := dk_44 (dk_at dksL_law_30 2 rfl rfl)
theorem dL_law_897 : decode cL_law 897 = .ok (.invokevirtual 178, 3) := dk_182 0 178 (dk_at dksL_law_30 3 rfl rfl)
theorem dL_law_900 : decode cL_law 900 = .ok (.istore 6, 2) := dk_54 6 (dk_at dksL_law_30 6 rfl rfl)
theorem dL_law_902 : decode cL_law 902 = .ok (.aload_n 2, 1) := dk_44 (dk_at dksL_law_30 8 rfl rfl)
theorem dL_law_903 : decode cL_law 903 = .ok (.invokevirtual 145, 3) := dk_182 0 145 (dk_at dksL_law_30 9 rfl rfl)
theorem dL_law_906 : decode cL_law 906 = .ok (.iload 5, 2) := dk_21 5 (dk_at dksL_law_30 12 rfl rfl)
theorem dL_law_908 : decode cL_law 908 = .ok (.if_icmp .eq 5, 3) := dk_159 0 5 (dk_at dksL_law_30 14 rfl rfl)
theorem dL_law_911 : decode cL_law 911 = .ok (.iconst 0, 1) := dk_3 (dk_at dksL_law_30 17 rfl rfl)
theorem dL_law_912 : decode cL_law 912 = .ok (.ireturn, 1) := dk_172 (dk_at dksL_law_30 18 rfl rfl)
theorem dL_law_913 : decode cL_law 913 = .ok (.iload 5, 2) := dk_21 5 (dk_at dksL_law_30 19 rfl rfl)
theorem dL_law_915 : decode cL_law 915 = .ok (.ifCond .ne 15, 3) := dk_154 0 15 (dk_at dksL_law_30 21 rfl rfl)
theorem dL_law_918 : decode cL_law 918 = .ok (.aload_n 3, 1) := dk_45 (dk_at dksL_law_31 0 rfl rfl)
theorem dL_law_919 : decode cL_law 919 = .ok (.iconst 0, 1) := dk_3 (dk_at dksL_law_31 1 rfl rfl)
theorem dL_law_920 : decode cL_law 920 = .ok (.laload, 1) := dk_47 (dk_at dksL_law_31 2 rfl rfl)
theorem dL_law_921 : decode cL_law 921 = .ok (.iload 6, 2) := dk_21 6 (dk_at dksL_law_31 3 rfl rfl)
theorem dL_law_923 : decode cL_law 923 = .ok (.i2l, 1) := dk_133 (dk_at dksL_law_31 5 rfl rfl)
theorem dL_law_924 : decode cL_law 924 = .ok (.lcmp, 1) := dk_148 (dk_at dksL_law_31 6 rfl rfl)
theorem dL_law_925 : decode cL_law 925 = .ok (.ifCond .eq 5, 3) := dk_153 0 5 (dk_at dksL_law_31 7 rfl rfl)
theorem dL_law_928 : decode cL_law 928 = .ok (.iconst 0, 1) := dk_3 (dk_at dksL_law_31 10 rfl rfl)
theorem dL_law_929 : decode cL_law 929 = .ok (.ireturn, 1) := dk_172 (dk_at dksL_law_31 11 rfl rfl)
theorem dL_law_930 : decode cL_law 930 = .ok (.goto 1846, 3) := dk_167 7 54 (dk_at dksL_law_31 12 rfl rfl)
theorem dL_law_933 : decode cL_law 933 = .ok (.aload_n 1, 1) := dk_43 (dk_at dksL_law_31 15 rfl rfl)
theorem dL_law_934 : decode cL_law 934 = .ok (.aload_n 0, 1) := dk_42 (dk_at dksL_law_31 16 rfl rfl)
theorem dL_law_935 : decode cL_law 935 = .ok (.iload 4, 2) := dk_21 4 (dk_at dksL_law_31 17 rfl rfl)
theorem dL_law_937 : decode cL_law 937 = .ok (.iconst 1, 1) := dk_4 (dk_at dksL_law_31 19 rfl rfl)
theorem dL_law_938 : decode cL_law 938 = .ok (.iadd, 1) := dk_96 (dk_at dksL_law_31 20 rfl rfl)
theorem dL_law_939 : decode cL_law 939 = .ok (.iaload, 1) := dk_46 (dk_at dksL_law_31 21 rfl rfl)
theorem dL_law_940 : decode cL_law 940 = .ok (.aload_n 3, 1) := dk_45 (dk_at dksL_law_31 22 rfl rfl)
theorem dL_law_941 : decode cL_law 941 = .ok (.invokestatic 179, 3) := dk_184 0 179 (dk_at dksL_law_32 0 rfl rfl)
theorem dL_law_944 : decode cL_law 944 = .ok (.istore 5, 2) := dk_54 5 (dk_at dksL_law_32 3 rfl rfl)
theorem dL_law_946 : decode cL_law 946 = .ok (.aload_n 2, 1) := dk_44 (dk_at dksL_law_32 5 rfl rfl)
theorem dL_law_947 : decode cL_law 947 = .ok (.aload_n 0, 1) := dk_42 (dk_at dksL_law_32 6 rfl rfl)
theorem dL_law_948 : decode cL_law 948 = .ok (.iload 4, 2) := dk_21 4 (dk_at dksL_law_32 7 rfl rfl)
theorem dL_law_950 : decode cL_law 950 = .ok (.iconst 1, 1) := dk_4 (dk_at dksL_law_32 9 rfl rfl)
theorem dL_law_951 : decode cL_law 951 = .ok (.iadd, 1) := dk_96 (dk_at dksL_law_32 10 rfl rfl)
theorem dL_law_952 : decode cL_law 952 = .ok (.iaload, 1) := dk_46 (dk_at dksL_law_32 11 rfl rfl)
theorem dL_law_953 : decode cL_law 953 = .ok (.invokevirtual 181, 3) := dk_182 0 181 (dk_at dksL_law_32 12 rfl rfl)
theorem dL_law_956 : decode cL_law 956 = .ok (.istore 6, 2) := dk_54 6 (dk_at dksL_law_32 15 rfl rfl)
theorem dL_law_958 : decode cL_law 958 = .ok (.aload_n 2, 1) := dk_44 (dk_at dksL_law_32 17 rfl rfl)
theorem dL_law_959 : decode cL_law 959 = .ok (.invokevirtual 145, 3) := dk_182 0 145 (dk_at dksL_law_32 18 rfl rfl)
theorem dL_law_962 : decode cL_law 962 = .ok (.iload 5, 2) := dk_21 5 (dk_at dksL_law_32 21 rfl rfl)
theorem dL_law_964 : decode cL_law 964 = .ok (.if_icmp .eq 5, 3) := dk_159 0 5 (dk_at dksL_law_33 0 rfl rfl)
theorem dL_law_967 : decode cL_law 967 = .ok (.iconst 0, 1) := dk_3 (dk_at dksL_law_33 3 rfl rfl)
theorem dL_law_968 : decode cL_law 968 = .ok (.ireturn, 1) := dk_172 (dk_at dksL_law_33 4 rfl rfl)
theorem dL_law_969 : decode cL_law 969 = .ok (.iload 5, 2) := dk_21 5 (dk_at dksL_law_33 5 rfl rfl)
theorem dL_law_971 : decode cL_law 971 = .ok (.ifCond .ne 15, 3) := dk_154 0 15 (dk_at dksL_law_33 7 rfl rfl)
theorem dL_law_974 : decode cL_law 974 = .ok (.aload_n 3, 1) := dk_45 (dk_at dksL_law_33 10 rfl rfl)
theorem dL_law_975 : decode cL_law 975 = .ok (.iconst 0, 1) := dk_3 (dk_at dksL_law_33 11 rfl rfl)
theorem dL_law_976 : decode cL_law 976 = .ok (.laload, 1) := dk_47 (dk_at dksL_law_33 12 rfl rfl)
theorem dL_law_977 : decode cL_law 977 = .ok (.iload 6, 2) := dk_21 6 (dk_at dksL_law_33 13 rfl rfl)
theorem dL_law_979 : decode cL_law 979 = .ok (.i2l, 1) := dk_133 (dk_at dksL_law_33 15 rfl rfl)
theorem dL_law_980 : decode cL_law 980 = .ok (.lcmp, 1) := dk_148 (dk_at dksL_law_33 16 rfl rfl)
theorem dL_law_981 : decode cL_law 981 = .ok (.ifCond .eq 5, 3) := dk_153 0 5 (dk_at dksL_law_33 17 rfl rfl)
theorem dL_law_984 : decode cL_law 984 = .ok (.iconst 0, 1) := dk_3 (dk_at dksL_law_33 20 rfl rfl)
theorem dL_law_985 : decode cL_law 985 = .ok (.ireturn, 1) := dk_172 (dk_at dksL_law_33 21 rfl rfl)
theorem dL_law_986 : decode cL_law 986 = .ok (.goto 1790, 3) := dk_167 6 254 (dk_at dksL_law_34 0 rfl rfl)
theorem dL_law_989 : decode cL_law 989 = .ok (.aload_n 1, 1) := dk_43 (dk_at dksL_law_34 3 rfl rfl)
theorem dL_law_990 : decode cL_law 990 = .ok (.invokevirtual 182, 3) := dk_182 0 182 (dk_at dksL_law_34 4 rfl rfl)
theorem dL_law_993 : decode cL_law 993 = .ok (.aload_n 2, 1) := dk_44 (dk_at dksL_law_34 7 rfl rfl)
theorem dL_law_994 : decode cL_law 994 = .ok (.invokevirtual 185, 3) := dk_182 0 185 (dk_at dksL_law_34 8 rfl rfl)
theorem dL_law_997 : decode cL_law 997 = .ok (.if_icmp .eq 1779, 3) := dk_159 6 243 (dk_at dksL_law_34 11 rfl rfl)
theorem dL_law_1000 : decode cL_law 1000 = .ok (.iconst 0, 1) := dk_3 (dk_at dksL_law_34 14 rfl rfl)
theorem dL_law_1001 : decode cL_law 1001 = .ok (.ireturn, 1) := dk_172 (dk_at dksL_law_34 15 rfl rfl)
theorem dL_law_1002 : decode cL_law 1002 = .ok (.aload_n 1, 1) := dk_43 (dk_at dksL_law_34 16 rfl rfl)
theorem dL_law_1003 : decode cL_law 1003 = .ok (.invokevirtual 186, 3) := dk_182 0 186 (dk_at dksL_law_34 17 rfl rfl)
theorem dL_law_1006 : decode cL_law 1006 = .ok (.aload_n 2, 1) := dk_44 (dk_at dksL_law_34 20 rfl rfl)
theorem dL_law_1007 : decode cL_law 1007 = .ok (.invokevirtual 189, 3) := dk_182 0 189 (dk_at dksL_law_34 21 rfl rfl)
theorem dL_law_1010 : decode cL_law 1010 = .ok (.if_icmp .eq 1766, 3) := dk_159 6 230 (dk_at dksL_law_35 0 rfl rfl)
theorem dL_law_1013 : decode cL_law 1013 = .ok (.iconst 0, 1) := dk_3 (dk_at dksL_law_35 3 rfl rfl)
theorem dL_law_1014 : decode cL_law 1014 = .ok (.ireturn, 1) := dk_172 (dk_at dksL_law_35 4 rfl rfl)
theorem dL_law_1015 : decode cL_law 1015 = .ok (.aload_n 1, 1) := dk_43 (dk_at dksL_law_35 5 rfl rfl)
theorem dL_law_1016 : decode cL_law 1016 = .ok (.aload_n 3, 1) := dk_45 (dk_at dksL_law_35 6 rfl rfl)
theorem dL_law_1017 : decode cL_law 1017 = .ok (.invokestatic 190, 3) := dk_184 0 190 (dk_at dksL_law_35 7 rfl rfl)
theorem dL_law_1020 : decode cL_law 1020 = .ok (.istore 5, 2) := dk_54 5 (dk_at dksL_law_35 10 rfl rfl)
theorem dL_law_1022 : decode cL_law 1022 = .ok (.aload_n 2, 1) := dk_44 (dk_at dksL_law_35 12 rfl rfl)
theorem dL_law_1023 : decode cL_law 1023 = .ok (.invokevirtual 192, 3) := dk_182 0 192 (dk_at dksL_law_35 13 rfl rfl)
theorem dL_law_1026 : decode cL_law 1026 = .ok (.istore 6, 2) := dk_54 6 (dk_at dksL_law_35 16 rfl rfl)
theorem dL_law_1028 : decode cL_law 1028 = .ok (.aload_n 2, 1) := dk_44 (dk_at dksL_law_35 18 rfl rfl)
theorem dL_law_1029 : decode cL_law 1029 = .ok (.invokevirtual 145, 3) := dk_182 0 145 (dk_at dksL_law_35 19 rfl rfl)
theorem dL_law_1032 : decode cL_law 1032 = .ok (.iload 5, 2) := dk_21 5 (dk_at dksL_law_35 22 rfl rfl)
theorem dL_law_1034 : decode cL_law 1034 = .ok (.if_icmp .eq 5, 3) := dk_159 0 5 (dk_at dksL_law_36 0 rfl rfl)
theorem dL_law_1037 : decode cL_law 1037 = .ok (.iconst 0, 1) := dk_3 (dk_at dksL_law_36 3 rfl rfl)
theorem dL_law_1038 : decode cL_law 1038 = .ok (.ireturn, 1) := dk_172 (dk_at dksL_law_36 4 rfl rfl)
theorem dL_law_1039 : decode cL_law 1039 = .ok (.iload 5, 2) := dk_21 5 (dk_at dksL_law_36 5 rfl rfl)
theorem dL_law_1041 : decode cL_law 1041 = .ok (.ifCond .ne 15, 3) := dk_154 0 15 (dk_at dksL_law_36 7 rfl rfl)
theorem dL_law_1044 : decode cL_law 1044 = .ok (.aload_n 3, 1) := dk_45 (dk_at dksL_law_36 10 rfl rfl)
theorem dL_law_1045 : decode cL_law 1045 = .ok (.iconst 0, 1) := dk_3 (dk_at dksL_law_36 11 rfl rfl)
theorem dL_law_1046 : decode cL_law 1046 = .ok (.laload, 1) := dk_47 (dk_at dksL_law_36 12 rfl rfl)
theorem dL_law_1047 : decode cL_law 1047 = .ok (.iload 6, 2) := dk_21 6 (dk_at dksL_law_36 13 rfl rfl)
theorem dL_law_1049 : decode cL_law 1049 = .ok (.i2l, 1) := dk_133 (dk_at dksL_law_36 15 rfl rfl)
theorem dL_law_1050 : decode cL_law 1050 = .ok (.lcmp, 1) := dk_148 (dk_at dksL_law_36 16 rfl rfl)
theorem dL_law_1051 : decode cL_law 1051 = .ok (.ifCond .eq 5, 3) := dk_153 0 5 (dk_at dksL_law_36 17 rfl rfl)
theorem dL_law_1054 : decode cL_law 1054 = .ok (.iconst 0, 1) := dk_3 (dk_at dksL_law_36 20 rfl rfl)
theorem dL_law_1055 : decode cL_law 1055 = .ok (.ireturn, 1) := dk_172 (dk_at dksL_law_36 21 rfl rfl)
theorem dL_law_1056 : decode cL_law 1056 = .ok (.goto 1720, 3) := dk_167 6 184 (dk_at dksL_law_37 0 rfl rfl)
theorem dL_law_1059 : decode cL_law 1059 = .ok (.aload_n 1, 1) := dk_43 (dk_at dksL_law_37 3 rfl rfl)
theorem dL_law_1060 : decode cL_law 1060 = .ok (.invokevirtual 193, 3) := dk_182 0 193 (dk_at dksL_law_37 4 rfl rfl)
theorem dL_law_1063 : decode cL_law 1063 = .ok (.aload_n 2, 1) := dk_44 (dk_at dksL_law_37 7 rfl rfl)
theorem dL_law_1064 : decode cL_law 1064 = .ok (.invokevirtual 197, 3) := dk_182 0 197 (dk_at dksL_law_37 8 rfl rfl)
theorem dL_law_1067 : decode cL_law 1067 = .ok (.if_icmp .eq 1709, 3) := dk_159 6 173 (dk_at dksL_law_37 11 rfl rfl)
theorem dL_law_1070 : decode cL_law 1070 = .ok (.iconst 0, 1) := dk_3 (dk_at dksL_law_37 14 rfl rfl)
theorem dL_law_1071 : decode cL_law 1071 = .ok (.ireturn, 1) := dk_172 (dk_at dksL_law_37 15 rfl rfl)
theorem dL_law_1072 : decode cL_law 1072 = .ok (.aload_n 1, 1) := dk_43 (dk_at dksL_law_37 16 rfl rfl)
theorem dL_law_1073 : decode cL_law 1073 = .ok (.aload_n 3, 1) := dk_45 (dk_at dksL_law_37 17 rfl rfl)
theorem dL_law_1074 : decode cL_law 1074 = .ok (.invokestatic 198, 3) := dk_184 0 198 (dk_at dksL_law_37 18 rfl rfl)
theorem dL_law_1077 : decode cL_law 1077 = .ok (.istore 5, 2) := dk_54 5 (dk_at dksL_law_37 21 rfl rfl)
theorem dL_law_1079 : decode cL_law 1079 = .ok (.aload_n 2, 1) := dk_44 (dk_at dksL_law_37 23 rfl rfl)
theorem dL_law_1080 : decode cL_law 1080 = .ok (.invokevirtual 200, 3) := dk_182 0 200 (dk_at dksL_law_38 0 rfl rfl)
theorem dL_law_1083 : decode cL_law 1083 = .ok (.istore 6, 2) := dk_54 6 (dk_at dksL_law_38 3 rfl rfl)
theorem dL_law_1085 : decode cL_law 1085 = .ok (.aload_n 2, 1) := dk_44 (dk_at dksL_law_38 5 rfl rfl)
theorem dL_law_1086 : decode cL_law 1086 = .ok (.invokevirtual 145, 3) := dk_182 0 145 (dk_at dksL_law_38 6 rfl rfl)
theorem dL_law_1089 : decode cL_law 1089 = .ok (.iload 5, 2) := dk_21 5 (dk_at dksL_law_38 9 rfl rfl)
theorem dL_law_1091 : decode cL_law 1091 = .ok (.if_icmp .eq 5, 3) := dk_159 0 5 (dk_at dksL_law_38 11 rfl rfl)
theorem dL_law_1094 : decode cL_law 1094 = .ok (.iconst 0, 1) := dk_3 (dk_at dksL_law_38 14 rfl rfl)
theorem dL_law_1095 : decode cL_law 1095 = .ok (.ireturn, 1) := dk_172 (dk_at dksL_law_38 15 rfl rfl)
theorem dL_law_1096 : decode cL_law 1096 = .ok (.iload 5, 2) := dk_21 5 (dk_at dksL_law_38 16 rfl rfl)
theorem dL_law_1098 : decode cL_law 1098 = .ok (.ifCond .ne 15, 3) := dk_154 0 15 (dk_at dksL_law_38 18 rfl rfl)
theorem dL_law_1101 : decode cL_law 1101 = .ok (.aload_n 3, 1) := dk_45 (dk_at dksL_law_38 21 rfl rfl)
theorem dL_law_1102 : decode cL_law 1102 = .ok (.iconst 0, 1) := dk_3 (dk_at dksL_law_38 22 rfl rfl)
theorem dL_law_1103 : decode cL_law 1103 = .ok (.laload, 1) := dk_47 (dk_at dksL_law_38 23 rfl rfl)
theorem dL_law_1104 : decode cL_law 1104 = .ok (.iload 6, 2) := dk_21 6 (dk_at dksL_law_39 0 rfl rfl)
theorem dL_law_1106 : decode cL_law 1106 = .ok (.i2l, 1) := dk_133 (dk_at dksL_law_39 2 rfl rfl)
theorem dL_law_1107 : decode cL_law 1107 = .ok (.lcmp, 1) := dk_148 (dk_at dksL_law_39 3 rfl rfl)
theorem dL_law_1108 : decode cL_law 1108 = .ok (.ifCond .eq 5, 3) := dk_153 0 5 (dk_at dksL_law_39 4 rfl rfl)
theorem dL_law_1111 : decode cL_law 1111 = .ok (.iconst 0, 1) := dk_3 (dk_at dksL_law_39 7 rfl rfl)
theorem dL_law_1112 : decode cL_law 1112 = .ok (.ireturn, 1) := dk_172 (dk_at dksL_law_39 8 rfl rfl)
theorem dL_law_1113 : decode cL_law 1113 = .ok (.goto 1663, 3) := dk_167 6 127 (dk_at dksL_law_39 9 rfl rfl)
theorem dL_law_1116 : decode cL_law 1116 = .ok (.aload_n 1, 1) := dk_43 (dk_at dksL_law_39 12 rfl rfl)
theorem dL_law_1117 : decode cL_law 1117 = .ok (.aload_n 3, 1) := dk_45 (dk_at dksL_law_39 13 rfl rfl)
theorem dL_law_1118 : decode cL_law 1118 = .ok (.invokestatic 201, 3) := dk_184 0 201 (dk_at dksL_law_39 14 rfl rfl)
theorem dL_law_1121 : decode cL_law 1121 = .ok (.istore 5, 2) := dk_54 5 (dk_at dksL_law_39 17 rfl rfl)
theorem dL_law_1123 : decode cL_law 1123 = .ok (.aload_n 2, 1) := dk_44 (dk_at dksL_law_39 19 rfl rfl)
theorem dL_law_1124 : decode cL_law 1124 = .ok (.invokevirtual 203, 3) := dk_182 0 203 (dk_at dksL_law_39 20 rfl rfl)
theorem dL_law_1127 : decode cL_law 1127 = .ok (.istore 6, 2) := dk_54 6 (dk_at dksL_law_40 0 rfl rfl)
theorem dL_law_1129 : decode cL_law 1129 = .ok (.aload_n 2, 1) := dk_44 (dk_at dksL_law_40 2 rfl rfl)
theorem dL_law_1130 : decode cL_law 1130 = .ok (.invokevirtual 145, 3) := dk_182 0 145 (dk_at dksL_law_40 3 rfl rfl)
theorem dL_law_1133 : decode cL_law 1133 = .ok (.iload 5, 2) := dk_21 5 (dk_at dksL_law_40 6 rfl rfl)
theorem dL_law_1135 : decode cL_law 1135 = .ok (.if_icmp .eq 5, 3) := dk_159 0 5 (dk_at dksL_law_40 8 rfl rfl)
theorem dL_law_1138 : decode cL_law 1138 = .ok (.iconst 0, 1) := dk_3 (dk_at dksL_law_40 11 rfl rfl)
theorem dL_law_1139 : decode cL_law 1139 = .ok (.ireturn, 1) := dk_172 (dk_at dksL_law_40 12 rfl rfl)
theorem dL_law_1140 : decode cL_law 1140 = .ok (.iload 5, 2) := dk_21 5 (dk_at dksL_law_40 13 rfl rfl)
theorem dL_law_1142 : decode cL_law 1142 = .ok (.ifCond .ne 15, 3) := dk_154 0 15 (dk_at dksL_law_40 15 rfl rfl)
theorem dL_law_1145 : decode cL_law 1145 = .ok (.aload_n 3, 1) := dk_45 (dk_at dksL_law_40 18 rfl rfl)
theorem dL_law_1146 : decode cL_law 1146 = .ok (.iconst 0, 1) := dk_3 (dk_at dksL_law_40 19 rfl rfl)
theorem dL_law_1147 : decode cL_law 1147 = .ok (.laload, 1) := dk_47 (dk_at dksL_law_40 20 rfl rfl)
theorem dL_law_1148 : decode cL_law 1148 = .ok (.iload 6, 2) := dk_21 6 (dk_at dksL_law_40 21 rfl rfl)
theorem dL_law_1150 : decode cL_law 1150 = .ok (.i2l, 1) := dk_133 (dk_at dksL_law_40 23 rfl rfl)
theorem dL_law_1151 : decode cL_law 1151 = .ok (.lcmp, 1) := dk_148 (dk_at dksL_law_41 0 rfl rfl)
theorem dL_law_1152 : decode cL_law 1152 = .ok (.ifCond .eq 5, 3) := dk_153 0 5 (dk_at dksL_law_41 1 rfl rfl)
theorem dL_law_1155 : decode cL_law 1155 = .ok (.iconst 0, 1) := dk_3 (dk_at dksL_law_41 4 rfl rfl)
theorem dL_law_1156 : decode cL_law 1156 = .ok (.ireturn, 1) := dk_172 (dk_at dksL_law_41 5 rfl rfl)
theorem dL_law_1157 : decode cL_law 1157 = .ok (.goto 1619, 3) := dk_167 6 83 (dk_at dksL_law_41 6 rfl rfl)
theorem dL_law_1160 : decode cL_law 1160 = .ok (.aload_n 1, 1) := dk_43 (dk_at dksL_law_41 9 rfl rfl)
theorem dL_law_1161 : decode cL_law 1161 = .ok (.invokevirtual 204, 3) := dk_182 0 204 (dk_at dksL_law_41 10 rfl rfl)
theorem dL_law_1164 : decode cL_law 1164 = .ok (.aload_n 2, 1) := dk_44 (dk_at dksL_law_41 13 rfl rfl)
theorem dL_law_1165 : decode cL_law 1165 = .ok (.invokevirtual 207, 3) := dk_182 0 207 (dk_at dksL_law_41 14 rfl rfl)
theorem dL_law_1168 : decode cL_law 1168 = .ok (.if_icmp .eq 1608, 3) := dk_159 6 72 (dk_at dksL_law_41 17 rfl rfl)
theorem dL_law_1171 : decode cL_law 1171 = .ok (.iconst 0, 1) := dk_3 (dk_at dksL_law_41 20 rfl rfl)
theorem dL_law_1172 : decode cL_law 1172 = .ok (.ireturn, 1) := dk_172 (dk_at dksL_law_41 21 rfl rfl)
theorem dL_law_1173 : decode cL_law 1173 = .ok (.aload_n 1, 1) := dk_43 (dk_at dksL_law_41 22 rfl rfl)
theorem dL_law_1174 : decode cL_law 1174 = .ok (.aload_n 3, 1) := dk_45 (dk_at dksL_law_41 23 rfl rfl)
theorem dL_law_1175 : decode cL_law 1175 = .ok (.invokestatic 208, 3) := dk_184 0 208 (dk_at dksL_law_42 0 rfl rfl)
theorem dL_law_1178 : decode cL_law 1178 = .ok (.istore 5, 2) := dk_54 5 (dk_at dksL_law_42 3 rfl rfl)
theorem dL_law_1180 : decode cL_law 1180 = .ok (.aload_n 2, 1) := dk_44 (dk_at dksL_law_42 5 rfl rfl)
theorem dL_law_1181 : decode cL_law 1181 = .ok (.invokevirtual 210, 3) := dk_182 0 210 (dk_at dksL_law_42 6 rfl rfl)
theorem dL_law_1184 : decode cL_law 1184 = .ok (.istore 6, 2) := dk_54 6 (dk_at dksL_law_42 9 rfl rfl)
theorem dL_law_1186 : decode cL_law 1186 = .ok (.aload_n 2, 1) := dk_44 (dk_at dksL_law_42 11 rfl rfl)
theorem dL_law_1187 : decode cL_law 1187 = .ok (.invokevirtual 145, 3) := dk_182 0 145 (dk_at dksL_law_42 12 rfl rfl)
theorem dL_law_1190 : decode cL_law 1190 = .ok (.iload 5, 2) := dk_21 5 (dk_at dksL_law_42 15 rfl rfl)
theorem dL_law_1192 : decode cL_law 1192 = .ok (.if_icmp .eq 5, 3) := dk_159 0 5 (dk_at dksL_law_42 17 rfl rfl)
theorem dL_law_1195 : decode cL_law 1195 = .ok (.iconst 0, 1) := dk_3 (dk_at dksL_law_42 20 rfl rfl)
theorem dL_law_1196 : decode cL_law 1196 = .ok (.ireturn, 1) := dk_172 (dk_at dksL_law_42 21 rfl rfl)
theorem dL_law_1197 : decode cL_law 1197 = .ok (.iload 5, 2) := dk_21 5 (dk_at dksL_law_42 22 rfl rfl)
theorem dL_law_1199 : decode cL_law 1199 = .ok (.ifCond .ne 15, 3) := dk_154 0 15 (dk_at dksL_law_43 0 rfl rfl)
theorem dL_law_1202 : decode cL_law 1202 = .ok (.aload_n 3, 1) := dk_45 (dk_at dksL_law_43 3 rfl rfl)
theorem dL_law_1203 : decode cL_law 1203 = .ok (.iconst 0, 1) := dk_3 (dk_at dksL_law_43 4 rfl rfl)
theorem dL_law_1204 : decode cL_law 1204 = .ok (.laload, 1) := dk_47 (dk_at dksL_law_43 5 rfl rfl)
theorem dL_law_1205 : decode cL_law 1205 = .ok (.iload 6, 2) := dk_21 6 (dk_at dksL_law_43 6 rfl rfl)
theorem dL_law_1207 : decode cL_law 1207 = .ok (.i2l, 1) := dk_133 (dk_at dksL_law_43 8 rfl rfl)
theorem dL_law_1208 : decode cL_law 1208 = .ok (.lcmp, 1) := dk_148 (dk_at dksL_law_43 9 rfl rfl)
theorem dL_law_1209 : decode cL_law 1209 = .ok (.ifCond .eq 5, 3) := dk_153 0 5 (dk_at dksL_law_43 10 rfl rfl)
theorem dL_law_1212 : decode cL_law 1212 = .ok (.iconst 0, 1) := dk_3 (dk_at dksL_law_43 13 rfl rfl)
theorem dL_law_1213 : decode cL_law 1213 = .ok (.ireturn, 1) := dk_172 (dk_at dksL_law_43 14 rfl rfl)
theorem dL_law_1214 : decode cL_law 1214 = .ok (.goto 1562, 3) := dk_167 6 26 (dk_at dksL_law_43 15 rfl rfl)
theorem dL_law_1217 : decode cL_law 1217 = .ok (.aload_n 1, 1) := dk_43 (dk_at dksL_law_43 18 rfl rfl)
theorem dL_law_1218 : decode cL_law 1218 = .ok (.invokevirtual 211, 3) := dk_182 0 211 (dk_at dksL_law_43 19 rfl rfl)
theorem dL_law_1221 : decode cL_law 1221 = .ok (.aload_n 2, 1) := dk_44 (dk_at dksL_law_43 22 rfl rfl)
theorem dL_law_1222 : decode cL_law 1222 = .ok (.invokevirtual 214, 3) := dk_182 0 214 (dk_at dksL_law_44 0 rfl rfl)
theorem dL_law_1225 : decode cL_law 1225 = .ok (.if_icmp .eq 1551, 3) := dk_159 6 15 (dk_at dksL_law_44 3 rfl rfl)
theorem dL_law_1228 : decode cL_law 1228 = .ok (.iconst 0, 1) := dk_3 (dk_at dksL_law_44 6 rfl rfl)
theorem dL_law_1229 : decode cL_law 1229 = .ok (.ireturn, 1) := dk_172 (dk_at dksL_law_44 7 rfl rfl)
theorem dL_law_1230 : decode cL_law 1230 = .ok (.aload_n 1, 1) := dk_43 (dk_at dksL_law_44 8 rfl rfl)
theorem dL_law_1231 : decode cL_law 1231 = .ok (.invokevirtual 215, 3) := dk_182 0 215 (dk_at dksL_law_44 9 rfl rfl)
theorem dL_law_1234 : decode cL_law 1234 = .ok (.aload_n 2, 1) := dk_44 (dk_at dksL_law_44 12 rfl rfl)
theorem dL_law_1235 : decode cL_law 1235 = .ok (.invokevirtual 218, 3) := dk_182 0 218 (dk_at dksL_law_44 13 rfl rfl)
theorem dL_law_1238 : decode cL_law 1238 = .ok (.if_icmp .eq 1538, 3) := dk_159 6 2 (dk_at dksL_law_44 16 rfl rfl)
theorem dL_law_1241 : decode cL_law 1241 = .ok (.iconst 0, 1) := dk_3 (dk_at dksL_law_44 19 rfl rfl)
theorem dL_law_1242 : decode cL_law 1242 = .ok (.ireturn, 1) := dk_172 (dk_at dksL_law_44 20 rfl rfl)
theorem dL_law_1243 : decode cL_law 1243 = .ok (.aload_n 1, 1) := dk_43 (dk_at dksL_law_44 21 rfl rfl)
theorem dL_law_1244 : decode cL_law 1244 = .ok (.aload_n 0, 1) := dk_42 (dk_at dksL_law_44 22 rfl rfl)
theorem dL_law_1245 : decode cL_law 1245 = .ok (.iload 4, 2) := dk_21 4 (dk_at dksL_law_45 0 rfl rfl)
theorem dL_law_1247 : decode cL_law 1247 = .ok (.iconst 1, 1) := dk_4 (dk_at dksL_law_45 2 rfl rfl)
theorem dL_law_1248 : decode cL_law 1248 = .ok (.iadd, 1) := dk_96 (dk_at dksL_law_45 3 rfl rfl)
theorem dL_law_1249 : decode cL_law 1249 = .ok (.iaload, 1) := dk_46 (dk_at dksL_law_45 4 rfl rfl)
theorem dL_law_1250 : decode cL_law 1250 = .ok (.aload_n 3, 1) := dk_45 (dk_at dksL_law_45 5 rfl rfl)
theorem dL_law_1251 : decode cL_law 1251 = .ok (.invokestatic 219, 3) := dk_184 0 219 (dk_at dksL_law_45 6 rfl rfl)
theorem dL_law_1254 : decode cL_law 1254 = .ok (.istore 5, 2) := dk_54 5 (dk_at dksL_law_45 9 rfl rfl)
theorem dL_law_1256 : decode cL_law 1256 = .ok (.aload_n 2, 1) := dk_44 (dk_at dksL_law_45 11 rfl rfl)
theorem dL_law_1257 : decode cL_law 1257 = .ok (.aload_n 0, 1) := dk_42 (dk_at dksL_law_45 12 rfl rfl)
theorem dL_law_1258 : decode cL_law 1258 = .ok (.iload 4, 2) := dk_21 4 (dk_at dksL_law_45 13 rfl rfl)
theorem dL_law_1260 : decode cL_law 1260 = .ok (.iconst 1, 1) := dk_4 (dk_at dksL_law_45 15 rfl rfl)
theorem dL_law_1261 : decode cL_law 1261 = .ok (.iadd, 1) := dk_96 (dk_at dksL_law_45 16 rfl rfl)
theorem dL_law_1262 : decode cL_law 1262 = .ok (.iaload, 1) := dk_46 (dk_at dksL_law_45 17 rfl rfl)
theorem dL_law_1263 : decode cL_law 1263 = .ok (.invokevirtual 221, 3) := dk_182 0 221 (dk_at dksL_law_45 18 rfl rfl)
theorem dL_law_1266 : decode cL_law 1266 = .ok (.istore 6, 2) := dk_54 6 (dk_at dksL_law_45 21 rfl rfl)
theorem dL_law_1268 : decode cL_law 1268 = .ok (.aload_n 2, 1) := dk_44 (dk_at dksL_law_45 23 rfl rfl)
theorem dL_law_1269 : decode cL_law 1269 = .ok (.invokevirtual 145, 3) := dk_182 0 145 (dk_at dksL_law_46 0 rfl rfl)
theorem dL_law_1272 : decode cL_law 1272 = .ok (.iload 5, 2) := dk_21 5 (dk_at dksL_law_46 3 rfl rfl)
theorem dL_law_1274 : decode cL_law 1274 = .ok (.if_icmp .eq 5, 3) := dk_159 0 5 (dk_at dksL_law_46 5 rfl rfl)
theorem dL_law_1277 : decode cL_law 1277 = .ok (.iconst 0, 1) := dk_3 (dk_at dksL_law_46 8 rfl rfl)
theorem dL_law_1278 : decode cL_law 1278 = .ok (.ireturn, 1) := dk_172 (dk_at dksL_law_46 9 rfl rfl)
theorem dL_law_1279 : decode cL_law 1279 = .ok (.iload 5, 2) := dk_21 5 (dk_at dksL_law_46 10 rfl rfl)
theorem dL_law_1281 : decode cL_law 1281 = .ok (.ifCond .ne 15, 3) := dk_154 0 15 (dk_at dksL_law_46 12 rfl rfl)
theorem dL_law_1284 : decode cL_law 1284 = .ok (.aload_n 3, 1) := dk_45 (dk_at dksL_law_46 15 rfl rfl)
theorem dL_law_1285 : decode cL_law 1285 = .ok (.iconst 0, 1) := dk_3 (dk_at dksL_law_46 16 rfl rfl)
theorem dL_law_1286 : decode cL_law 1286 = .ok (.laload, 1) := dk_47 (dk_at dksL_law_46 17 rfl rfl)
theorem dL_law_1287 : decode cL_law 1287 = .ok (.iload 6, 2) := dk_21 6 (dk_at dksL_law_46 18 rfl rfl)
theorem dL_law_1289 : decode cL_law 1289 = .ok (.i2l, 1) := dk_133 (dk_at dksL_law_46 20 rfl rfl)
theorem dL_law_1290 : decode cL_law 1290 = .ok (.lcmp, 1) := dk_148 (dk_at dksL_law_46 21 rfl rfl)
theorem dL_law_1291 : decode cL_law 1291 = .ok (.ifCond .eq 5, 3) := dk_153 0 5 (dk_at dksL_law_47 0 rfl rfl)
theorem dL_law_1294 : decode cL_law 1294 = .ok (.iconst 0, 1) := dk_3 (dk_at dksL_law_47 3 rfl rfl)
theorem dL_law_1295 : decode cL_law 1295 = .ok (.ireturn, 1) := dk_172 (dk_at dksL_law_47 4 rfl rfl)
theorem dL_law_1296 : decode cL_law 1296 = .ok (.goto 1480, 3) := dk_167 5 200 (dk_at dksL_law_47 5 rfl rfl)
theorem dL_law_1299 : decode cL_law 1299 = .ok (.aload_n 1, 1) := dk_43 (dk_at dksL_law_47 8 rfl rfl)
theorem dL_law_1300 : decode cL_law 1300 = .ok (.aload_n 0, 1) := dk_42 (dk_at dksL_law_47 9 rfl rfl)
theorem dL_law_1301 : decode cL_law 1301 = .ok (.iload 4, 2) := dk_21 4 (dk_at dksL_law_47 10 rfl rfl)
theorem dL_law_1303 : decode cL_law 1303 = .ok (.iconst 1, 1) := dk_4 (dk_at dksL_law_47 12 rfl rfl)
theorem dL_law_1304 : decode cL_law 1304 = .ok (.iadd, 1) := dk_96 (dk_at dksL_law_47 13 rfl rfl)
theorem dL_law_1305 : decode cL_law 1305 = .ok (.iaload, 1) := dk_46 (dk_at dksL_law_47 14 rfl rfl)
theorem dL_law_1306 : decode cL_law 1306 = .ok (.aload_n 3, 1) := dk_45 (dk_at dksL_law_47 15 rfl rfl)
theorem dL_law_1307 : decode cL_law 1307 = .ok (.invokestatic 222, 3) := dk_184 0 222 (dk_at dksL_law_47 16 rfl rfl)
theorem dL_law_1310 : decode cL_law 1310 = .ok (.istore 5, 2) := dk_54 5 (dk_at dksL_law_47 19 rfl rfl)
theorem dL_law_1312 : decode cL_law 1312 = .ok (.aload_n 2, 1) := dk_44 (dk_at dksL_law_47 21 rfl rfl)
theorem dL_law_1313 : decode cL_law 1313 = .ok (.aload_n 0, 1) := dk_42 (dk_at dksL_law_47 22 rfl rfl)
theorem dL_law_1314 : decode cL_law 1314 = .ok (.iload 4, 2) := dk_21 4 (dk_at dksL_law_48 0 rfl rfl)
theorem dL_law_1316 : decode cL_law 1316 = .ok (.iconst 1, 1) := dk_4 (dk_at dksL_law_48 2 rfl rfl)
theorem dL_law_1317 : decode cL_law 1317 = .ok (.iadd, 1) := dk_96 (dk_at dksL_law_48 3 rfl rfl)
theorem dL_law_1318 : decode cL_law 1318 = .ok (.iaload, 1) := dk_46 (dk_at dksL_law_48 4 rfl rfl)
theorem dL_law_1319 : decode cL_law 1319 = .ok (.invokevirtual 224, 3) := dk_182 0 224 (dk_at dksL_law_48 5 rfl rfl)
theorem dL_law_1322 : decode cL_law 1322 = .ok (.istore 6, 2) := dk_54 6 (dk_at dksL_law_48 8 rfl rfl)
theorem dL_law_1324 : decode cL_law 1324 = .ok (.aload_n 2, 1) := dk_44 (dk_at dksL_law_48 10 rfl rfl)
theorem dL_law_1325 : decode cL_law 1325 = .ok (.invokevirtual 145, 3) := dk_182 0 145 (dk_at dksL_law_48 11 rfl rfl)
theorem dL_law_1328 : decode cL_law 1328 = .ok (.iload 5, 2) := dk_21 5 (dk_at dksL_law_48 14 rfl rfl)
theorem dL_law_1330 : decode cL_law 1330 = .ok (.if_icmp .eq 5, 3) := dk_159 0 5 (dk_at dksL_law_48 16 rfl rfl)
theorem dL_law_1333 : decode cL_law 1333 = .ok (.iconst 0, 1) := dk_3 (dk_at dksL_law_48 19 rfl rfl)
theorem dL_law_1334 : decode cL_law 1334 = .ok (.ireturn, 1) := dk_172 (dk_at dksL_law_48 20 rfl rfl)
theorem dL_law_1335 : decode cL_law 1335 = .ok (.iload 5, 2) := dk_21 5 (dk_at dksL_law_48 21 rfl rfl)
theorem dL_law_1337 : decode cL_law 1337 = .ok (.ifCond .ne 15, 3) := dk_154 0 15 (dk_at dksL_law_49 0 rfl rfl)
theorem dL_law_1340 : decode cL_law 1340 = .ok (.aload_n 3, 1) := dk_45 (dk_at dksL_law_49 3 rfl rfl)
theorem dL_law_1341 : decode cL_law 1341 = .ok (.iconst 0, 1) := dk_3 (dk_at dksL_law_49 4 rfl rfl)
theorem dL_law_1342 : decode cL_law 1342 = .ok (.laload, 1) := dk_47 (dk_at dksL_law_49 5 rfl rfl)
theorem dL_law_1343 : decode cL_law 1343 = .ok (.iload 6, 2) := dk_21 6 (dk_at dksL_law_49 6 rfl rfl)
theorem dL_law_1345 : decode cL_law 1345 = .ok (.i2l, 1) := dk_133 (dk_at dksL_law_49 8 rfl rfl)
theorem dL_law_1346 : decode cL_law 1346 = .ok (.lcmp, 1) := dk_148 (dk_at dksL_law_49 9 rfl rfl)
theorem dL_law_1347 : decode cL_law 1347 = .ok (.ifCond .eq 5, 3) := dk_153 0 5 (dk_at dksL_law_49 10 rfl rfl)
theorem dL_law_1350 : decode cL_law 1350 = .ok (.iconst 0, 1) := dk_3 (dk_at dksL_law_49 13 rfl rfl)
theorem dL_law_1351 : decode cL_law 1351 = .ok (.ireturn, 1) := dk_172 (dk_at dksL_law_49 14 rfl rfl)
theorem dL_law_1352 : decode cL_law 1352 = .ok (.goto 1424, 3) := dk_167 5 144 (dk_at dksL_law_49 15 rfl rfl)
theorem dL_law_1355 : decode cL_law 1355 = .ok (.aload_n 1, 1) := dk_43 (dk_at dksL_law_49 18 rfl rfl)
theorem dL_law_1356 : decode cL_law 1356 = .ok (.aload_n 0, 1) := dk_42 (dk_at dksL_law_49 19 rfl rfl)
theorem dL_law_1357 : decode cL_law 1357 = .ok (.iload 4, 2) := dk_21 4 (dk_at dksL_law_49 20 rfl rfl)
theorem dL_law_1359 : decode cL_law 1359 = .ok (.iconst 1, 1) := dk_4 (dk_at dksL_law_49 22 rfl rfl)
theorem dL_law_1360 : decode cL_law 1360 = .ok (.iadd, 1) := dk_96 (dk_at dksL_law_49 23 rfl rfl)
theorem dL_law_1361 : decode cL_law 1361 = .ok (.iaload, 1) := dk_46 (dk_at dksL_law_50 0 rfl rfl)
theorem dL_law_1362 : decode cL_law 1362 = .ok (.aload_n 3, 1) := dk_45 (dk_at dksL_law_50 1 rfl rfl)
theorem dL_law_1363 : decode cL_law 1363 = .ok (.invokestatic 225, 3) := dk_184 0 225 (dk_at dksL_law_50 2 rfl rfl)
theorem dL_law_1366 : decode cL_law 1366 = .ok (.istore 5, 2) := dk_54 5 (dk_at dksL_law_50 5 rfl rfl)
theorem dL_law_1368 : decode cL_law 1368 = .ok (.aload_n 2, 1) := dk_44 (dk_at dksL_law_50 7 rfl rfl)
theorem dL_law_1369 : decode cL_law 1369 = .ok (.aload_n 0, 1) := dk_42 (dk_at dksL_law_50 8 rfl rfl)
theorem dL_law_1370 : decode cL_law 1370 = .ok (.iload 4, 2) := dk_21 4 (dk_at dksL_law_50 9 rfl rfl)
theorem dL_law_1372 : decode cL_law 1372 = .ok (.iconst 1, 1) := dk_4 (dk_at dksL_law_50 11 rfl rfl)
theorem dL_law_1373 : decode cL_law 1373 = .ok (.iadd, 1) := dk_96 (dk_at dksL_law_50 12 rfl rfl)
theorem dL_law_1374 : decode cL_law 1374 = .ok (.iaload, 1) := dk_46 (dk_at dksL_law_50 13 rfl rfl)
theorem dL_law_1375 : decode cL_law 1375 = .ok (.invokevirtual 227, 3) := dk_182 0 227 (dk_at dksL_law_50 14 rfl rfl)
theorem dL_law_1378 : decode cL_law 1378 = .ok (.istore 6, 2) := dk_54 6 (dk_at dksL_law_50 17 rfl rfl)
theorem dL_law_1380 : decode cL_law 1380 = .ok (.aload_n 2, 1) := dk_44 (dk_at dksL_law_50 19 rfl rfl)
theorem dL_law_1381 : decode cL_law 1381 = .ok (.invokevirtual 145, 3) := dk_182 0 145 (dk_at dksL_law_50 20 rfl rfl)
theorem dL_law_1384 : decode cL_law 1384 = .ok (.iload 5, 2) := dk_21 5 (dk_at dksL_law_51 0 rfl rfl)
theorem dL_law_1386 : decode cL_law 1386 = .ok (.if_icmp .eq 5, 3) := dk_159 0 5 (dk_at dksL_law_51 2 rfl rfl)
theorem dL_law_1389 : decode cL_law 1389 = .ok (.iconst 0, 1) := dk_3 (dk_at dksL_law_51 5 rfl rfl)
theorem dL_law_1390 : decode cL_law 1390 = .ok (.ireturn, 1) := dk_172 (dk_at dksL_law_51 6 rfl rfl)
theorem dL_law_1391 : decode cL_law 1391 = .ok (.iload 5, 2) := dk_21 5 (dk_at dksL_law_51 7 rfl rfl)
theorem dL_law_1393 : decode cL_law 1393 = .ok (.ifCond .ne 22, 3) := dk_154 0 22 (dk_at dksL_law_51 9 rfl rfl)
theorem dL_law_1396 : decode cL_law 1396 = .ok (.aload_n 3, 1) := dk_45 (dk_at dksL_law_51 12 rfl rfl)
theorem dL_law_1397 : decode cL_law 1397 = .ok (.iconst 0, 1) := dk_3 (dk_at dksL_law_51 13 rfl rfl)
theorem dL_law_1398 : decode cL_law 1398 = .ok (.laload, 1) := dk_47 (dk_at dksL_law_51 14 rfl rfl)
theorem dL_law_1399 : decode cL_law 1399 = .ok (.iload 6, 2) := dk_21 6 (dk_at dksL_law_51 15 rfl rfl)
theorem dL_law_1401 : decode cL_law 1401 = .ok (.ifCond .eq 7, 3) := dk_153 0 7 (dk_at dksL_law_51 17 rfl rfl)
theorem dL_law_1404 : decode cL_law 1404 = .ok (.lconst 1, 1) := dk_10 (dk_at dksL_law_51 20 rfl rfl)
theorem dL_law_1405 : decode cL_law 1405 = .ok (.goto 4, 3) := dk_167 0 4 (dk_at dksL_law_51 21 rfl rfl)
theorem dL_law_1408 : decode cL_law 1408 = .ok (.lconst 0, 1) := dk_9 (dk_at dksL_law_52 0 rfl rfl)
theorem dL_law_1409 : decode cL_law 1409 = .ok (.lcmp, 1) := dk_148 (dk_at dksL_law_52 1 rfl rfl)
theorem dL_law_1410 : decode cL_law 1410 = .ok (.ifCond .eq 5, 3) := dk_153 0 5 (dk_at dksL_law_52 2 rfl rfl)
theorem dL_law_1413 : decode cL_law 1413 = .ok (.iconst 0, 1) := dk_3 (dk_at dksL_law_52 5 rfl rfl)
theorem dL_law_1414 : decode cL_law 1414 = .ok (.ireturn, 1) := dk_172 (dk_at dksL_law_52 6 rfl rfl)
theorem dL_law_1415 : decode cL_law 1415 = .ok (.goto 1361, 3) := dk_167 5 81 (dk_at dksL_law_52 7 rfl rfl)
theorem dL_law_1418 : decode cL_law 1418 = .ok (.aload_n 1, 1) := dk_43 (dk_at dksL_law_52 10 rfl rfl)
theorem dL_law_1419 : decode cL_law 1419 = .ok (.aload_n 0, 1) := dk_42 (dk_at dksL_law_52 11 rfl rfl)
theorem dL_law_1420 : decode cL_law 1420 = .ok (.iload 4, 2) := dk_21 4 (dk_at dksL_law_52 12 rfl rfl)
theorem dL_law_1422 : decode cL_law 1422 = .ok (.iconst 1, 1) := dk_4 (dk_at dksL_law_52 14 rfl rfl)
theorem dL_law_1423 : decode cL_law 1423 = .ok (.iadd, 1) := dk_96 (dk_at dksL_law_52 15 rfl rfl)
theorem dL_law_1424 : decode cL_law 1424 = .ok (.iaload, 1) := dk_46 (dk_at dksL_law_52 16 rfl rfl)
theorem dL_law_1425 : decode cL_law 1425 = .ok (.aload_n 3, 1) := dk_45 (dk_at dksL_law_52 17 rfl rfl)
theorem dL_law_1426 : decode cL_law 1426 = .ok (.invokestatic 228, 3) := dk_184 0 228 (dk_at dksL_law_52 18 rfl rfl)
theorem dL_law_1429 : decode cL_law 1429 = .ok (.istore 5, 2) := dk_54 5 (dk_at dksL_law_52 21 rfl rfl)
theorem dL_law_1431 : decode cL_law 1431 = .ok (.aload_n 2, 1) := dk_44 (dk_at dksL_law_52 23 rfl rfl)
theorem dL_law_1432 : decode cL_law 1432 = .ok (.aload_n 0, 1) := dk_42 (dk_at dksL_law_53 0 rfl rfl)
theorem dL_law_1433 : decode cL_law 1433 = .ok (.iload 4, 2) := dk_21 4 (dk_at dksL_law_53 1 rfl rfl)
theorem dL_law_1435 : decode cL_law 1435 = .ok (.iconst 1, 1) := dk_4 (dk_at dksL_law_53 3 rfl rfl)
theorem dL_law_1436 : decode cL_law 1436 = .ok (.iadd, 1) := dk_96 (dk_at dksL_law_53 4 rfl rfl)
theorem dL_law_1437 : decode cL_law 1437 = .ok (.iaload, 1) := dk_46 (dk_at dksL_law_53 5 rfl rfl)
theorem dL_law_1438 : decode cL_law 1438 = .ok (.invokevirtual 230, 3) := dk_182 0 230 (dk_at dksL_law_53 6 rfl rfl)
theorem dL_law_1441 : decode cL_law 1441 = .ok (.istore 6, 2) := dk_54 6 (dk_at dksL_law_53 9 rfl rfl)
theorem dL_law_1443 : decode cL_law 1443 = .ok (.aload_n 2, 1) := dk_44 (dk_at dksL_law_53 11 rfl rfl)
theorem dL_law_1444 : decode cL_law 1444 = .ok (.invokevirtual 145, 3) := dk_182 0 145 (dk_at dksL_law_53 12 rfl rfl)
theorem dL_law_1447 : decode cL_law 1447 = .ok (.iload 5, 2) := dk_21 5 (dk_at dksL_law_53 15 rfl rfl)
theorem dL_law_1449 : decode cL_law 1449 = .ok (.if_icmp .eq 5, 3) := dk_159 0 5 (dk_at dksL_law_53 17 rfl rfl)
theorem dL_law_1452 : decode cL_law 1452 = .ok (.iconst 0, 1) := dk_3 (dk_at dksL_law_53 20 rfl rfl)
theorem dL_law_1453 : decode cL_law 1453 = .ok (.ireturn, 1) := dk_172 (dk_at dksL_law_53 21 rfl rfl)
theorem dL_law_1454 : decode cL_law 1454 = .ok (.iload 5, 2) := dk_21 5 (dk_at dksL_law_53 22 rfl rfl)
theorem dL_law_1456 : decode cL_law 1456 = .ok (.ifCond .ne 15, 3) := dk_154 0 15 (dk_at dksL_law_54 0 rfl rfl)
theorem dL_law_1459 : decode cL_law 1459 = .ok (.aload_n 3, 1) := dk_45 (dk_at dksL_law_54 3 rfl rfl)
theorem dL_law_1460 : decode cL_law 1460 = .ok (.iconst 0, 1) := dk_3 (dk_at dksL_law_54 4 rfl rfl)
theorem dL_law_1461 : decode cL_law 1461 = .ok (.laload, 1) := dk_47 (dk_at dksL_law_54 5 rfl rfl)
theorem dL_law_1462 : decode cL_law 1462 = .ok (.iload 6, 2) := dk_21 6 (dk_at dksL_law_54 6 rfl rfl)
theorem dL_law_1464 : decode cL_law 1464 = .ok (.i2l, 1) := dk_133 (dk_at dksL_law_54 8 rfl rfl)
theorem dL_law_1465 : decode cL_law 1465 = .ok (.lcmp, 1) := dk_148 (dk_at dksL_law_54 9 rfl rfl)
theorem dL_law_1466 : decode cL_law 1466 = .ok (.ifCond .eq 5, 3) := dk_153 0 5 (dk_at dksL_law_54 10 rfl rfl)
theorem dL_law_1469 : decode cL_law 1469 = .ok (.iconst 0, 1) := dk_3 (dk_at dksL_law_54 13 rfl rfl)
theorem dL_law_1470 : decode cL_law 1470 = .ok (.ireturn, 1) := dk_172 (dk_at dksL_law_54 14 rfl rfl)
theorem dL_law_1471 : decode cL_law 1471 = .ok (.goto 1305, 3) := dk_167 5 25 (dk_at dksL_law_54 15 rfl rfl)
theorem dL_law_1474 : decode cL_law 1474 = .ok (.aload_n 1, 1) := dk_43 (dk_at dksL_law_54 18 rfl rfl)
theorem dL_law_1475 : decode cL_law 1475 = .ok (.aload_n 0, 1) := dk_42 (dk_at dksL_law_54 19 rfl rfl)
theorem dL_law_1476 : decode cL_law 1476 = .ok (.iload 4, 2) := dk_21 4 (dk_at dksL_law_54 20 rfl rfl)
theorem dL_law_1478 : decode cL_law 1478 = .ok (.iconst 1, 1) := dk_4 (dk_at dksL_law_54 22 rfl rfl)
theorem dL_law_1479 : decode cL_law 1479 = .ok (.iadd, 1) := dk_96 (dk_at dksL_law_54 23 rfl rfl)
theorem dL_law_1480 : decode cL_law 1480 = .ok (.iaload, 1) := dk_46 (dk_at dksL_law_55 0 rfl rfl)
theorem dL_law_1481 : decode cL_law 1481 = .ok (.aload_n 3, 1) := dk_45 (dk_at dksL_law_55 1 rfl rfl)
theorem dL_law_1482 : decode cL_law 1482 = .ok (.invokestatic 231, 3) := dk_184 0 231 (dk_at dksL_law_55 2 rfl rfl)
theorem dL_law_1485 : decode cL_law 1485 = .ok (.istore 5, 2) := dk_54 5 (dk_at dksL_law_55 5 rfl rfl)
theorem dL_law_1487 : decode cL_law 1487 = .ok (.aload_n 2, 1) := dk_44 (dk_at dksL_law_55 7 rfl rfl)
theorem dL_law_1488 : decode cL_law 1488 = .ok (.aload_n 0, 1) := dk_42 (dk_at dksL_law_55 8 rfl rfl)
theorem dL_law_1489 : decode cL_law 1489 = .ok (.iload 4, 2) := dk_21 4 (dk_at dksL_law_55 9 rfl rfl)
theorem dL_law_1491 : decode cL_law 1491 = .ok (.iconst 1, 1) := dk_4 (dk_at dksL_law_55 11 rfl rfl)
theorem dL_law_1492 : decode cL_law 1492 = .ok (.iadd, 1) := dk_96 (dk_at dksL_law_55 12 rfl rfl)
theorem dL_law_1493 : decode cL_law 1493 = .ok (.iaload, 1) := dk_46 (dk_at dksL_law_55 13 rfl rfl)
theorem dL_law_1494 : decode cL_law 1494 = .ok (.invokevirtual 233, 3) := dk_182 0 233 (dk_at dksL_law_55 14 rfl rfl)
theorem dL_law_1497 : decode cL_law 1497 = .ok (.istore 6, 2) := dk_54 6 (dk_at dksL_law_55 17 rfl rfl)
theorem dL_law_1499 : decode cL_law 1499 = .ok (.aload_n 2, 1) := dk_44 (dk_at dksL_law_55 19 rfl rfl)
theorem dL_law_1500 : decode cL_law 1500 = .ok (.invokevirtual 145, 3) := dk_182 0 145 (dk_at dksL_law_55 20 rfl rfl)
theorem dL_law_1503 : decode cL_law 1503 = .ok (.iload 5, 2) := dk_21 5 (dk_at dksL_law_56 0 rfl rfl)
theorem dL_law_1505 : decode cL_law 1505 = .ok (.if_icmp .eq 5, 3) := dk_159 0 5 (dk_at dksL_law_56 2 rfl rfl)
theorem dL_law_1508 : decode cL_law 1508 = .ok (.iconst 0, 1) := dk_3 (dk_at dksL_law_56 5 rfl rfl)
theorem dL_law_1509 : decode cL_law 1509 = .ok (.ireturn, 1) := dk_172 (dk_at dksL_law_56 6 rfl rfl)
theorem dL_law_1510 : decode cL_law 1510 = .ok (.iload 5, 2) := dk_21 5 (dk_at dksL_law_56 7 rfl rfl)
theorem dL_law_1512 : decode cL_law 1512 = .ok (.ifCond .ne 22, 3) := dk_154 0 22 (dk_at dksL_law_56 9 rfl rfl)
theorem dL_law_1515 : decode cL_law 1515 = .ok (.aload_n 3, 1) := dk_45 (dk_at dksL_law_56 12 rfl rfl)
theorem dL_law_1516 : decode cL_law 1516 = .ok (.iconst 0, 1) := dk_3 (dk_at dksL_law_56 13 rfl rfl)
theorem dL_law_1517 : decode cL_law 1517 = .ok (.laload, 1) := dk_47 (dk_at dksL_law_56 14 rfl rfl)
theorem dL_law_1518 : decode cL_law 1518 = .ok (.iload 6, 2) := dk_21 6 (dk_at dksL_law_56 15 rfl rfl)
theorem dL_law_1520 : decode cL_law 1520 = .ok (.ifCond .eq 7, 3) := dk_153 0 7 (dk_at dksL_law_56 17 rfl rfl)
theorem dL_law_1523 : decode cL_law 1523 = .ok (.lconst 1, 1) := dk_10 (dk_at dksL_law_56 20 rfl rfl)
theorem dL_law_1524 : decode cL_law 1524 = .ok (.goto 4, 3) := dk_167 0 4 (dk_at dksL_law_56 21 rfl rfl)
theorem dL_law_1527 : decode cL_law 1527 = .ok (.lconst 0, 1) := dk_9 (dk_at dksL_law_57 0 rfl rfl)
theorem dL_law_1528 : decode cL_law 1528 = .ok (.lcmp, 1) := dk_148 (dk_at dksL_law_57 1 rfl rfl)
theorem dL_law_1529 : decode cL_law 1529 = .ok (.ifCond .eq 5, 3) := dk_153 0 5 (dk_at dksL_law_57 2 rfl rfl)
theorem dL_law_1532 : decode cL_law 1532 = .ok (.iconst 0, 1) := dk_3 (dk_at dksL_law_57 5 rfl rfl)
theorem dL_law_1533 : decode cL_law 1533 = .ok (.ireturn, 1) := dk_172 (dk_at dksL_law_57 6 rfl rfl)
theorem dL_law_1534 : decode cL_law 1534 = .ok (.goto 1242, 3) := dk_167 4 218 (dk_at dksL_law_57 7 rfl rfl)
theorem dL_law_1537 : decode cL_law 1537 = .ok (.aload_n 1, 1) := dk_43 (dk_at dksL_law_57 10 rfl rfl)
theorem dL_law_1538 : decode cL_law 1538 = .ok (.aload_n 0, 1) := dk_42 (dk_at dksL_law_57 11 rfl rfl)
theorem dL_law_1539 : decode cL_law 1539 = .ok (.iload 4, 2) := dk_21 4 (dk_at dksL_law_57 12 rfl rfl)
theorem dL_law_1541 : decode cL_law 1541 = .ok (.iconst 1, 1) := dk_4 (dk_at dksL_law_57 14 rfl rfl)
theorem dL_law_1542 : decode cL_law 1542 = .ok (.iadd, 1) := dk_96 (dk_at dksL_law_57 15 rfl rfl)
theorem dL_law_1543 : decode cL_law 1543 = .ok (.iaload, 1) := dk_46 (dk_at dksL_law_57 16 rfl rfl)
theorem dL_law_1544 : decode cL_law 1544 = .ok (.aload_n 3, 1) := dk_45 (dk_at dksL_law_57 17 rfl rfl)
theorem dL_law_1545 : decode cL_law 1545 = .ok (.invokestatic 234, 3) := dk_184 0 234 (dk_at dksL_law_57 18 rfl rfl)
theorem dL_law_1548 : decode cL_law 1548 = .ok (.istore 5, 2) := dk_54 5 (dk_at dksL_law_57 21 rfl rfl)
theorem dL_law_1550 : decode cL_law 1550 = .ok (.aload_n 2, 1) := dk_44 (dk_at dksL_law_57 23 rfl rfl)
theorem dL_law_1551 : decode cL_law 1551 = .ok (.aload_n 0, 1) := dk_42 (dk_at dksL_law_58 0 rfl rfl)
theorem dL_law_1552 : decode cL_law 1552 = .ok (.iload 4, 2) := dk_21 4 (dk_at dksL_law_58 1 rfl rfl)
theorem dL_law_1554 : decode cL_law 1554 = .ok (.iconst 1, 1) := dk_4 (dk_at dksL_law_58 3 rfl rfl)
theorem dL_law_1555 : decode cL_law 1555 = .ok (.iadd, 1) := dk_96 (dk_at dksL_law_58 4 rfl rfl)
theorem dL_law_1556 : decode cL_law 1556 = .ok (.iaload, 1) := dk_46 (dk_at dksL_law_58 5 rfl rfl)
theorem dL_law_1557 : decode cL_law 1557 = .ok (.invokevirtual 236, 3) := dk_182 0 236 (dk_at dksL_law_58 6 rfl rfl)
theorem dL_law_1560 : decode cL_law 1560 = .ok (.istore 6, 2) := dk_54 6 (dk_at dksL_law_58 9 rfl rfl)
theorem dL_law_1562 : decode cL_law 1562 = .ok (.aload_n 2, 1) := dk_44 (dk_at dksL_law_58 11 rfl rfl)
theorem dL_law_1563 : decode cL_law 1563 = .ok (.invokevirtual 145, 3) := dk_182 0 145 (dk_at dksL_law_58 12 rfl rfl)
theorem dL_law_1566 : decode cL_law 1566 = .ok (.iload 5, 2) := dk_21 5 (dk_at dksL_law_58 15 rfl rfl)
theorem dL_law_1568 : decode cL_law 1568 = .ok (.if_icmp .eq 5, 3) := dk_159 0 5 (dk_at dksL_law_58 17 rfl rfl)
theorem dL_law_1571 : decode cL_law 1571 = .ok (.iconst 0, 1) := dk_3 (dk_at dksL_law_58 20 rfl rfl)
theorem dL_law_1572 : decode cL_law 1572 = .ok (.ireturn, 1) := dk_172 (dk_at dksL_law_58 21 rfl rfl)
theorem dL_law_1573 : decode cL_law 1573 = .ok (.iload 5, 2) := dk_21 5 (dk_at dksL_law_58 22 rfl rfl)
theorem dL_law_1575 : decode cL_law 1575 = .ok (.ifCond .ne 15, 3) := dk_154 0 15 (dk_at dksL_law_59 0 rfl rfl)
theorem dL_law_1578 : decode cL_law 1578 = .ok (.aload_n 3, 1) := dk_45 (dk_at dksL_law_59 3 rfl rfl)
theorem dL_law_1579 : decode cL_law 1579 = .ok (.iconst 0, 1) := dk_3 (dk_at dksL_law_59 4 rfl rfl)
theorem dL_law_1580 : decode cL_law 1580 = .ok (.laload, 1) := dk_47 (dk_at dksL_law_59 5 rfl rfl)
theorem dL_law_1581 : decode cL_law 1581 = .ok (.iload 6, 2) := dk_21 6 (dk_at dksL_law_59 6 rfl rfl)
theorem dL_law_1583 : decode cL_law 1583 = .ok (.i2l, 1) := dk_133 (dk_at dksL_law_59 8 rfl rfl)
theorem dL_law_1584 : decode cL_law 1584 = .ok (.lcmp, 1) := dk_148 (dk_at dksL_law_59 9 rfl rfl)
theorem dL_law_1585 : decode cL_law 1585 = .ok (.ifCond .eq 5, 3) := dk_153 0 5 (dk_at dksL_law_59 10 rfl rfl)
theorem dL_law_1588 : decode cL_law 1588 = .ok (.iconst 0, 1) := dk_3 (dk_at dksL_law_59 13 rfl rfl)
theorem dL_law_1589 : decode cL_law 1589 = .ok (.ireturn, 1) := dk_172 (dk_at dksL_law_59 14 rfl rfl)
theorem dL_law_1590 : decode cL_law 1590 = .ok (.goto 1186, 3) := dk_167 4 162 (dk_at dksL_law_59 15 rfl rfl)
theorem dL_law_1593 : decode cL_law 1593 = .ok (.aload_n 1, 1) := dk_43 (dk_at dksL_law_59 18 rfl rfl)
theorem dL_law_1594 : decode cL_law 1594 = .ok (.aload_n 0, 1) := dk_42 (dk_at dksL_law_59 19 rfl rfl)
theorem dL_law_1595 : decode cL_law 1595 = .ok (.iload 4, 2) := dk_21 4 (dk_at dksL_law_59 20 rfl rfl)
theorem dL_law_1597 : decode cL_law 1597 = .ok (.iconst 1, 1) := dk_4 (dk_at dksL_law_59 22 rfl rfl)
theorem dL_law_1598 : decode cL_law 1598 = .ok (.iadd, 1) := dk_96 (dk_at dksL_law_59 23 rfl rfl)
theorem dL_law_1599 : decode cL_law 1599 = .ok (.iaload, 1) := dk_46 (dk_at dksL_law_60 0 rfl rfl)
theorem dL_law_1600 : decode cL_law 1600 = .ok (.aload_n 3, 1) := dk_45 (dk_at dksL_law_60 1 rfl rfl)
theorem dL_law_1601 : decode cL_law 1601 = .ok (.invokestatic 237, 3) := dk_184 0 237 (dk_at dksL_law_60 2 rfl rfl)
theorem dL_law_1604 : decode cL_law 1604 = .ok (.istore 5, 2) := dk_54 5 (dk_at dksL_law_60 5 rfl rfl)
theorem dL_law_1606 : decode cL_law 1606 = .ok (.aload_n 2, 1) := dk_44 (dk_at dksL_law_60 7 rfl rfl)
theorem dL_law_1607 : decode cL_law 1607 = .ok (.aload_n 0, 1) := dk_42 (dk_at dksL_law_60 8 rfl rfl)
theorem dL_law_1608 : decode cL_law 1608 = .ok (.iload 4, 2) := dk_21 4 (dk_at dksL_law_60 9 rfl rfl)
theorem dL_law_1610 : decode cL_law 1610 = .ok (.iconst 1, 1) := dk_4 (dk_at dksL_law_60 11 rfl rfl)
theorem dL_law_1611 : decode cL_law 1611 = .ok (.iadd, 1) := dk_96 (dk_at dksL_law_60 12 rfl rfl)
theorem dL_law_1612 : decode cL_law 1612 = .ok (.iaload, 1) := dk_46 (dk_at dksL_law_60 13 rfl rfl)
theorem dL_law_1613 : decode cL_law 1613 = .ok (.invokevirtual 239, 3) := dk_182 0 239 (dk_at dksL_law_60 14 rfl rfl)
theorem dL_law_1616 : decode cL_law 1616 = .ok (.istore 6, 2) := dk_54 6 (dk_at dksL_law_60 17 rfl rfl)
theorem dL_law_1618 : decode cL_law 1618 = .ok (.aload_n 2, 1) := dk_44 (dk_at dksL_law_60 19 rfl rfl)
theorem dL_law_1619 : decode cL_law 1619 = .ok (.invokevirtual 145, 3) := dk_182 0 145 (dk_at dksL_law_60 20 rfl rfl)
theorem dL_law_1622 : decode cL_law 1622 = .ok (.iload 5, 2) := dk_21 5 (dk_at dksL_law_61 0 rfl rfl)
theorem dL_law_1624 : decode cL_law 1624 = .ok (.if_icmp .eq 5, 3) := dk_159 0 5 (dk_at dksL_law_61 2 rfl rfl)
theorem dL_law_1627 : decode cL_law 1627 = .ok (.iconst 0, 1) := dk_3 (dk_at dksL_law_61 5 rfl rfl)
theorem dL_law_1628 : decode cL_law 1628 = .ok (.ireturn, 1) := dk_172 (dk_at dksL_law_61 6 rfl rfl)
theorem dL_law_1629 : decode cL_law 1629 = .ok (.iload 5, 2) := dk_21 5 (dk_at dksL_law_61 7 rfl rfl)
theorem dL_law_1631 : decode cL_law 1631 = .ok (.ifCond .ne 22, 3) := dk_154 0 22 (dk_at dksL_law_61 9 rfl rfl)
theorem dL_law_1634 : decode cL_law 1634 = .ok (.aload_n 3, 1) := dk_45 (dk_at dksL_law_61 12 rfl rfl)
theorem dL_law_1635 : decode cL_law 1635 = .ok (.iconst 0, 1) := dk_3 (dk_at dksL_law_61 13 rfl rfl)
theorem dL_law_1636 : decode cL_law 1636 = .ok (.laload, 1) := dk_47 (dk_at dksL_law_61 14 rfl rfl)
theorem dL_law_1637 : decode cL_law 1637 = .ok (.iload 6, 2) := dk_21 6 (dk_at dksL_law_61 15 rfl rfl)
theorem dL_law_1639 : decode cL_law 1639 = .ok (.ifCond .eq 7, 3) := dk_153 0 7 (dk_at dksL_law_61 17 rfl rfl)
theorem dL_law_1642 : decode cL_law 1642 = .ok (.lconst 1, 1) := dk_10 (dk_at dksL_law_61 20 rfl rfl)
theorem dL_law_1643 : decode cL_law 1643 = .ok (.goto 4, 3) := dk_167 0 4 (dk_at dksL_law_61 21 rfl rfl)
theorem dL_law_1646 : decode cL_law 1646 = .ok (.lconst 0, 1) := dk_9 (dk_at dksL_law_62 0 rfl rfl)
theorem dL_law_1647 : decode cL_law 1647 = .ok (.lcmp, 1) := dk_148 (dk_at dksL_law_62 1 rfl rfl)
theorem dL_law_1648 : decode cL_law 1648 = .ok (.ifCond .eq 5, 3) := dk_153 0 5 (dk_at dksL_law_62 2 rfl rfl)
theorem dL_law_1651 : decode cL_law 1651 = .ok (.iconst 0, 1) := dk_3 (dk_at dksL_law_62 5 rfl rfl)
theorem dL_law_1652 : decode cL_law 1652 = .ok (.ireturn, 1) := dk_172 (dk_at dksL_law_62 6 rfl rfl)
theorem dL_law_1653 : decode cL_law 1653 = .ok (.goto 1123, 3) := dk_167 4 99 (dk_at dksL_law_62 7 rfl rfl)
theorem dL_law_1656 : decode cL_law 1656 = .ok (.aload_n 1, 1) := dk_43 (dk_at dksL_law_62 10 rfl rfl)
theorem dL_law_1657 : decode cL_law 1657 = .ok (.aload_n 0, 1) := dk_42 (dk_at dksL_law_62 11 rfl rfl)
theorem dL_law_1658 : decode cL_law 1658 = .ok (.iload 4, 2) := dk_21 4 (dk_at dksL_law_62 12 rfl rfl)
theorem dL_law_1660 : decode cL_law 1660 = .ok (.iconst 1, 1) := dk_4 (dk_at dksL_law_62 14 rfl rfl)
theorem dL_law_1661 : decode cL_law 1661 = .ok (.iadd, 1) := dk_96 (dk_at dksL_law_62 15 rfl rfl)
theorem dL_law_1662 : decode cL_law 1662 = .ok (.iaload, 1) := dk_46 (dk_at dksL_law_62 16 rfl rfl)
theorem dL_law_1663 : decode cL_law 1663 = .ok (.aload_n 3, 1) := dk_45 (dk_at dksL_law_62 17 rfl rfl)
theorem dL_law_1664 : decode cL_law 1664 = .ok (.invokestatic 240, 3) := dk_184 0 240 (dk_at dksL_law_62 18 rfl rfl)
theorem dL_law_1667 : decode cL_law 1667 = .ok (.istore 5, 2) := dk_54 5 (dk_at dksL_law_62 21 rfl rfl)
theorem dL_law_1669 : decode cL_law 1669 = .ok (.aload_n 2, 1) := dk_44 (dk_at dksL_law_62 23 rfl rfl)
theorem dL_law_1670 : decode cL_law 1670 = .ok (.aload_n 0, 1) := dk_42 (dk_at dksL_law_63 0 rfl rfl)
theorem dL_law_1671 : decode cL_law 1671 = .ok (.iload 4, 2) := dk_21 4 (dk_at dksL_law_63 1 rfl rfl)
theorem dL_law_1673 : decode cL_law 1673 = .ok (.iconst 1, 1) := dk_4 (dk_at dksL_law_63 3 rfl rfl)
theorem dL_law_1674 : decode cL_law 1674 = .ok (.iadd, 1) := dk_96 (dk_at dksL_law_63 4 rfl rfl)
theorem dL_law_1675 : decode cL_law 1675 = .ok (.iaload, 1) := dk_46 (dk_at dksL_law_63 5 rfl rfl)
theorem dL_law_1676 : decode cL_law 1676 = .ok (.invokevirtual 242, 3) := dk_182 0 242 (dk_at dksL_law_63 6 rfl rfl)
theorem dL_law_1679 : decode cL_law 1679 = .ok (.istore 6, 2) := dk_54 6 (dk_at dksL_law_63 9 rfl rfl)
theorem dL_law_1681 : decode cL_law 1681 = .ok (.aload_n 2, 1) := dk_44 (dk_at dksL_law_63 11 rfl rfl)
theorem dL_law_1682 : decode cL_law 1682 = .ok (.invokevirtual 145, 3) := dk_182 0 145 (dk_at dksL_law_63 12 rfl rfl)
theorem dL_law_1685 : decode cL_law 1685 = .ok (.iload 5, 2) := dk_21 5 (dk_at dksL_law_63 15 rfl rfl)
theorem dL_law_1687 : decode cL_law 1687 = .ok (.if_icmp .eq 5, 3) := dk_159 0 5 (dk_at dksL_law_63 17 rfl rfl)
theorem dL_law_1690 : decode cL_law 1690 = .ok (.iconst 0, 1) := dk_3 (dk_at dksL_law_63 20 rfl rfl)
theorem dL_law_1691 : decode cL_law 1691 = .ok (.ireturn, 1) := dk_172 (dk_at dksL_law_63 21 rfl rfl)
theorem dL_law_1692 : decode cL_law 1692 = .ok (.iload 5, 2) := dk_21 5 (dk_at dksL_law_63 22 rfl rfl)
theorem dL_law_1694 : decode cL_law 1694 = .ok (.ifCond .ne 15, 3) := dk_154 0 15 (dk_at dksL_law_64 0 rfl rfl)
theorem dL_law_1697 : decode cL_law 1697 = .ok (.aload_n 3, 1) := dk_45 (dk_at dksL_law_64 3 rfl rfl)
theorem dL_law_1698 : decode cL_law 1698 = .ok (.iconst 0, 1) := dk_3 (dk_at dksL_law_64 4 rfl rfl)
theorem dL_law_1699 : decode cL_law 1699 = .ok (.laload, 1) := dk_47 (dk_at dksL_law_64 5 rfl rfl)
theorem dL_law_1700 : decode cL_law 1700 = .ok (.iload 6, 2) := dk_21 6 (dk_at dksL_law_64 6 rfl rfl)
theorem dL_law_1702 : decode cL_law 1702 = .ok (.i2l, 1) := dk_133 (dk_at dksL_law_64 8 rfl rfl)
theorem dL_law_1703 : decode cL_law 1703 = .ok (.lcmp, 1) := dk_148 (dk_at dksL_law_64 9 rfl rfl)
theorem dL_law_1704 : decode cL_law 1704 = .ok (.ifCond .eq 5, 3) := dk_153 0 5 (dk_at dksL_law_64 10 rfl rfl)
theorem dL_law_1707 : decode cL_law 1707 = .ok (.iconst 0, 1) := dk_3 (dk_at dksL_law_64 13 rfl rfl)
theorem dL_law_1708 : decode cL_law 1708 = .ok (.ireturn, 1) := dk_172 (dk_at dksL_law_64 14 rfl rfl)
theorem dL_law_1709 : decode cL_law 1709 = .ok (.goto 1067, 3) := dk_167 4 43 (dk_at dksL_law_64 15 rfl rfl)
theorem dL_law_1712 : decode cL_law 1712 = .ok (.aload_n 1, 1) := dk_43 (dk_at dksL_law_64 18 rfl rfl)
theorem dL_law_1713 : decode cL_law 1713 = .ok (.aload_n 0, 1) := dk_42 (dk_at dksL_law_64 19 rfl rfl)
theorem dL_law_1714 : decode cL_law 1714 = .ok (.iload 4, 2) := dk_21 4 (dk_at dksL_law_64 20 rfl rfl)
theorem dL_law_1716 : decode cL_law 1716 = .ok (.iconst 1, 1) := dk_4 (dk_at dksL_law_64 22 rfl rfl)
theorem dL_law_1717 : decode cL_law 1717 = .ok (.iadd, 1) := dk_96 (dk_at dksL_law_64 23 rfl rfl)
theorem dL_law_1718 : decode cL_law 1718 = .ok (.iaload, 1) := dk_46 (dk_at dksL_law_65 0 rfl rfl)
theorem dL_law_1719 : decode cL_law 1719 = .ok (.aload_n 3, 1) := dk_45 (dk_at dksL_law_65 1 rfl rfl)
theorem dL_law_1720 : decode cL_law 1720 = .ok (.invokestatic 243, 3) := dk_184 0 243 (dk_at dksL_law_65 2 rfl rfl)
theorem dL_law_1723 : decode cL_law 1723 = .ok (.istore 5, 2) := dk_54 5 (dk_at dksL_law_65 5 rfl rfl)
theorem dL_law_1725 : decode cL_law 1725 = .ok (.aload_n 2, 1) := dk_44 (dk_at dksL_law_65 7 rfl rfl)
theorem dL_law_1726 : decode cL_law 1726 = .ok (.aload_n 0, 1) := dk_42 (dk_at dksL_law_65 8 rfl rfl)
theorem dL_law_1727 : decode cL_law 1727 = .ok (.iload 4, 2) := dk_21 4 (dk_at dksL_law_65 9 rfl rfl)
theorem dL_law_1729 : decode cL_law 1729 = .ok (.iconst 1, 1) := dk_4 (dk_at dksL_law_65 11 rfl rfl)
theorem dL_law_1730 : decode cL_law 1730 = .ok (.iadd, 1) := dk_96 (dk_at dksL_law_65 12 rfl rfl)
theorem dL_law_1731 : decode cL_law 1731 = .ok (.iaload, 1) := dk_46 (dk_at dksL_law_65 13 rfl rfl)
theorem dL_law_1732 : decode cL_law 1732 = .ok (.invokevirtual 245, 3) := dk_182 0 245 (dk_at dksL_law_65 14 rfl rfl)
theorem dL_law_1735 : decode cL_law 1735 = .ok (.istore 6, 2) := dk_54 6 (dk_at dksL_law_65 17 rfl rfl)
theorem dL_law_1737 : decode cL_law 1737 = .ok (.aload_n 2, 1) := dk_44 (dk_at dksL_law_65 19 rfl rfl)
theorem dL_law_1738 : decode cL_law 1738 = .ok (.invokevirtual 145, 3) := dk_182 0 145 (dk_at dksL_law_65 20 rfl rfl)
theorem dL_law_1741 : decode cL_law 1741 = .ok (.iload 5, 2) := dk_21 5 (dk_at dksL_law_66 0 rfl rfl)
theorem dL_law_1743 : decode cL_law 1743 = .ok (.if_icmp .eq 5, 3) := dk_159 0 5 (dk_at dksL_law_66 2 rfl rfl)
theorem dL_law_1746 : decode cL_law 1746 = .ok (.iconst 0, 1) := dk_3 (dk_at dksL_law_66 5 rfl rfl)
theorem dL_law_1747 : decode cL_law 1747 = .ok (.ireturn, 1) := dk_172 (dk_at dksL_law_66 6 rfl rfl)
theorem dL_law_1748 : decode cL_law 1748 = .ok (.iload 5, 2) := dk_21 5 (dk_at dksL_law_66 7 rfl rfl)
theorem dL_law_1750 : decode cL_law 1750 = .ok (.ifCond .ne 15, 3) := dk_154 0 15 (dk_at dksL_law_66 9 rfl rfl)
theorem dL_law_1753 : decode cL_law 1753 = .ok (.aload_n 3, 1) := dk_45 (dk_at dksL_law_66 12 rfl rfl)
theorem dL_law_1754 : decode cL_law 1754 = .ok (.iconst 0, 1) := dk_3 (dk_at dksL_law_66 13 rfl rfl)
theorem dL_law_1755 : decode cL_law 1755 = .ok (.laload, 1) := dk_47 (dk_at dksL_law_66 14 rfl rfl)
theorem dL_law_1756 : decode cL_law 1756 = .ok (.iload 6, 2) := dk_21 6 (dk_at dksL_law_66 15 rfl rfl)
theorem dL_law_1758 : decode cL_law 1758 = .ok (.i2l, 1) := dk_133 (dk_at dksL_law_66 17 rfl rfl)
theorem dL_law_1759 : decode cL_law 1759 = .ok (.lcmp, 1) := dk_148 (dk_at dksL_law_66 18 rfl rfl)
theorem dL_law_1760 : decode cL_law 1760 = .ok (.ifCond .eq 5, 3) := dk_153 0 5 (dk_at dksL_law_66 19 rfl rfl)
theorem dL_law_1763 : decode cL_law 1763 = .ok (.iconst 0, 1) := dk_3 (dk_at dksL_law_66 22 rfl rfl)
theorem dL_law_1764 : decode cL_law 1764 = .ok (.ireturn, 1) := dk_172 (dk_at dksL_law_66 23 rfl rfl)
theorem dL_law_1765 : decode cL_law 1765 = .ok (.goto 1011, 3) := dk_167 3 243 (dk_at dksL_law_67 0 rfl rfl)
theorem dL_law_1768 : decode cL_law 1768 = .ok (.aload_n 1, 1) := dk_43 (dk_at dksL_law_67 3 rfl rfl)
theorem dL_law_1769 : decode cL_law 1769 = .ok (.aload_n 0, 1) := dk_42 (dk_at dksL_law_67 4 rfl rfl)
theorem dL_law_1770 : decode cL_law 1770 = .ok (.iload 4, 2) := dk_21 4 (dk_at dksL_law_67 5 rfl rfl)
theorem dL_law_1772 : decode cL_law 1772 = .ok (.iconst 1, 1) := dk_4 (dk_at dksL_law_67 7 rfl rfl)
theorem dL_law_1773 : decode cL_law 1773 = .ok (.iadd, 1) := dk_96 (dk_at dksL_law_67 8 rfl rfl)
theorem dL_law_1774 : decode cL_law 1774 = .ok (.iaload, 1) := dk_46 (dk_at dksL_law_67 9 rfl rfl)
theorem dL_law_1775 : decode cL_law 1775 = .ok (.aload_n 3, 1) := dk_45 (dk_at dksL_law_67 10 rfl rfl)
theorem dL_law_1776 : decode cL_law 1776 = .ok (.invokestatic 246, 3) := dk_184 0 246 (dk_at dksL_law_67 11 rfl rfl)
theorem dL_law_1779 : decode cL_law 1779 = .ok (.istore 5, 2) := dk_54 5 (dk_at dksL_law_67 14 rfl rfl)
theorem dL_law_1781 : decode cL_law 1781 = .ok (.aload_n 2, 1) := dk_44 (dk_at dksL_law_67 16 rfl rfl)
theorem dL_law_1782 : decode cL_law 1782 = .ok (.aload_n 0, 1) := dk_42 (dk_at dksL_law_67 17 rfl rfl)
theorem dL_law_1783 : decode cL_law 1783 = .ok (.iload 4, 2) := dk_21 4 (dk_at dksL_law_67 18 rfl rfl)
theorem dL_law_1785 : decode cL_law 1785 = .ok (.iconst 1, 1) := dk_4 (dk_at dksL_law_67 20 rfl rfl)
theorem dL_law_1786 : decode cL_law 1786 = .ok (.iadd, 1) := dk_96 (dk_at dksL_law_67 21 rfl rfl)
theorem dL_law_1787 : decode cL_law 1787 = .ok (.iaload, 1) := dk_46 (dk_at dksL_law_67 22 rfl rfl)
theorem dL_law_1788 : decode cL_law 1788 = .ok (.invokevirtual 248, 3) := dk_182 0 248 (dk_at dksL_law_68 0 rfl rfl)
theorem dL_law_1791 : decode cL_law 1791 = .ok (.istore 6, 2) := dk_54 6 (dk_at dksL_law_68 3 rfl rfl)
theorem dL_law_1793 : decode cL_law 1793 = .ok (.aload_n 2, 1) := dk_44 (dk_at dksL_law_68 5 rfl rfl)
theorem dL_law_1794 : decode cL_law 1794 = .ok (.invokevirtual 145, 3) := dk_182 0 145 (dk_at dksL_law_68 6 rfl rfl)
theorem dL_law_1797 : decode cL_law 1797 = .ok (.iload 5, 2) := dk_21 5 (dk_at dksL_law_68 9 rfl rfl)
theorem dL_law_1799 : decode cL_law 1799 = .ok (.if_icmp .eq 5, 3) := dk_159 0 5 (dk_at dksL_law_68 11 rfl rfl)
theorem dL_law_1802 : decode cL_law 1802 = .ok (.iconst 0, 1) := dk_3 (dk_at dksL_law_68 14 rfl rfl)
theorem dL_law_1803 : decode cL_law 1803 = .ok (.ireturn, 1) := dk_172 (dk_at dksL_law_68 15 rfl rfl)
theorem dL_law_1804 : decode cL_law 1804 = .ok (.iload 5, 2) := dk_21 5 (dk_at dksL_law_68 16 rfl rfl)
theorem dL_law_1806 : decode cL_law 1806 = .ok (.ifCond .ne 15, 3) := dk_154 0 15 (dk_at dksL_law_68 18 rfl rfl)
theorem dL_law_1809 : decode cL_law 1809 = .ok (.aload_n 3, 1) := dk_45 (dk_at dksL_law_68 21 rfl rfl)
theorem dL_law_1810 : decode cL_law 1810 = .ok (.iconst 0, 1) := dk_3 (dk_at dksL_law_68 22 rfl rfl)
theorem dL_law_1811 : decode cL_law 1811 = .ok (.laload, 1) := dk_47 (dk_at dksL_law_68 23 rfl rfl)
theorem dL_law_1812 : decode cL_law 1812 = .ok (.iload 6, 2) := dk_21 6 (dk_at dksL_law_69 0 rfl rfl)
theorem dL_law_1814 : decode cL_law 1814 = .ok (.i2l, 1) := dk_133 (dk_at dksL_law_69 2 rfl rfl)
theorem dL_law_1815 : decode cL_law 1815 = .ok (.lcmp, 1) := dk_148 (dk_at dksL_law_69 3 rfl rfl)
theorem dL_law_1816 : decode cL_law 1816 = .ok (.ifCond .eq 5, 3) := dk_153 0 5 (dk_at dksL_law_69 4 rfl rfl)
theorem dL_law_1819 : decode cL_law 1819 = .ok (.iconst 0, 1) := dk_3 (dk_at dksL_law_69 7 rfl rfl)
theorem dL_law_1820 : decode cL_law 1820 = .ok (.ireturn, 1) := dk_172 (dk_at dksL_law_69 8 rfl rfl)
theorem dL_law_1821 : decode cL_law 1821 = .ok (.goto 955, 3) := dk_167 3 187 (dk_at dksL_law_69 9 rfl rfl)
theorem dL_law_1824 : decode cL_law 1824 = .ok (.aload_n 1, 1) := dk_43 (dk_at dksL_law_69 12 rfl rfl)
theorem dL_law_1825 : decode cL_law 1825 = .ok (.invokevirtual 249, 3) := dk_182 0 249 (dk_at dksL_law_69 13 rfl rfl)
theorem dL_law_1828 : decode cL_law 1828 = .ok (.aload_n 2, 1) := dk_44 (dk_at dksL_law_69 16 rfl rfl)
theorem dL_law_1829 : decode cL_law 1829 = .ok (.invokevirtual 252, 3) := dk_182 0 252 (dk_at dksL_law_69 17 rfl rfl)
theorem dL_law_1832 : decode cL_law 1832 = .ok (.if_icmp .eq 944, 3) := dk_159 3 176 (dk_at dksL_law_69 20 rfl rfl)
theorem dL_law_1835 : decode cL_law 1835 = .ok (.iconst 0, 1) := dk_3 (dk_at dksL_law_69 23 rfl rfl)
theorem dL_law_1836 : decode cL_law 1836 = .ok (.ireturn, 1) := dk_172 (dk_at dksL_law_70 0 rfl rfl)
theorem dL_law_1837 : decode cL_law 1837 = .ok (.aload_n 1, 1) := dk_43 (dk_at dksL_law_70 1 rfl rfl)
theorem dL_law_1838 : decode cL_law 1838 = .ok (.aload_n 0, 1) := dk_42 (dk_at dksL_law_70 2 rfl rfl)
theorem dL_law_1839 : decode cL_law 1839 = .ok (.iload 4, 2) := dk_21 4 (dk_at dksL_law_70 3 rfl rfl)
theorem dL_law_1841 : decode cL_law 1841 = .ok (.iconst 1, 1) := dk_4 (dk_at dksL_law_70 5 rfl rfl)
theorem dL_law_1842 : decode cL_law 1842 = .ok (.iadd, 1) := dk_96 (dk_at dksL_law_70 6 rfl rfl)
theorem dL_law_1843 : decode cL_law 1843 = .ok (.iaload, 1) := dk_46 (dk_at dksL_law_70 7 rfl rfl)
theorem dL_law_1844 : decode cL_law 1844 = .ok (.aload_n 3, 1) := dk_45 (dk_at dksL_law_70 8 rfl rfl)
theorem dL_law_1845 : decode cL_law 1845 = .ok (.invokestatic 253, 3) := dk_184 0 253 (dk_at dksL_law_70 9 rfl rfl)
theorem dL_law_1848 : decode cL_law 1848 = .ok (.istore 5, 2) := dk_54 5 (dk_at dksL_law_70 12 rfl rfl)
theorem dL_law_1850 : decode cL_law 1850 = .ok (.aload_n 2, 1) := dk_44 (dk_at dksL_law_70 14 rfl rfl)
theorem dL_law_1851 : decode cL_law 1851 = .ok (.aload_n 0, 1) := dk_42 (dk_at dksL_law_70 15 rfl rfl)
theorem dL_law_1852 : decode cL_law 1852 = .ok (.iload 4, 2) := dk_21 4 (dk_at dksL_law_70 16 rfl rfl)
theorem dL_law_1854 : decode cL_law 1854 = .ok (.iconst 1, 1) := dk_4 (dk_at dksL_law_70 18 rfl rfl)
theorem dL_law_1855 : decode cL_law 1855 = .ok (.iadd, 1) := dk_96 (dk_at dksL_law_70 19 rfl rfl)
theorem dL_law_1856 : decode cL_law 1856 = .ok (.iaload, 1) := dk_46 (dk_at dksL_law_70 20 rfl rfl)
theorem dL_law_1857 : decode cL_law 1857 = .ok (.invokevirtual 255, 3) := dk_182 0 255 (dk_at dksL_law_70 21 rfl rfl)
theorem dL_law_1860 : decode cL_law 1860 = .ok (.istore 6, 2) := dk_54 6 (dk_at dksL_law_71 0 rfl rfl)
theorem dL_law_1862 : decode cL_law 1862 = .ok (.aload_n 2, 1) := dk_44 (dk_at dksL_law_71 2 rfl rfl)
theorem dL_law_1863 : decode cL_law 1863 = .ok (.invokevirtual 145, 3) := dk_182 0 145 (dk_at dksL_law_71 3 rfl rfl)
theorem dL_law_1866 : decode cL_law 1866 = .ok (.iload 5, 2) := dk_21 5 (dk_at dksL_law_71 6 rfl rfl)
theorem dL_law_1868 : decode cL_law 1868 = .ok (.if_icmp .eq 5, 3) := dk_159 0 5 (dk_at dksL_law_71 8 rfl rfl)
theorem dL_law_1871 : decode cL_law 1871 = .ok (.iconst 0, 1) := dk_3 (dk_at dksL_law_71 11 rfl rfl)
theorem dL_law_1872 : decode cL_law 1872 = .ok (.ireturn, 1) := dk_172 (dk_at dksL_law_71 12 rfl rfl)
theorem dL_law_1873 : decode cL_law 1873 = .ok (.iload 5, 2) := dk_21 5 (dk_at dksL_law_71 13 rfl rfl)
theorem dL_law_1875 : decode cL_law 1875 = .ok (.ifCond .ne 22, 3) := dk_154 0 22 (dk_at dksL_law_71 15 rfl rfl)
theorem dL_law_1878 : decode cL_law 1878 = .ok (.aload_n 3, 1) := dk_45 (dk_at dksL_law_71 18 rfl rfl)
theorem dL_law_1879 : decode cL_law 1879 = .ok (.iconst 0, 1) := dk_3 (dk_at dksL_law_71 19 rfl rfl)
theorem dL_law_1880 : decode cL_law 1880 = .ok (.laload, 1) := dk_47 (dk_at dksL_law_71 20 rfl rfl)
theorem dL_law_1881 : decode cL_law 1881 = .ok (.iload 6, 2) := dk_21 6 (dk_at dksL_law_71 21 rfl rfl)
theorem dL_law_1883 : decode cL_law 1883 = .ok (.ifCond .eq 7, 3) := dk_153 0 7 (dk_at dksL_law_72 0 rfl rfl)
theorem dL_law_1886 : decode cL_law 1886 = .ok (.lconst 1, 1) := dk_10 (dk_at dksL_law_72 3 rfl rfl)
theorem dL_law_1887 : decode cL_law 1887 = .ok (.goto 4, 3) := dk_167 0 4 (dk_at dksL_law_72 4 rfl rfl)
theorem dL_law_1890 : decode cL_law 1890 = .ok (.lconst 0, 1) := dk_9 (dk_at dksL_law_72 7 rfl rfl)
theorem dL_law_1891 : decode cL_law 1891 = .ok (.lcmp, 1) := dk_148 (dk_at dksL_law_72 8 rfl rfl)
theorem dL_law_1892 : decode cL_law 1892 = .ok (.ifCond .eq 5, 3) := dk_153 0 5 (dk_at dksL_law_72 9 rfl rfl)
theorem dL_law_1895 : decode cL_law 1895 = .ok (.iconst 0, 1) := dk_3 (dk_at dksL_law_72 12 rfl rfl)
theorem dL_law_1896 : decode cL_law 1896 = .ok (.ireturn, 1) := dk_172 (dk_at dksL_law_72 13 rfl rfl)
theorem dL_law_1897 : decode cL_law 1897 = .ok (.goto 879, 3) := dk_167 3 111 (dk_at dksL_law_72 14 rfl rfl)
theorem dL_law_1900 : decode cL_law 1900 = .ok (.aload_n 1, 1) := dk_43 (dk_at dksL_law_72 17 rfl rfl)
theorem dL_law_1901 : decode cL_law 1901 = .ok (.aload_n 0, 1) := dk_42 (dk_at dksL_law_72 18 rfl rfl)
theorem dL_law_1902 : decode cL_law 1902 = .ok (.iload 4, 2) := dk_21 4 (dk_at dksL_law_72 19 rfl rfl)
theorem dL_law_1904 : decode cL_law 1904 = .ok (.iconst 1, 1) := dk_4 (dk_at dksL_law_72 21 rfl rfl)
theorem dL_law_1905 : decode cL_law 1905 = .ok (.iadd, 1) := dk_96 (dk_at dksL_law_72 22 rfl rfl)
theorem dL_law_1906 : decode cL_law 1906 = .ok (.iaload, 1) := dk_46 (dk_at dksL_law_72 23 rfl rfl)
theorem dL_law_1907 : decode cL_law 1907 = .ok (.aload_n 3, 1) := dk_45 (dk_at dksL_law_73 0 rfl rfl)
theorem dL_law_1908 : decode cL_law 1908 = .ok (.invokestatic 256, 3) := dk_184 1 0 (dk_at dksL_law_73 1 rfl rfl)
theorem dL_law_1911 : decode cL_law 1911 = .ok (.istore 5, 2) := dk_54 5 (dk_at dksL_law_73 4 rfl rfl)
theorem dL_law_1913 : decode cL_law 1913 = .ok (.aload_n 2, 1) := dk_44 (dk_at dksL_law_73 6 rfl rfl)
theorem dL_law_1914 : decode cL_law 1914 = .ok (.aload_n 0, 1) := dk_42 (dk_at dksL_law_73 7 rfl rfl)
theorem dL_law_1915 : decode cL_law 1915 = .ok (.iload 4, 2) := dk_21 4 (dk_at dksL_law_73 8 rfl rfl)
theorem dL_law_1917 : decode cL_law 1917 = .ok (.iconst 1, 1) := dk_4 (dk_at dksL_law_73 10 rfl rfl)
theorem dL_law_1918 : decode cL_law 1918 = .ok (.iadd, 1) := dk_96 (dk_at dksL_law_73 11 rfl rfl)
theorem dL_law_1919 : decode cL_law 1919 = .ok (.iaload, 1) := dk_46 (dk_at dksL_law_73 12 rfl rfl)
theorem dL_law_1920 : decode cL_law 1920 = .ok (.invokevirtual 258, 3) := dk_182 1 2 (dk_at dksL_law_73 13 rfl rfl)
theorem dL_law_1923 : decode cL_law 1923 = .ok (.istore 6, 2) := dk_54 6 (dk_at dksL_law_73 16 rfl rfl)
theorem dL_law_1925 : decode cL_law 1925 = .ok (.aload_n 2, 1) := dk_44 (dk_at dksL_law_73 18 rfl rfl)
theorem dL_law_1926 : decode cL_law 1926 = .ok (.invokevirtual 145, 3) := dk_182 0 145 (dk_at dksL_law_73 19 rfl rfl)
theorem dL_law_1929 : decode cL_law 1929 = .ok (.iload 5, 2) := dk_21 5 (dk_at dksL_law_73 22 rfl rfl)
theorem dL_law_1931 : decode cL_law 1931 = .ok (.if_icmp .eq 5, 3) := dk_159 0 5 (dk_at dksL_law_74 0 rfl rfl)
theorem dL_law_1934 : decode cL_law 1934 = .ok (.iconst 0, 1) := dk_3 (dk_at dksL_law_74 3 rfl rfl)
theorem dL_law_1935 : decode cL_law 1935 = .ok (.ireturn, 1) := dk_172 (dk_at dksL_law_74 4 rfl rfl)
theorem dL_law_1936 : decode cL_law 1936 = .ok (.iload 5, 2) := dk_21 5 (dk_at dksL_law_74 5 rfl rfl)
theorem dL_law_1938 : decode cL_law 1938 = .ok (.ifCond .ne 22, 3) := dk_154 0 22 (dk_at dksL_law_74 7 rfl rfl)
theorem dL_law_1941 : decode cL_law 1941 = .ok (.aload_n 3, 1) := dk_45 (dk_at dksL_law_74 10 rfl rfl)
theorem dL_law_1942 : decode cL_law 1942 = .ok (.iconst 0, 1) := dk_3 (dk_at dksL_law_74 11 rfl rfl)
theorem dL_law_1943 : decode cL_law 1943 = .ok (.laload, 1) := dk_47 (dk_at dksL_law_74 12 rfl rfl)
theorem dL_law_1944 : decode cL_law 1944 = .ok (.iload 6, 2) := dk_21 6 (dk_at dksL_law_74 13 rfl rfl)
theorem dL_law_1946 : decode cL_law 1946 = .ok (.ifCond .eq 7, 3) := dk_153 0 7 (dk_at dksL_law_74 15 rfl rfl)
theorem dL_law_1949 : decode cL_law 1949 = .ok (.lconst 1, 1) := dk_10 (dk_at dksL_law_74 18 rfl rfl)
theorem dL_law_1950 : decode cL_law 1950 = .ok (.goto 4, 3) := dk_167 0 4 (dk_at dksL_law_74 19 rfl rfl)
theorem dL_law_1953 : decode cL_law 1953 = .ok (.lconst 0, 1) := dk_9 (dk_at dksL_law_74 22 rfl rfl)
theorem dL_law_1954 : decode cL_law 1954 = .ok (.lcmp, 1) := dk_148 (dk_at dksL_law_74 23 rfl rfl)
theorem dL_law_1955 : decode cL_law 1955 = .ok (.ifCond .eq 5, 3) := dk_153 0 5 (dk_at dksL_law_75 0 rfl rfl)
theorem dL_law_1958 : decode cL_law 1958 = .ok (.iconst 0, 1) := dk_3 (dk_at dksL_law_75 3 rfl rfl)
theorem dL_law_1959 : decode cL_law 1959 = .ok (.ireturn, 1) := dk_172 (dk_at dksL_law_75 4 rfl rfl)
theorem dL_law_1960 : decode cL_law 1960 = .ok (.goto 816, 3) := dk_167 3 48 (dk_at dksL_law_75 5 rfl rfl)
theorem dL_law_1963 : decode cL_law 1963 = .ok (.aload_n 1, 1) := dk_43 (dk_at dksL_law_75 8 rfl rfl)
theorem dL_law_1964 : decode cL_law 1964 = .ok (.aload_n 0, 1) := dk_42 (dk_at dksL_law_75 9 rfl rfl)
theorem dL_law_1965 : decode cL_law 1965 = .ok (.iload 4, 2) := dk_21 4 (dk_at dksL_law_75 10 rfl rfl)
theorem dL_law_1967 : decode cL_law 1967 = .ok (.iconst 1, 1) := dk_4 (dk_at dksL_law_75 12 rfl rfl)
theorem dL_law_1968 : decode cL_law 1968 = .ok (.iadd, 1) := dk_96 (dk_at dksL_law_75 13 rfl rfl)
theorem dL_law_1969 : decode cL_law 1969 = .ok (.iaload, 1) := dk_46 (dk_at dksL_law_75 14 rfl rfl)
theorem dL_law_1970 : decode cL_law 1970 = .ok (.aload_n 3, 1) := dk_45 (dk_at dksL_law_75 15 rfl rfl)
theorem dL_law_1971 : decode cL_law 1971 = .ok (.invokestatic 259, 3) := dk_184 1 3 (dk_at dksL_law_75 16 rfl rfl)
theorem dL_law_1974 : decode cL_law 1974 = .ok (.istore 5, 2) := dk_54 5 (dk_at dksL_law_75 19 rfl rfl)
theorem dL_law_1976 : decode cL_law 1976 = .ok (.aload_n 2, 1) := dk_44 (dk_at dksL_law_75 21 rfl rfl)
theorem dL_law_1977 : decode cL_law 1977 = .ok (.aload_n 0, 1) := dk_42 (dk_at dksL_law_75 22 rfl rfl)
theorem dL_law_1978 : decode cL_law 1978 = .ok (.iload 4, 2) := dk_21 4 (dk_at dksL_law_76 0 rfl rfl)
theorem dL_law_1980 : decode cL_law 1980 = .ok (.iconst 1, 1) := dk_4 (dk_at dksL_law_76 2 rfl rfl)
theorem dL_law_1981 : decode cL_law 1981 = .ok (.iadd, 1) := dk_96 (dk_at dksL_law_76 3 rfl rfl)
theorem dL_law_1982 : decode cL_law 1982 = .ok (.iaload, 1) := dk_46 (dk_at dksL_law_76 4 rfl rfl)
theorem dL_law_1983 : decode cL_law 1983 = .ok (.invokevirtual 261, 3) := dk_182 1 5 (dk_at dksL_law_76 5 rfl rfl)
theorem dL_law_1986 : decode cL_law 1986 = .ok (.istore 6, 2) := dk_54 6 (dk_at dksL_law_76 8 rfl rfl)
theorem dL_law_1988 : decode cL_law 1988 = .ok (.aload_n 2, 1) := dk_44 (dk_at dksL_law_76 10 rfl rfl)
theorem dL_law_1989 : decode cL_law 1989 = .ok (.invokevirtual 145, 3) := dk_182 0 145 (dk_at dksL_law_76 11 rfl rfl)
theorem dL_law_1992 : decode cL_law 1992 = .ok (.iload 5, 2) := dk_21 5 (dk_at dksL_law_76 14 rfl rfl)
theorem dL_law_1994 : decode cL_law 1994 = .ok (.if_icmp .eq 5, 3) := dk_159 0 5 (dk_at dksL_law_76 16 rfl rfl)
theorem dL_law_1997 : decode cL_law 1997 = .ok (.iconst 0, 1) := dk_3 (dk_at dksL_law_76 19 rfl rfl)
theorem dL_law_1998 : decode cL_law 1998 = .ok (.ireturn, 1) := dk_172 (dk_at dksL_law_76 20 rfl rfl)
theorem dL_law_1999 : decode cL_law 1999 = .ok (.iload 5, 2) := dk_21 5 (dk_at dksL_law_76 21 rfl rfl)
theorem dL_law_2001 : decode cL_law 2001 = .ok (.ifCond .ne 15, 3) := dk_154 0 15 (dk_at dksL_law_77 0 rfl rfl)
theorem dL_law_2004 : decode cL_law 2004 = .ok (.aload_n 3, 1) := dk_45 (dk_at dksL_law_77 3 rfl rfl)
theorem dL_law_2005 : decode cL_law 2005 = .ok (.iconst 0, 1) := dk_3 (dk_at dksL_law_77 4 rfl rfl)
theorem dL_law_2006 : decode cL_law 2006 = .ok (.laload, 1) := dk_47 (dk_at dksL_law_77 5 rfl rfl)
theorem dL_law_2007 : decode cL_law 2007 = .ok (.iload 6, 2) := dk_21 6 (dk_at dksL_law_77 6 rfl rfl)
theorem dL_law_2009 : decode cL_law 2009 = .ok (.i2l, 1) := dk_133 (dk_at dksL_law_77 8 rfl rfl)
theorem dL_law_2010 : decode cL_law 2010 = .ok (.lcmp, 1) := dk_148 (dk_at dksL_law_77 9 rfl rfl)
theorem dL_law_2011 : decode cL_law 2011 = .ok (.ifCond .eq 5, 3) := dk_153 0 5 (dk_at dksL_law_77 10 rfl rfl)
theorem dL_law_2014 : decode cL_law 2014 = .ok (.iconst 0, 1) := dk_3 (dk_at dksL_law_77 13 rfl rfl)
theorem dL_law_2015 : decode cL_law 2015 = .ok (.ireturn, 1) := dk_172 (dk_at dksL_law_77 14 rfl rfl)
theorem dL_law_2016 : decode cL_law 2016 = .ok (.goto 760, 3) := dk_167 2 248 (dk_at dksL_law_77 15 rfl rfl)
theorem dL_law_2019 : decode cL_law 2019 = .ok (.aload_n 1, 1) := dk_43 (dk_at dksL_law_77 18 rfl rfl)
theorem dL_law_2020 : decode cL_law 2020 = .ok (.aload_n 0, 1) := dk_42 (dk_at dksL_law_77 19 rfl rfl)
theorem dL_law_2021 : decode cL_law 2021 = .ok (.iload 4, 2) := dk_21 4 (dk_at dksL_law_77 20 rfl rfl)
theorem dL_law_2023 : decode cL_law 2023 = .ok (.iconst 1, 1) := dk_4 (dk_at dksL_law_77 22 rfl rfl)
theorem dL_law_2024 : decode cL_law 2024 = .ok (.iadd, 1) := dk_96 (dk_at dksL_law_77 23 rfl rfl)
theorem dL_law_2025 : decode cL_law 2025 = .ok (.iaload, 1) := dk_46 (dk_at dksL_law_78 0 rfl rfl)
theorem dL_law_2026 : decode cL_law 2026 = .ok (.aload_n 3, 1) := dk_45 (dk_at dksL_law_78 1 rfl rfl)
theorem dL_law_2027 : decode cL_law 2027 = .ok (.invokestatic 262, 3) := dk_184 1 6 (dk_at dksL_law_78 2 rfl rfl)
theorem dL_law_2030 : decode cL_law 2030 = .ok (.istore 5, 2) := dk_54 5 (dk_at dksL_law_78 5 rfl rfl)
theorem dL_law_2032 : decode cL_law 2032 = .ok (.aload_n 2, 1) := dk_44 (dk_at dksL_law_78 7 rfl rfl)
theorem dL_law_2033 : decode cL_law 2033 = .ok (.aload_n 0, 1) := dk_42 (dk_at dksL_law_78 8 rfl rfl)
theorem dL_law_2034 : decode cL_law 2034 = .ok (.iload 4, 2) := dk_21 4 (dk_at dksL_law_78 9 rfl rfl)
theorem dL_law_2036 : decode cL_law 2036 = .ok (.iconst 1, 1) := dk_4 (dk_at dksL_law_78 11 rfl rfl)
theorem dL_law_2037 : decode cL_law 2037 = .ok (.iadd, 1) := dk_96 (dk_at dksL_law_78 12 rfl rfl)
theorem dL_law_2038 : decode cL_law 2038 = .ok (.iaload, 1) := dk_46 (dk_at dksL_law_78 13 rfl rfl)
theorem dL_law_2039 : decode cL_law 2039 = .ok (.invokevirtual 264, 3) := dk_182 1 8 (dk_at dksL_law_78 14 rfl rfl)
theorem dL_law_2042 : decode cL_law 2042 = .ok (.istore 6, 2) := dk_54 6 (dk_at dksL_law_78 17 rfl rfl)
theorem dL_law_2044 : decode cL_law 2044 = .ok (.aload_n 2, 1) := dk_44 (dk_at dksL_law_78 19 rfl rfl)
theorem dL_law_2045 : decode cL_law 2045 = .ok (.invokevirtual 145, 3) := dk_182 0 145 (dk_at dksL_law_78 20 rfl rfl)
theorem dL_law_2048 : decode cL_law 2048 = .ok (.iload 5, 2) := dk_21 5 (dk_at dksL_law_79 0 rfl rfl)
theorem dL_law_2050 : decode cL_law 2050 = .ok (.if_icmp .eq 5, 3) := dk_159 0 5 (dk_at dksL_law_79 2 rfl rfl)
theorem dL_law_2053 : decode cL_law 2053 = .ok (.iconst 0, 1) := dk_3 (dk_at dksL_law_79 5 rfl rfl)
theorem dL_law_2054 : decode cL_law 2054 = .ok (.ireturn, 1) := dk_172 (dk_at dksL_law_79 6 rfl rfl)
theorem dL_law_2055 : decode cL_law 2055 = .ok (.iload 5, 2) := dk_21 5 (dk_at dksL_law_79 7 rfl rfl)
theorem dL_law_2057 : decode cL_law 2057 = .ok (.ifCond .ne 15, 3) := dk_154 0 15 (dk_at dksL_law_79 9 rfl rfl)
theorem dL_law_2060 : decode cL_law 2060 = .ok (.aload_n 3, 1) := dk_45 (dk_at dksL_law_79 12 rfl rfl)
theorem dL_law_2061 : decode cL_law 2061 = .ok (.iconst 0, 1) := dk_3 (dk_at dksL_law_79 13 rfl rfl)
theorem dL_law_2062 : decode cL_law 2062 = .ok (.laload, 1) := dk_47 (dk_at dksL_law_79 14 rfl rfl)
theorem dL_law_2063 : decode cL_law 2063 = .ok (.iload 6, 2) := dk_21 6 (dk_at dksL_law_79 15 rfl rfl)
theorem dL_law_2065 : decode cL_law 2065 = .ok (.i2l, 1) := dk_133 (dk_at dksL_law_79 17 rfl rfl)
theorem dL_law_2066 : decode cL_law 2066 = .ok (.lcmp, 1) := dk_148 (dk_at dksL_law_79 18 rfl rfl)
theorem dL_law_2067 : decode cL_law 2067 = .ok (.ifCond .eq 5, 3) := dk_153 0 5 (dk_at dksL_law_79 19 rfl rfl)
theorem dL_law_2070 : decode cL_law 2070 = .ok (.iconst 0, 1) := dk_3 (dk_at dksL_law_79 22 rfl rfl)
theorem dL_law_2071 : decode cL_law 2071 = .ok (.ireturn, 1) := dk_172 (dk_at dksL_law_79 23 rfl rfl)
theorem dL_law_2072 : decode cL_law 2072 = .ok (.goto 704, 3) := dk_167 2 192 (dk_at dksL_law_80 0 rfl rfl)
theorem dL_law_2075 : decode cL_law 2075 = .ok (.aload_n 1, 1) := dk_43 (dk_at dksL_law_80 3 rfl rfl)
theorem dL_law_2076 : decode cL_law 2076 = .ok (.aload_n 0, 1) := dk_42 (dk_at dksL_law_80 4 rfl rfl)
theorem dL_law_2077 : decode cL_law 2077 = .ok (.iload 4, 2) := dk_21 4 (dk_at dksL_law_80 5 rfl rfl)
theorem dL_law_2079 : decode cL_law 2079 = .ok (.iconst 1, 1) := dk_4 (dk_at dksL_law_80 7 rfl rfl)
theorem dL_law_2080 : decode cL_law 2080 = .ok (.iadd, 1) := dk_96 (dk_at dksL_law_80 8 rfl rfl)
theorem dL_law_2081 : decode cL_law 2081 = .ok (.iaload, 1) := dk_46 (dk_at dksL_law_80 9 rfl rfl)
theorem dL_law_2082 : decode cL_law 2082 = .ok (.aload_n 3, 1) := dk_45 (dk_at dksL_law_80 10 rfl rfl)
theorem dL_law_2083 : decode cL_law 2083 = .ok (.invokestatic 265, 3) := dk_184 1 9 (dk_at dksL_law_80 11 rfl rfl)
theorem dL_law_2086 : decode cL_law 2086 = .ok (.istore 5, 2) := dk_54 5 (dk_at dksL_law_80 14 rfl rfl)
theorem dL_law_2088 : decode cL_law 2088 = .ok (.aload_n 2, 1) := dk_44 (dk_at dksL_law_80 16 rfl rfl)
theorem dL_law_2089 : decode cL_law 2089 = .ok (.aload_n 0, 1) := dk_42 (dk_at dksL_law_80 17 rfl rfl)
theorem dL_law_2090 : decode cL_law 2090 = .ok (.iload 4, 2) := dk_21 4 (dk_at dksL_law_80 18 rfl rfl)
theorem dL_law_2092 : decode cL_law 2092 = .ok (.iconst 1, 1) := dk_4 (dk_at dksL_law_80 20 rfl rfl)
theorem dL_law_2093 : decode cL_law 2093 = .ok (.iadd, 1) := dk_96 (dk_at dksL_law_80 21 rfl rfl)
theorem dL_law_2094 : decode cL_law 2094 = .ok (.iaload, 1) := dk_46 (dk_at dksL_law_80 22 rfl rfl)
theorem dL_law_2095 : decode cL_law 2095 = .ok (.invokevirtual 267, 3) := dk_182 1 11 (dk_at dksL_law_81 0 rfl rfl)
theorem dL_law_2098 : decode cL_law 2098 = .ok (.istore 6, 2) := dk_54 6 (dk_at dksL_law_81 3 rfl rfl)
theorem dL_law_2100 : decode cL_law 2100 = .ok (.aload_n 2, 1) := dk_44 (dk_at dksL_law_81 5 rfl rfl)
theorem dL_law_2101 : decode cL_law 2101 = .ok (.invokevirtual 145, 3) := dk_182 0 145 (dk_at dksL_law_81 6 rfl rfl)
theorem dL_law_2104 : decode cL_law 2104 = .ok (.iload 5, 2) := dk_21 5 (dk_at dksL_law_81 9 rfl rfl)
theorem dL_law_2106 : decode cL_law 2106 = .ok (.if_icmp .eq 5, 3) := dk_159 0 5 (dk_at dksL_law_81 11 rfl rfl)
theorem dL_law_2109 : decode cL_law 2109 = .ok (.iconst 0, 1) := dk_3 (dk_at dksL_law_81 14 rfl rfl)
theorem dL_law_2110 : decode cL_law 2110 = .ok (.ireturn, 1) := dk_172 (dk_at dksL_law_81 15 rfl rfl)
theorem dL_law_2111 : decode cL_law 2111 = .ok (.iload 5, 2) := dk_21 5 (dk_at dksL_law_81 16 rfl rfl)
theorem dL_law_2113 : decode cL_law 2113 = .ok (.ifCond .ne 15, 3) := dk_154 0 15 (dk_at dksL_law_81 18 rfl rfl)
theorem dL_law_2116 : decode cL_law 2116 = .ok (.aload_n 3, 1) := dk_45 (dk_at dksL_law_81 21 rfl rfl)
theorem dL_law_2117 : decode cL_law 2117 = .ok (.iconst 0, 1) := dk_3 (dk_at dksL_law_81 22 rfl rfl)
theorem dL_law_2118 : decode cL_law 2118 = .ok (.laload, 1) := dk_47 (dk_at dksL_law_81 23 rfl rfl)
theorem dL_law_2119 : decode cL_law 2119 = .ok (.iload 6, 2) := dk_21 6 (dk_at dksL_law_82 0 rfl rfl)
theorem dL_law_2121 : decode cL_law 2121 = .ok (.i2l, 1) := dk_133 (dk_at dksL_law_82 2 rfl rfl)
theorem dL_law_2122 : decode cL_law 2122 = .ok (.lcmp, 1) := dk_148 (dk_at dksL_law_82 3 rfl rfl)
theorem dL_law_2123 : decode cL_law 2123 = .ok (.ifCond .eq 5, 3) := dk_153 0 5 (dk_at dksL_law_82 4 rfl rfl)
theorem dL_law_2126 : decode cL_law 2126 = .ok (.iconst 0, 1) := dk_3 (dk_at dksL_law_82 7 rfl rfl)
theorem dL_law_2127 : decode cL_law 2127 = .ok (.ireturn, 1) := dk_172 (dk_at dksL_law_82 8 rfl rfl)
theorem dL_law_2128 : decode cL_law 2128 = .ok (.goto 648, 3) := dk_167 2 136 (dk_at dksL_law_82 9 rfl rfl)
theorem dL_law_2131 : decode cL_law 2131 = .ok (.aload_n 1, 1) := dk_43 (dk_at dksL_law_82 12 rfl rfl)
theorem dL_law_2132 : decode cL_law 2132 = .ok (.aload_n 0, 1) := dk_42 (dk_at dksL_law_82 13 rfl rfl)
theorem dL_law_2133 : decode cL_law 2133 = .ok (.iload 4, 2) := dk_21 4 (dk_at dksL_law_82 14 rfl rfl)
theorem dL_law_2135 : decode cL_law 2135 = .ok (.iconst 1, 1) := dk_4 (dk_at dksL_law_82 16 rfl rfl)
theorem dL_law_2136 : decode cL_law 2136 = .ok (.iadd, 1) := dk_96 (dk_at dksL_law_82 17 rfl rfl)
theorem dL_law_2137 : decode cL_law 2137 = .ok (.iaload, 1) := dk_46 (dk_at dksL_law_82 18 rfl rfl)
theorem dL_law_2138 : decode cL_law 2138 = .ok (.aload_n 3, 1) := dk_45 (dk_at dksL_law_82 19 rfl rfl)
theorem dL_law_2139 : decode cL_law 2139 = .ok (.invokestatic 268, 3) := dk_184 1 12 (dk_at dksL_law_82 20 rfl rfl)
theorem dL_law_2142 : decode cL_law 2142 = .ok (.istore 5, 2) := dk_54 5 (dk_at dksL_law_83 0 rfl rfl)
theorem dL_law_2144 : decode cL_law 2144 = .ok (.aload_n 2, 1) := dk_44 (dk_at dksL_law_83 2 rfl rfl)
theorem dL_law_2145 : decode cL_law 2145 = .ok (.aload_n 0, 1) := dk_42 (dk_at dksL_law_83 3 rfl rfl)
theorem dL_law_2146 : decode cL_law 2146 = .ok (.iload 4, 2) := dk_21 4 (dk_at dksL_law_83 4 rfl rfl)
theorem dL_law_2148 : decode cL_law 2148 = .ok (.iconst 1, 1) := dk_4 (dk_at dksL_law_83 6 rfl rfl)
theorem dL_law_2149 : decode cL_law 2149 = .ok (.iadd, 1) := dk_96 (dk_at dksL_law_83 7 rfl rfl)
theorem dL_law_2150 : decode cL_law 2150 = .ok (.iaload, 1) := dk_46 (dk_at dksL_law_83 8 rfl rfl)
theorem dL_law_2151 : decode cL_law 2151 = .ok (.invokevirtual 270, 3) := dk_182 1 14 (dk_at dksL_law_83 9 rfl rfl)
theorem dL_law_2154 : decode cL_law 2154 = .ok (.istore 6, 2) := dk_54 6 (dk_at dksL_law_83 12 rfl rfl)
theorem dL_law_2156 : decode cL_law 2156 = .ok (.aload_n 2, 1) := dk_44 (dk_at dksL_law_83 14 rfl rfl)
theorem dL_law_2157 : decode cL_law 2157 = .ok (.invokevirtual 145, 3) := dk_182 0 145 (dk_at dksL_law_83 15 rfl rfl)
theorem dL_law_2160 : decode cL_law 2160 = .ok (.iload 5, 2) := dk_21 5 (dk_at dksL_law_83 18 rfl rfl)
theorem dL_law_2162 : decode cL_law 2162 = .ok (.if_icmp .eq 5, 3) := dk_159 0 5 (dk_at dksL_law_83 20 rfl rfl)
theorem dL_law_2165 : decode cL_law 2165 = .ok (.iconst 0, 1) := dk_3 (dk_at dksL_law_83 23 rfl rfl)
theorem dL_law_2166 : decode cL_law 2166 = .ok (.ireturn, 1) := dk_172 (dk_at dksL_law_84 0 rfl rfl)
theorem dL_law_2167 : decode cL_law 2167 = .ok (.iload 5, 2) := dk_21 5 (dk_at dksL_law_84 1 rfl rfl)
theorem dL_law_2169 : decode cL_law 2169 = .ok (.ifCond .ne 15, 3) := dk_154 0 15 (dk_at dksL_law_84 3 rfl rfl)
theorem dL_law_2172 : decode cL_law 2172 = .ok (.aload_n 3, 1) := dk_45 (dk_at dksL_law_84 6 rfl rfl)
theorem dL_law_2173 : decode cL_law 2173 = .ok (.iconst 0, 1) := dk_3 (dk_at dksL_law_84 7 rfl rfl)
theorem dL_law_2174 : decode cL_law 2174 = .ok (.laload, 1) := dk_47 (dk_at dksL_law_84 8 rfl rfl)
theorem dL_law_2175 : decode cL_law 2175 = .ok (.iload 6, 2) := dk_21 6 (dk_at dksL_law_84 9 rfl rfl)
theorem dL_law_2177 : decode cL_law 2177 = .ok (.i2l, 1) := dk_133 (dk_at dksL_law_84 11 rfl rfl)
theorem dL_law_2178 : decode cL_law 2178 = .ok (.lcmp, 1) := dk_148 (dk_at dksL_law_84 12 rfl rfl)
theorem dL_law_2179 : decode cL_law 2179 = .ok (.ifCond .eq 5, 3) := dk_153 0 5 (dk_at dksL_law_84 13 rfl rfl)
theorem dL_law_2182 : decode cL_law 2182 = .ok (.iconst 0, 1) := dk_3 (dk_at dksL_law_84 16 rfl rfl)
theorem dL_law_2183 : decode cL_law 2183 = .ok (.ireturn, 1) := dk_172 (dk_at dksL_law_84 17 rfl rfl)
theorem dL_law_2184 : decode cL_law 2184 = .ok (.goto 592, 3) := dk_167 2 80 (dk_at dksL_law_84 18 rfl rfl)
theorem dL_law_2187 : decode cL_law 2187 = .ok (.aload_n 1, 1) := dk_43 (dk_at dksL_law_84 21 rfl rfl)
theorem dL_law_2188 : decode cL_law 2188 = .ok (.invokevirtual 271, 3) := dk_182 1 15 (dk_at dksL_law_85 0 rfl rfl)
theorem dL_law_2191 : decode cL_law 2191 = .ok (.aload_n 2, 1) := dk_44 (dk_at dksL_law_85 3 rfl rfl)
theorem dL_law_2192 : decode cL_law 2192 = .ok (.invokevirtual 274, 3) := dk_182 1 18 (dk_at dksL_law_85 4 rfl rfl)
theorem dL_law_2195 : decode cL_law 2195 = .ok (.if_icmp .eq 581, 3) := dk_159 2 69 (dk_at dksL_law_85 7 rfl rfl)
theorem dL_law_2198 : decode cL_law 2198 = .ok (.iconst 0, 1) := dk_3 (dk_at dksL_law_85 10 rfl rfl)
theorem dL_law_2199 : decode cL_law 2199 = .ok (.ireturn, 1) := dk_172 (dk_at dksL_law_85 11 rfl rfl)
theorem dL_law_2200 : decode cL_law 2200 = .ok (.aload_n 1, 1) := dk_43 (dk_at dksL_law_85 12 rfl rfl)
theorem dL_law_2201 : decode cL_law 2201 = .ok (.invokevirtual 275, 3) := dk_182 1 19 (dk_at dksL_law_85 13 rfl rfl)
theorem dL_law_2204 : decode cL_law 2204 = .ok (.aload_n 2, 1) := dk_44 (dk_at dksL_law_85 16 rfl rfl)
theorem dL_law_2205 : decode cL_law 2205 = .ok (.invokevirtual 278, 3) := dk_182 1 22 (dk_at dksL_law_85 17 rfl rfl)
theorem dL_law_2208 : decode cL_law 2208 = .ok (.if_icmp .eq 568, 3) := dk_159 2 56 (dk_at dksL_law_85 20 rfl rfl)
theorem dL_law_2211 : decode cL_law 2211 = .ok (.iconst 0, 1) := dk_3 (dk_at dksL_law_85 23 rfl rfl)
theorem dL_law_2212 : decode cL_law 2212 = .ok (.ireturn, 1) := dk_172 (dk_at dksL_law_86 0 rfl rfl)
theorem dL_law_2213 : decode cL_law 2213 = .ok (.aload_n 1, 1) := dk_43 (dk_at dksL_law_86 1 rfl rfl)
theorem dL_law_2214 : decode cL_law 2214 = .ok (.invokevirtual 279, 3) := dk_182 1 23 (dk_at dksL_law_86 2 rfl rfl)
theorem dL_law_2217 : decode cL_law 2217 = .ok (.aload_n 2, 1) := dk_44 (dk_at dksL_law_86 5 rfl rfl)
theorem dL_law_2218 : decode cL_law 2218 = .ok (.invokevirtual 282, 3) := dk_182 1 26 (dk_at dksL_law_86 6 rfl rfl)
theorem dL_law_2221 : decode cL_law 2221 = .ok (.if_icmp .eq 555, 3) := dk_159 2 43 (dk_at dksL_law_86 9 rfl rfl)
theorem dL_law_2224 : decode cL_law 2224 = .ok (.iconst 0, 1) := dk_3 (dk_at dksL_law_86 12 rfl rfl)
theorem dL_law_2225 : decode cL_law 2225 = .ok (.ireturn, 1) := dk_172 (dk_at dksL_law_86 13 rfl rfl)
theorem dL_law_2226 : decode cL_law 2226 = .ok (.aload_n 1, 1) := dk_43 (dk_at dksL_law_86 14 rfl rfl)
theorem dL_law_2227 : decode cL_law 2227 = .ok (.invokevirtual 283, 3) := dk_182 1 27 (dk_at dksL_law_86 15 rfl rfl)
theorem dL_law_2230 : decode cL_law 2230 = .ok (.aload_n 2, 1) := dk_44 (dk_at dksL_law_86 18 rfl rfl)
theorem dL_law_2231 : decode cL_law 2231 = .ok (.invokevirtual 286, 3) := dk_182 1 30 (dk_at dksL_law_86 19 rfl rfl)
theorem dL_law_2234 : decode cL_law 2234 = .ok (.if_icmp .eq 542, 3) := dk_159 2 30 (dk_at dksL_law_87 0 rfl rfl)
theorem dL_law_2237 : decode cL_law 2237 = .ok (.iconst 0, 1) := dk_3 (dk_at dksL_law_87 3 rfl rfl)
theorem dL_law_2238 : decode cL_law 2238 = .ok (.ireturn, 1) := dk_172 (dk_at dksL_law_87 4 rfl rfl)
theorem dL_law_2239 : decode cL_law 2239 = .ok (.aload_n 1, 1) := dk_43 (dk_at dksL_law_87 5 rfl rfl)
theorem dL_law_2240 : decode cL_law 2240 = .ok (.invokevirtual 287, 3) := dk_182 1 31 (dk_at dksL_law_87 6 rfl rfl)
theorem dL_law_2243 : decode cL_law 2243 = .ok (.aload_n 2, 1) := dk_44 (dk_at dksL_law_87 9 rfl rfl)
theorem dL_law_2244 : decode cL_law 2244 = .ok (.invokevirtual 290, 3) := dk_182 1 34 (dk_at dksL_law_87 10 rfl rfl)
theorem dL_law_2247 : decode cL_law 2247 = .ok (.if_icmp .eq 529, 3) := dk_159 2 17 (dk_at dksL_law_87 13 rfl rfl)
theorem dL_law_2250 : decode cL_law 2250 = .ok (.iconst 0, 1) := dk_3 (dk_at dksL_law_87 16 rfl rfl)
theorem dL_law_2251 : decode cL_law 2251 = .ok (.ireturn, 1) := dk_172 (dk_at dksL_law_87 17 rfl rfl)
theorem dL_law_2252 : decode cL_law 2252 = .ok (.aload_n 1, 1) := dk_43 (dk_at dksL_law_87 18 rfl rfl)
theorem dL_law_2253 : decode cL_law 2253 = .ok (.aload_n 0, 1) := dk_42 (dk_at dksL_law_87 19 rfl rfl)
theorem dL_law_2254 : decode cL_law 2254 = .ok (.iload 4, 2) := dk_21 4 (dk_at dksL_law_87 20 rfl rfl)
theorem dL_law_2256 : decode cL_law 2256 = .ok (.iconst 1, 1) := dk_4 (dk_at dksL_law_87 22 rfl rfl)
theorem dL_law_2257 : decode cL_law 2257 = .ok (.iadd, 1) := dk_96 (dk_at dksL_law_87 23 rfl rfl)
theorem dL_law_2258 : decode cL_law 2258 = .ok (.iaload, 1) := dk_46 (dk_at dksL_law_88 0 rfl rfl)
theorem dL_law_2259 : decode cL_law 2259 = .ok (.aload_n 3, 1) := dk_45 (dk_at dksL_law_88 1 rfl rfl)
theorem dL_law_2260 : decode cL_law 2260 = .ok (.invokestatic 291, 3) := dk_184 1 35 (dk_at dksL_law_88 2 rfl rfl)
theorem dL_law_2263 : decode cL_law 2263 = .ok (.istore 5, 2) := dk_54 5 (dk_at dksL_law_88 5 rfl rfl)
theorem dL_law_2265 : decode cL_law 2265 = .ok (.aload_n 2, 1) := dk_44 (dk_at dksL_law_88 7 rfl rfl)
theorem dL_law_2266 : decode cL_law 2266 = .ok (.aload_n 0, 1) := dk_42 (dk_at dksL_law_88 8 rfl rfl)
theorem dL_law_2267 : decode cL_law 2267 = .ok (.iload 4, 2) := dk_21 4 (dk_at dksL_law_88 9 rfl rfl)
theorem dL_law_2269 : decode cL_law 2269 = .ok (.iconst 1, 1) := dk_4 (dk_at dksL_law_88 11 rfl rfl)
theorem dL_law_2270 : decode cL_law 2270 = .ok (.iadd, 1) := dk_96 (dk_at dksL_law_88 12 rfl rfl)
theorem dL_law_2271 : decode cL_law 2271 = .ok (.iaload, 1) := dk_46 (dk_at dksL_law_88 13 rfl rfl)
theorem dL_law_2272 : decode cL_law 2272 = .ok (.invokevirtual 293, 3) := dk_182 1 37 (dk_at dksL_law_88 14 rfl rfl)
theorem dL_law_2275 : decode cL_law 2275 = .ok (.istore 6, 2) := dk_54 6 (dk_at dksL_law_88 17 rfl rfl)
theorem dL_law_2277 : decode cL_law 2277 = .ok (.aload_n 2, 1) := dk_44 (dk_at dksL_law_88 19 rfl rfl)
theorem dL_law_2278 : decode cL_law 2278 = .ok (.invokevirtual 145, 3) := dk_182 0 145 (dk_at dksL_law_88 20 rfl rfl)
theorem dL_law_2281 : decode cL_law 2281 = .ok (.iload 5, 2) := dk_21 5 (dk_at dksL_law_89 0 rfl rfl)
theorem dL_law_2283 : decode cL_law 2283 = .ok (.if_icmp .eq 5, 3) := dk_159 0 5 (dk_at dksL_law_89 2 rfl rfl)
theorem dL_law_2286 : decode cL_law 2286 = .ok (.iconst 0, 1) := dk_3 (dk_at dksL_law_89 5 rfl rfl)
theorem dL_law_2287 : decode cL_law 2287 = .ok (.ireturn, 1) := dk_172 (dk_at dksL_law_89 6 rfl rfl)
theorem dL_law_2288 : decode cL_law 2288 = .ok (.iload 5, 2) := dk_21 5 (dk_at dksL_law_89 7 rfl rfl)
theorem dL_law_2290 : decode cL_law 2290 = .ok (.ifCond .ne 15, 3) := dk_154 0 15 (dk_at dksL_law_89 9 rfl rfl)
theorem dL_law_2293 : decode cL_law 2293 = .ok (.aload_n 3, 1) := dk_45 (dk_at dksL_law_89 12 rfl rfl)
theorem dL_law_2294 : decode cL_law 2294 = .ok (.iconst 0, 1) := dk_3 (dk_at dksL_law_89 13 rfl rfl)
theorem dL_law_2295 : decode cL_law 2295 = .ok (.laload, 1) := dk_47 (dk_at dksL_law_89 14 rfl rfl)
theorem dL_law_2296 : decode cL_law 2296 = .ok (.iload 6, 2) := dk_21 6 (dk_at dksL_law_89 15 rfl rfl)
theorem dL_law_2298 : decode cL_law 2298 = .ok (.i2l, 1) := dk_133 (dk_at dksL_law_89 17 rfl rfl)
theorem dL_law_2299 : decode cL_law 2299 = .ok (.lcmp, 1) := dk_148 (dk_at dksL_law_89 18 rfl rfl)
theorem dL_law_2300 : decode cL_law 2300 = .ok (.ifCond .eq 5, 3) := dk_153 0 5 (dk_at dksL_law_89 19 rfl rfl)
theorem dL_law_2303 : decode cL_law 2303 = .ok (.iconst 0, 1) := dk_3 (dk_at dksL_law_89 22 rfl rfl)
theorem dL_law_2304 : decode cL_law 2304 = .ok (.ireturn, 1) := dk_172 (dk_at dksL_law_89 23 rfl rfl)
theorem dL_law_2305 : decode cL_law 2305 = .ok (.goto 471, 3) := dk_167 1 215 (dk_at dksL_law_90 0 rfl rfl)
theorem dL_law_2308 : decode cL_law 2308 = .ok (.aload_n 1, 1) := dk_43 (dk_at dksL_law_90 3 rfl rfl)
theorem dL_law_2309 : decode cL_law 2309 = .ok (.aload_n 0, 1) := dk_42 (dk_at dksL_law_90 4 rfl rfl)
theorem dL_law_2310 : decode cL_law 2310 = .ok (.iload 4, 2) := dk_21 4 (dk_at dksL_law_90 5 rfl rfl)
theorem dL_law_2312 : decode cL_law 2312 = .ok (.iconst 1, 1) := dk_4 (dk_at dksL_law_90 7 rfl rfl)
theorem dL_law_2313 : decode cL_law 2313 = .ok (.iadd, 1) := dk_96 (dk_at dksL_law_90 8 rfl rfl)
theorem dL_law_2314 : decode cL_law 2314 = .ok (.iaload, 1) := dk_46 (dk_at dksL_law_90 9 rfl rfl)
theorem dL_law_2315 : decode cL_law 2315 = .ok (.aload_n 3, 1) := dk_45 (dk_at dksL_law_90 10 rfl rfl)
theorem dL_law_2316 : decode cL_law 2316 = .ok (.invokestatic 294, 3) := dk_184 1 38 (dk_at dksL_law_90 11 rfl rfl)
theorem dL_law_2319 : decode cL_law 2319 = .ok (.istore 5, 2) := dk_54 5 (dk_at dksL_law_90 14 rfl rfl)
theorem dL_law_2321 : decode cL_law 2321 = .ok (.aload_n 2, 1) := dk_44 (dk_at dksL_law_90 16 rfl rfl)
theorem dL_law_2322 : decode cL_law 2322 = .ok (.aload_n 0, 1) := dk_42 (dk_at dksL_law_90 17 rfl rfl)
theorem dL_law_2323 : decode cL_law 2323 = .ok (.iload 4, 2) := dk_21 4 (dk_at dksL_law_90 18 rfl rfl)
theorem dL_law_2325 : decode cL_law 2325 = .ok (.iconst 1, 1) := dk_4 (dk_at dksL_law_90 20 rfl rfl)
theorem dL_law_2326 : decode cL_law 2326 = .ok (.iadd, 1) := dk_96 (dk_at dksL_law_90 21 rfl rfl)
theorem dL_law_2327 : decode cL_law 2327 = .ok (.iaload, 1) := dk_46 (dk_at dksL_law_90 22 rfl rfl)
theorem dL_law_2328 : decode cL_law 2328 = .ok (.invokevirtual 296, 3) := dk_182 1 40 (dk_at dksL_law_91 0 rfl rfl)
theorem dL_law_2331 : decode cL_law 2331 = .ok (.istore 6, 2) := dk_54 6 (dk_at dksL_law_91 3 rfl rfl)
theorem dL_law_2333 : decode cL_law 2333 = .ok (.aload_n 2, 1) := dk_44 (dk_at dksL_law_91 5 rfl rfl)
theorem dL_law_2334 : decode cL_law 2334 = .ok (.invokevirtual 145, 3) := dk_182 0 145 (dk_at dksL_law_91 6 rfl rfl)
theorem dL_law_2337 : decode cL_law 2337 = .ok (.iload 5, 2) := dk_21 5 (dk_at dksL_law_91 9 rfl rfl)
theorem dL_law_2339 : decode cL_law 2339 = .ok (.if_icmp .eq 5, 3) := dk_159 0 5 (dk_at dksL_law_91 11 rfl rfl)
theorem dL_law_2342 : decode cL_law 2342 = .ok (.iconst 0, 1) := dk_3 (dk_at dksL_law_91 14 rfl rfl)
theorem dL_law_2343 : decode cL_law 2343 = .ok (.ireturn, 1) := dk_172 (dk_at dksL_law_91 15 rfl rfl)
theorem dL_law_2344 : decode cL_law 2344 = .ok (.iload 5, 2) := dk_21 5 (dk_at dksL_law_91 16 rfl rfl)
theorem dL_law_2346 : decode cL_law 2346 = .ok (.ifCond .ne 15, 3) := dk_154 0 15 (dk_at dksL_law_91 18 rfl rfl)
theorem dL_law_2349 : decode cL_law 2349 = .ok (.aload_n 3, 1) := dk_45 (dk_at dksL_law_91 21 rfl rfl)
theorem dL_law_2350 : decode cL_law 2350 = .ok (.iconst 0, 1) := dk_3 (dk_at dksL_law_91 22 rfl rfl)
theorem dL_law_2351 : decode cL_law 2351 = .ok (.laload, 1) := dk_47 (dk_at dksL_law_91 23 rfl rfl)
theorem dL_law_2352 : decode cL_law 2352 = .ok (.iload 6, 2) := dk_21 6 (dk_at dksL_law_92 0 rfl rfl)
theorem dL_law_2354 : decode cL_law 2354 = .ok (.i2l, 1) := dk_133 (dk_at dksL_law_92 2 rfl rfl)
theorem dL_law_2355 : decode cL_law 2355 = .ok (.lcmp, 1) := dk_148 (dk_at dksL_law_92 3 rfl rfl)
theorem dL_law_2356 : decode cL_law 2356 = .ok (.ifCond .eq 5, 3) := dk_153 0 5 (dk_at dksL_law_92 4 rfl rfl)
theorem dL_law_2359 : decode cL_law 2359 = .ok (.iconst 0, 1) := dk_3 (dk_at dksL_law_92 7 rfl rfl)
theorem dL_law_2360 : decode cL_law 2360 = .ok (.ireturn, 1) := dk_172 (dk_at dksL_law_92 8 rfl rfl)
theorem dL_law_2361 : decode cL_law 2361 = .ok (.goto 415, 3) := dk_167 1 159 (dk_at dksL_law_92 9 rfl rfl)
theorem dL_law_2364 : decode cL_law 2364 = .ok (.aload_n 1, 1) := dk_43 (dk_at dksL_law_92 12 rfl rfl)
theorem dL_law_2365 : decode cL_law 2365 = .ok (.aload_n 0, 1) := dk_42 (dk_at dksL_law_92 13 rfl rfl)
theorem dL_law_2366 : decode cL_law 2366 = .ok (.iload 4, 2) := dk_21 4 (dk_at dksL_law_92 14 rfl rfl)
theorem dL_law_2368 : decode cL_law 2368 = .ok (.iconst 1, 1) := dk_4 (dk_at dksL_law_92 16 rfl rfl)
theorem dL_law_2369 : decode cL_law 2369 = .ok (.iadd, 1) := dk_96 (dk_at dksL_law_92 17 rfl rfl)
theorem dL_law_2370 : decode cL_law 2370 = .ok (.iaload, 1) := dk_46 (dk_at dksL_law_92 18 rfl rfl)
theorem dL_law_2371 : decode cL_law 2371 = .ok (.aload_n 0, 1) := dk_42 (dk_at dksL_law_92 19 rfl rfl)
theorem dL_law_2372 : decode cL_law 2372 = .ok (.iload 4, 2) := dk_21 4 (dk_at dksL_law_92 20 rfl rfl)
theorem dL_law_2374 : decode cL_law 2374 = .ok (.iconst 2, 1) := dk_5 (dk_at dksL_law_92 22 rfl rfl)
theorem dL_law_2375 : decode cL_law 2375 = .ok (.iadd, 1) := dk_96 (dk_at dksL_law_92 23 rfl rfl)
theorem dL_law_2376 : decode cL_law 2376 = .ok (.iaload, 1) := dk_46 (dk_at dksL_law_93 0 rfl rfl)
theorem dL_law_2377 : decode cL_law 2377 = .ok (.aload_n 3, 1) := dk_45 (dk_at dksL_law_93 1 rfl rfl)
theorem dL_law_2378 : decode cL_law 2378 = .ok (.invokestatic 297, 3) := dk_184 1 41 (dk_at dksL_law_93 2 rfl rfl)
theorem dL_law_2381 : decode cL_law 2381 = .ok (.istore 5, 2) := dk_54 5 (dk_at dksL_law_93 5 rfl rfl)
theorem dL_law_2383 : decode cL_law 2383 = .ok (.aload_n 2, 1) := dk_44 (dk_at dksL_law_93 7 rfl rfl)
theorem dL_law_2384 : decode cL_law 2384 = .ok (.aload_n 0, 1) := dk_42 (dk_at dksL_law_93 8 rfl rfl)
theorem dL_law_2385 : decode cL_law 2385 = .ok (.iload 4, 2) := dk_21 4 (dk_at dksL_law_93 9 rfl rfl)
theorem dL_law_2387 : decode cL_law 2387 = .ok (.iconst 1, 1) := dk_4 (dk_at dksL_law_93 11 rfl rfl)
theorem dL_law_2388 : decode cL_law 2388 = .ok (.iadd, 1) := dk_96 (dk_at dksL_law_93 12 rfl rfl)
theorem dL_law_2389 : decode cL_law 2389 = .ok (.iaload, 1) := dk_46 (dk_at dksL_law_93 13 rfl rfl)
theorem dL_law_2390 : decode cL_law 2390 = .ok (.aload_n 0, 1) := dk_42 (dk_at dksL_law_93 14 rfl rfl)
theorem dL_law_2391 : decode cL_law 2391 = .ok (.iload 4, 2) := dk_21 4 (dk_at dksL_law_93 15 rfl rfl)
theorem dL_law_2393 : decode cL_law 2393 = .ok (.iconst 2, 1) := dk_5 (dk_at dksL_law_93 17 rfl rfl)
theorem dL_law_2394 : decode cL_law 2394 = .ok (.iadd, 1) := dk_96 (dk_at dksL_law_93 18 rfl rfl)
theorem dL_law_2395 : decode cL_law 2395 = .ok (.iaload, 1) := dk_46 (dk_at dksL_law_93 19 rfl rfl)
theorem dL_law_2396 : decode cL_law 2396 = .ok (.invokevirtual 299, 3) := dk_182 1 43 (dk_at dksL_law_93 20 rfl rfl)
theorem dL_law_2399 : decode cL_law 2399 = .ok (.istore 6, 2) := dk_54 6 (dk_at dksL_law_94 0 rfl rfl)
theorem dL_law_2401 : decode cL_law 2401 = .ok (.aload_n 2, 1) := dk_44 (dk_at dksL_law_94 2 rfl rfl)
theorem dL_law_2402 : decode cL_law 2402 = .ok (.invokevirtual 145, 3) := dk_182 0 145 (dk_at dksL_law_94 3 rfl rfl)
theorem dL_law_2405 : decode cL_law 2405 = .ok (.iload 5, 2) := dk_21 5 (dk_at dksL_law_94 6 rfl rfl)
theorem dL_law_2407 : decode cL_law 2407 = .ok (.if_icmp .eq 5, 3) := dk_159 0 5 (dk_at dksL_law_94 8 rfl rfl)
theorem dL_law_2410 : decode cL_law 2410 = .ok (.iconst 0, 1) := dk_3 (dk_at dksL_law_94 11 rfl rfl)
theorem dL_law_2411 : decode cL_law 2411 = .ok (.ireturn, 1) := dk_172 (dk_at dksL_law_94 12 rfl rfl)
theorem dL_law_2412 : decode cL_law 2412 = .ok (.iload 5, 2) := dk_21 5 (dk_at dksL_law_94 13 rfl rfl)
theorem dL_law_2414 : decode cL_law 2414 = .ok (.ifCond .ne 15, 3) := dk_154 0 15 (dk_at dksL_law_94 15 rfl rfl)
theorem dL_law_2417 : decode cL_law 2417 = .ok (.aload_n 3, 1) := dk_45 (dk_at dksL_law_94 18 rfl rfl)
theorem dL_law_2418 : decode cL_law 2418 = .ok (.iconst 0, 1) := dk_3 (dk_at dksL_law_94 19 rfl rfl)
theorem dL_law_2419 : decode cL_law 2419 = .ok (.laload, 1) := dk_47 (dk_at dksL_law_94 20 rfl rfl)
theorem dL_law_2420 : decode cL_law 2420 = .ok (.iload 6, 2) := dk_21 6 (dk_at dksL_law_94 21 rfl rfl)
theorem dL_law_2422 : decode cL_law 2422 = .ok (.i2l, 1) := dk_133 (dk_at dksL_law_94 23 rfl rfl)
theorem dL_law_2423 : decode cL_law 2423 = .ok (.lcmp, 1) := dk_148 (dk_at dksL_law_95 0 rfl rfl)
theorem dL_law_2424 : decode cL_law 2424 = .ok (.ifCond .eq 5, 3) := dk_153 0 5 (dk_at dksL_law_95 1 rfl rfl)
theorem dL_law_2427 : decode cL_law 2427 = .ok (.iconst 0, 1) := dk_3 (dk_at dksL_law_95 4 rfl rfl)
theorem dL_law_2428 : decode cL_law 2428 = .ok (.ireturn, 1) := dk_172 (dk_at dksL_law_95 5 rfl rfl)
theorem dL_law_2429 : decode cL_law 2429 = .ok (.goto 347, 3) := dk_167 1 91 (dk_at dksL_law_95 6 rfl rfl)
theorem dL_law_2432 : decode cL_law 2432 = .ok (.aload_n 1, 1) := dk_43 (dk_at dksL_law_95 9 rfl rfl)
theorem dL_law_2433 : decode cL_law 2433 = .ok (.aload_n 0, 1) := dk_42 (dk_at dksL_law_95 10 rfl rfl)
theorem dL_law_2434 : decode cL_law 2434 = .ok (.iload 4, 2) := dk_21 4 (dk_at dksL_law_95 11 rfl rfl)
theorem dL_law_2436 : decode cL_law 2436 = .ok (.iconst 1, 1) := dk_4 (dk_at dksL_law_95 13 rfl rfl)
theorem dL_law_2437 : decode cL_law 2437 = .ok (.iadd, 1) := dk_96 (dk_at dksL_law_95 14 rfl rfl)
theorem dL_law_2438 : decode cL_law 2438 = .ok (.iaload, 1) := dk_46 (dk_at dksL_law_95 15 rfl rfl)
theorem dL_law_2439 : decode cL_law 2439 = .ok (.aload_n 0, 1) := dk_42 (dk_at dksL_law_95 16 rfl rfl)
theorem dL_law_2440 : decode cL_law 2440 = .ok (.iload 4, 2) := dk_21 4 (dk_at dksL_law_95 17 rfl rfl)
theorem dL_law_2442 : decode cL_law 2442 = .ok (.iconst 2, 1) := dk_5 (dk_at dksL_law_95 19 rfl rfl)
theorem dL_law_2443 : decode cL_law 2443 = .ok (.iadd, 1) := dk_96 (dk_at dksL_law_95 20 rfl rfl)
theorem dL_law_2444 : decode cL_law 2444 = .ok (.iaload, 1) := dk_46 (dk_at dksL_law_95 21 rfl rfl)
theorem dL_law_2445 : decode cL_law 2445 = .ok (.aload_n 3, 1) := dk_45 (dk_at dksL_law_95 22 rfl rfl)
theorem dL_law_2446 : decode cL_law 2446 = .ok (.invokestatic 300, 3) := dk_184 1 44 (dk_at dksL_law_96 0 rfl rfl)
theorem dL_law_2449 : decode cL_law 2449 = .ok (.istore 5, 2) := dk_54 5 (dk_at dksL_law_96 3 rfl rfl)
theorem dL_law_2451 : decode cL_law 2451 = .ok (.aload_n 2, 1) := dk_44 (dk_at dksL_law_96 5 rfl rfl)
theorem dL_law_2452 : decode cL_law 2452 = .ok (.aload_n 0, 1) := dk_42 (dk_at dksL_law_96 6 rfl rfl)
theorem dL_law_2453 : decode cL_law 2453 = .ok (.iload 4, 2) := dk_21 4 (dk_at dksL_law_96 7 rfl rfl)
theorem dL_law_2455 : decode cL_law 2455 = .ok (.iconst 1, 1) := dk_4 (dk_at dksL_law_96 9 rfl rfl)
theorem dL_law_2456 : decode cL_law 2456 = .ok (.iadd, 1) := dk_96 (dk_at dksL_law_96 10 rfl rfl)
theorem dL_law_2457 : decode cL_law 2457 = .ok (.iaload, 1) := dk_46 (dk_at dksL_law_96 11 rfl rfl)
theorem dL_law_2458 : decode cL_law 2458 = .ok (.aload_n 0, 1) := dk_42 (dk_at dksL_law_96 12 rfl rfl)
theorem dL_law_2459 : decode cL_law 2459 = .ok (.iload 4, 2) := dk_21 4 (dk_at dksL_law_96 13 rfl rfl)
theorem dL_law_2461 : decode cL_law 2461 = .ok (.iconst 2, 1) := dk_5 (dk_at dksL_law_96 15 rfl rfl)
theorem dL_law_2462 : decode cL_law 2462 = .ok (.iadd, 1) := dk_96 (dk_at dksL_law_96 16 rfl rfl)
theorem dL_law_2463 : decode cL_law 2463 = .ok (.iaload, 1) := dk_46 (dk_at dksL_law_96 17 rfl rfl)
theorem dL_law_2464 : decode cL_law 2464 = .ok (.invokevirtual 302, 3) := dk_182 1 46 (dk_at dksL_law_96 18 rfl rfl)
theorem dL_law_2467 : decode cL_law 2467 = .ok (.istore 6, 2) := dk_54 6 (dk_at dksL_law_96 21 rfl rfl)
theorem dL_law_2469 : decode cL_law 2469 = .ok (.aload_n 2, 1) := dk_44 (dk_at dksL_law_96 23 rfl rfl)
theorem dL_law_2470 : decode cL_law 2470 = .ok (.invokevirtual 145, 3) := dk_182 0 145 (dk_at dksL_law_97 0 rfl rfl)
theorem dL_law_2473 : decode cL_law 2473 = .ok (.iload 5, 2) := dk_21 5 (dk_at dksL_law_97 3 rfl rfl)
theorem dL_law_2475 : decode cL_law 2475 = .ok (.if_icmp .eq 5, 3) := dk_159 0 5 (dk_at dksL_law_97 5 rfl rfl)
theorem dL_law_2478 : decode cL_law 2478 = .ok (.iconst 0, 1) := dk_3 (dk_at dksL_law_97 8 rfl rfl)
theorem dL_law_2479 : decode cL_law 2479 = .ok (.ireturn, 1) := dk_172 (dk_at dksL_law_97 9 rfl rfl)
theorem dL_law_2480 : decode cL_law 2480 = .ok (.iload 5, 2) := dk_21 5 (dk_at dksL_law_97 10 rfl rfl)
theorem dL_law_2482 : decode cL_law 2482 = .ok (.ifCond .ne 15, 3) := dk_154 0 15 (dk_at dksL_law_97 12 rfl rfl)
theorem dL_law_2485 : decode cL_law 2485 = .ok (.aload_n 3, 1) := dk_45 (dk_at dksL_law_97 15 rfl rfl)
theorem dL_law_2486 : decode cL_law 2486 = .ok (.iconst 0, 1) := dk_3 (dk_at dksL_law_97 16 rfl rfl)
theorem dL_law_2487 : decode cL_law 2487 = .ok (.laload, 1) := dk_47 (dk_at dksL_law_97 17 rfl rfl)
theorem dL_law_2488 : decode cL_law 2488 = .ok (.iload 6, 2) := dk_21 6 (dk_at dksL_law_97 18 rfl rfl)
theorem dL_law_2490 : decode cL_law 2490 = .ok (.i2l, 1) := dk_133 (dk_at dksL_law_97 20 rfl rfl)
theorem dL_law_2491 : decode cL_law 2491 = .ok (.lcmp, 1) := dk_148 (dk_at dksL_law_97 21 rfl rfl)
theorem dL_law_2492 : decode cL_law 2492 = .ok (.ifCond .eq 5, 3) := dk_153 0 5 (dk_at dksL_law_98 0 rfl rfl)
theorem dL_law_2495 : decode cL_law 2495 = .ok (.iconst 0, 1) := dk_3 (dk_at dksL_law_98 3 rfl rfl)
theorem dL_law_2496 : decode cL_law 2496 = .ok (.ireturn, 1) := dk_172 (dk_at dksL_law_98 4 rfl rfl)
theorem dL_law_2497 : decode cL_law 2497 = .ok (.goto 279, 3) := dk_167 1 23 (dk_at dksL_law_98 5 rfl rfl)
theorem dL_law_2500 : decode cL_law 2500 = .ok (.aload_n 1, 1) := dk_43 (dk_at dksL_law_98 8 rfl rfl)
theorem dL_law_2501 : decode cL_law 2501 = .ok (.aload_n 0, 1) := dk_42 (dk_at dksL_law_98 9 rfl rfl)
theorem dL_law_2502 : decode cL_law 2502 = .ok (.iload 4, 2) := dk_21 4 (dk_at dksL_law_98 10 rfl rfl)
theorem dL_law_2504 : decode cL_law 2504 = .ok (.iconst 1, 1) := dk_4 (dk_at dksL_law_98 12 rfl rfl)
theorem dL_law_2505 : decode cL_law 2505 = .ok (.iadd, 1) := dk_96 (dk_at dksL_law_98 13 rfl rfl)
theorem dL_law_2506 : decode cL_law 2506 = .ok (.iaload, 1) := dk_46 (dk_at dksL_law_98 14 rfl rfl)
theorem dL_law_2507 : decode cL_law 2507 = .ok (.aload_n 3, 1) := dk_45 (dk_at dksL_law_98 15 rfl rfl)
theorem dL_law_2508 : decode cL_law 2508 = .ok (.invokestatic 303, 3) := dk_184 1 47 (dk_at dksL_law_98 16 rfl rfl)
theorem dL_law_2511 : decode cL_law 2511 = .ok (.istore 5, 2) := dk_54 5 (dk_at dksL_law_98 19 rfl rfl)
theorem dL_law_2513 : decode cL_law 2513 = .ok (.aload_n 2, 1) := dk_44 (dk_at dksL_law_98 21 rfl rfl)
theorem dL_law_2514 : decode cL_law 2514 = .ok (.aload_n 0, 1) := dk_42 (dk_at dksL_law_98 22 rfl rfl)
theorem dL_law_2515 : decode cL_law 2515 = .ok (.iload 4, 2) := dk_21 4 (dk_at dksL_law_99 0 rfl rfl)
theorem dL_law_2517 : decode cL_law 2517 = .ok (.iconst 1, 1) := dk_4 (dk_at dksL_law_99 2 rfl rfl)
theorem dL_law_2518 : decode cL_law 2518 = .ok (.iadd, 1) := dk_96 (dk_at dksL_law_99 3 rfl rfl)
theorem dL_law_2519 : decode cL_law 2519 = .ok (.iaload, 1) := dk_46 (dk_at dksL_law_99 4 rfl rfl)
theorem dL_law_2520 : decode cL_law 2520 = .ok (.invokevirtual 305, 3) := dk_182 1 49 (dk_at dksL_law_99 5 rfl rfl)
theorem dL_law_2523 : decode cL_law 2523 = .ok (.istore 6, 2) := dk_54 6 (dk_at dksL_law_99 8 rfl rfl)
theorem dL_law_2525 : decode cL_law 2525 = .ok (.aload_n 2, 1) := dk_44 (dk_at dksL_law_99 10 rfl rfl)
theorem dL_law_2526 : decode cL_law 2526 = .ok (.invokevirtual 145, 3) := dk_182 0 145 (dk_at dksL_law_99 11 rfl rfl)
theorem dL_law_2529 : decode cL_law 2529 = .ok (.iload 5, 2) := dk_21 5 (dk_at dksL_law_99 14 rfl rfl)
theorem dL_law_2531 : decode cL_law 2531 = .ok (.if_icmp .eq 5, 3) := dk_159 0 5 (dk_at dksL_law_99 16 rfl rfl)
theorem dL_law_2534 : decode cL_law 2534 = .ok (.iconst 0, 1) := dk_3 (dk_at dksL_law_99 19 rfl rfl)
theorem dL_law_2535 : decode cL_law 2535 = .ok (.ireturn, 1) := dk_172 (dk_at dksL_law_99 20 rfl rfl)
theorem dL_law_2536 : decode cL_law 2536 = .ok (.iload 5, 2) := dk_21 5 (dk_at dksL_law_99 21 rfl rfl)
theorem dL_law_2538 : decode cL_law 2538 = .ok (.ifCond .ne 15, 3) := dk_154 0 15 (dk_at dksL_law_100 0 rfl rfl)
theorem dL_law_2541 : decode cL_law 2541 = .ok (.aload_n 3, 1) := dk_45 (dk_at dksL_law_100 3 rfl rfl)
theorem dL_law_2542 : decode cL_law 2542 = .ok (.iconst 0, 1) := dk_3 (dk_at dksL_law_100 4 rfl rfl)
theorem dL_law_2543 : decode cL_law 2543 = .ok (.laload, 1) := dk_47 (dk_at dksL_law_100 5 rfl rfl)
theorem dL_law_2544 : decode cL_law 2544 = .ok (.iload 6, 2) := dk_21 6 (dk_at dksL_law_100 6 rfl rfl)
theorem dL_law_2546 : decode cL_law 2546 = .ok (.i2l, 1) := dk_133 (dk_at dksL_law_100 8 rfl rfl)
theorem dL_law_2547 : decode cL_law 2547 = .ok (.lcmp, 1) := dk_148 (dk_at dksL_law_100 9 rfl rfl)
theorem dL_law_2548 : decode cL_law 2548 = .ok (.ifCond .eq 5, 3) := dk_153 0 5 (dk_at dksL_law_100 10 rfl rfl)
theorem dL_law_2551 : decode cL_law 2551 = .ok (.iconst 0, 1) := dk_3 (dk_at dksL_law_100 13 rfl rfl)
theorem dL_law_2552 : decode cL_law 2552 = .ok (.ireturn, 1) := dk_172 (dk_at dksL_law_100 14 rfl rfl)
theorem dL_law_2553 : decode cL_law 2553 = .ok (.goto 223, 3) := dk_167 0 223 (dk_at dksL_law_100 15 rfl rfl)
theorem dL_law_2556 : decode cL_law 2556 = .ok (.aload_n 1, 1) := dk_43 (dk_at dksL_law_100 18 rfl rfl)
theorem dL_law_2557 : decode cL_law 2557 = .ok (.aload_n 0, 1) := dk_42 (dk_at dksL_law_100 19 rfl rfl)
theorem dL_law_2558 : decode cL_law 2558 = .ok (.iload 4, 2) := dk_21 4 (dk_at dksL_law_100 20 rfl rfl)
theorem dL_law_2560 : decode cL_law 2560 = .ok (.iconst 1, 1) := dk_4 (dk_at dksL_law_100 22 rfl rfl)
theorem dL_law_2561 : decode cL_law 2561 = .ok (.iadd, 1) := dk_96 (dk_at dksL_law_100 23 rfl rfl)
theorem dL_law_2562 : decode cL_law 2562 = .ok (.iaload, 1) := dk_46 (dk_at dksL_law_101 0 rfl rfl)
theorem dL_law_2563 : decode cL_law 2563 = .ok (.aload_n 0, 1) := dk_42 (dk_at dksL_law_101 1 rfl rfl)
theorem dL_law_2564 : decode cL_law 2564 = .ok (.iload 4, 2) := dk_21 4 (dk_at dksL_law_101 2 rfl rfl)
theorem dL_law_2566 : decode cL_law 2566 = .ok (.iconst 2, 1) := dk_5 (dk_at dksL_law_101 4 rfl rfl)
theorem dL_law_2567 : decode cL_law 2567 = .ok (.iadd, 1) := dk_96 (dk_at dksL_law_101 5 rfl rfl)
theorem dL_law_2568 : decode cL_law 2568 = .ok (.iaload, 1) := dk_46 (dk_at dksL_law_101 6 rfl rfl)
theorem dL_law_2569 : decode cL_law 2569 = .ok (.aload_n 3, 1) := dk_45 (dk_at dksL_law_101 7 rfl rfl)
theorem dL_law_2570 : decode cL_law 2570 = .ok (.invokestatic 306, 3) := dk_184 1 50 (dk_at dksL_law_101 8 rfl rfl)
theorem dL_law_2573 : decode cL_law 2573 = .ok (.istore 5, 2) := dk_54 5 (dk_at dksL_law_101 11 rfl rfl)
theorem dL_law_2575 : decode cL_law 2575 = .ok (.aload_n 2, 1) := dk_44 (dk_at dksL_law_101 13 rfl rfl)
theorem dL_law_2576 : decode cL_law 2576 = .ok (.aload_n 0, 1) := dk_42 (dk_at dksL_law_101 14 rfl rfl)
theorem dL_law_2577 : decode cL_law 2577 = .ok (.iload 4, 2) := dk_21 4 (dk_at dksL_law_101 15 rfl rfl)
theorem dL_law_2579 : decode cL_law 2579 = .ok (.iconst 1, 1) := dk_4 (dk_at dksL_law_101 17 rfl rfl)
theorem dL_law_2580 : decode cL_law 2580 = .ok (.iadd, 1) := dk_96 (dk_at dksL_law_101 18 rfl rfl)
theorem dL_law_2581 : decode cL_law 2581 = .ok (.iaload, 1) := dk_46 (dk_at dksL_law_101 19 rfl rfl)
theorem dL_law_2582 : decode cL_law 2582 = .ok (.aload_n 0, 1) := dk_42 (dk_at dksL_law_101 20 rfl rfl)
theorem dL_law_2583 : decode cL_law 2583 = .ok (.iload 4, 2) := dk_21 4 (dk_at dksL_law_101 21 rfl rfl)
theorem dL_law_2585 : decode cL_law 2585 = .ok (.iconst 2, 1) := dk_5 (dk_at dksL_law_101 23 rfl rfl)
theorem dL_law_2586 : decode cL_law 2586 = .ok (.iadd, 1) := dk_96 (dk_at dksL_law_102 0 rfl rfl)
theorem dL_law_2587 : decode cL_law 2587 = .ok (.iaload, 1) := dk_46 (dk_at dksL_law_102 1 rfl rfl)
theorem dL_law_2588 : decode cL_law 2588 = .ok (.invokevirtual 308, 3) := dk_182 1 52 (dk_at dksL_law_102 2 rfl rfl)
theorem dL_law_2591 : decode cL_law 2591 = .ok (.istore 6, 2) := dk_54 6 (dk_at dksL_law_102 5 rfl rfl)
theorem dL_law_2593 : decode cL_law 2593 = .ok (.aload_n 2, 1) := dk_44 (dk_at dksL_law_102 7 rfl rfl)
theorem dL_law_2594 : decode cL_law 2594 = .ok (.invokevirtual 145, 3) := dk_182 0 145 (dk_at dksL_law_102 8 rfl rfl)
theorem dL_law_2597 : decode cL_law 2597 = .ok (.iload 5, 2) := dk_21 5 (dk_at dksL_law_102 11 rfl rfl)
theorem dL_law_2599 : decode cL_law 2599 = .ok (.if_icmp .eq 5, 3) := dk_159 0 5 (dk_at dksL_law_102 13 rfl rfl)
theorem dL_law_2602 : decode cL_law 2602 = .ok (.iconst 0, 1) := dk_3 (dk_at dksL_law_102 16 rfl rfl)
theorem dL_law_2603 : decode cL_law 2603 = .ok (.ireturn, 1) := dk_172 (dk_at dksL_law_102 17 rfl rfl)
theorem dL_law_2604 : decode cL_law 2604 = .ok (.iload 5, 2) := dk_21 5 (dk_at dksL_law_102 18 rfl rfl)
theorem dL_law_2606 : decode cL_law 2606 = .ok (.ifCond .ne 15, 3) := dk_154 0 15 (dk_at dksL_law_102 20 rfl rfl)
theorem dL_law_2609 : decode cL_law 2609 = .ok (.aload_n 3, 1) := dk_45 (dk_at dksL_law_102 23 rfl rfl)
theorem dL_law_2610 : decode cL_law 2610 = .ok (.iconst 0, 1) := dk_3 (dk_at dksL_law_103 0 rfl rfl)
theorem dL_law_2611 : decode cL_law 2611 = .ok (.laload, 1) := dk_47 (dk_at dksL_law_103 1 rfl rfl)
theorem dL_law_2612 : decode cL_law 2612 = .ok (.iload 6, 2) := dk_21 6 (dk_at dksL_law_103 2 rfl rfl)
theorem dL_law_2614 : decode cL_law 2614 = .ok (.i2l, 1) := dk_133 (dk_at dksL_law_103 4 rfl rfl)
theorem dL_law_2615 : decode cL_law 2615 = .ok (.lcmp, 1) := dk_148 (dk_at dksL_law_103 5 rfl rfl)
theorem dL_law_2616 : decode cL_law 2616 = .ok (.ifCond .eq 5, 3) := dk_153 0 5 (dk_at dksL_law_103 6 rfl rfl)
theorem dL_law_2619 : decode cL_law 2619 = .ok (.iconst 0, 1) := dk_3 (dk_at dksL_law_103 9 rfl rfl)
theorem dL_law_2620 : decode cL_law 2620 = .ok (.ireturn, 1) := dk_172 (dk_at dksL_law_103 10 rfl rfl)
theorem dL_law_2621 : decode cL_law 2621 = .ok (.goto 155, 3) := dk_167 0 155 (dk_at dksL_law_103 11 rfl rfl)
theorem dL_law_2624 : decode cL_law 2624 = .ok (.aload_n 1, 1) := dk_43 (dk_at dksL_law_103 14 rfl rfl)
theorem dL_law_2625 : decode cL_law 2625 = .ok (.aload_n 0, 1) := dk_42 (dk_at dksL_law_103 15 rfl rfl)
theorem dL_law_2626 : decode cL_law 2626 = .ok (.iload 4, 2) := dk_21 4 (dk_at dksL_law_103 16 rfl rfl)
theorem dL_law_2628 : decode cL_law 2628 = .ok (.iconst 1, 1) := dk_4 (dk_at dksL_law_103 18 rfl rfl)
theorem dL_law_2629 : decode cL_law 2629 = .ok (.iadd, 1) := dk_96 (dk_at dksL_law_103 19 rfl rfl)
theorem dL_law_2630 : decode cL_law 2630 = .ok (.iaload, 1) := dk_46 (dk_at dksL_law_103 20 rfl rfl)
theorem dL_law_2631 : decode cL_law 2631 = .ok (.aload_n 3, 1) := dk_45 (dk_at dksL_law_103 21 rfl rfl)
theorem dL_law_2632 : decode cL_law 2632 = .ok (.invokestatic 309, 3) := dk_184 1 53 (dk_at dksL_law_104 0 rfl rfl)
theorem dL_law_2635 : decode cL_law 2635 = .ok (.istore 5, 2) := dk_54 5 (dk_at dksL_law_104 3 rfl rfl)
theorem dL_law_2637 : decode cL_law 2637 = .ok (.aload_n 2, 1) := dk_44 (dk_at dksL_law_104 5 rfl rfl)
theorem dL_law_2638 : decode cL_law 2638 = .ok (.aload_n 0, 1) := dk_42 (dk_at dksL_law_104 6 rfl rfl)
theorem dL_law_2639 : decode cL_law 2639 = .ok (.iload 4, 2) := dk_21 4 (dk_at dksL_law_104 7 rfl rfl)
theorem dL_law_2641 : decode cL_law 2641 = .ok (.iconst 1, 1) := dk_4 (dk_at dksL_law_104 9 rfl rfl)
theorem dL_law_2642 : decode cL_law 2642 = .ok (.iadd, 1) := dk_96 (dk_at dksL_law_104 10 rfl rfl)
theorem dL_law_2643 : decode cL_law 2643 = .ok (.iaload, 1) := dk_46 (dk_at dksL_law_104 11 rfl rfl)
theorem dL_law_2644 : decode cL_law 2644 = .ok (.invokevirtual 311, 3) := dk_182 1 55 (dk_at dksL_law_104 12 rfl rfl)
theorem dL_law_2647 : decode cL_law 2647 = .ok (.istore 6, 2) := dk_54 6 (dk_at dksL_law_104 15 rfl rfl)
theorem dL_law_2649 : decode cL_law 2649 = .ok (.aload_n 2, 1) := dk_44 (dk_at dksL_law_104 17 rfl rfl)
theorem dL_law_2650 : decode cL_law 2650 = .ok (.invokevirtual 145, 3) := dk_182 0 145 (dk_at dksL_law_104 18 rfl rfl)
theorem dL_law_2653 : decode cL_law 2653 = .ok (.iload 5, 2) := dk_21 5 (dk_at dksL_law_104 21 rfl rfl)
theorem dL_law_2655 : decode cL_law 2655 = .ok (.if_icmp .eq 5, 3) := dk_159 0 5 (dk_at dksL_law_105 0 rfl rfl)
theorem dL_law_2658 : decode cL_law 2658 = .ok (.iconst 0, 1) := dk_3 (dk_at dksL_law_105 3 rfl rfl)
theorem dL_law_2659 : decode cL_law 2659 = .ok (.ireturn, 1) := dk_172 (dk_at dksL_law_105 4 rfl rfl)
theorem dL_law_2660 : decode cL_law 2660 = .ok (.iload 5, 2) := dk_21 5 (dk_at dksL_law_105 5 rfl rfl)
theorem dL_law_2662 : decode cL_law 2662 = .ok (.ifCond .ne 15, 3) := dk_154 0 15 (dk_at dksL_law_105 7 rfl rfl)
theorem dL_law_2665 : decode cL_law 2665 = .ok (.aload_n 3, 1) := dk_45 (dk_at dksL_law_105 10 rfl rfl)
theorem dL_law_2666 : decode cL_law 2666 = .ok (.iconst 0, 1) := dk_3 (dk_at dksL_law_105 11 rfl rfl)
theorem dL_law_2667 : decode cL_law 2667 = .ok (.laload, 1) := dk_47 (dk_at dksL_law_105 12 rfl rfl)
theorem dL_law_2668 : decode cL_law 2668 = .ok (.iload 6, 2) := dk_21 6 (dk_at dksL_law_105 13 rfl rfl)
theorem dL_law_2670 : decode cL_law 2670 = .ok (.i2l, 1) := dk_133 (dk_at dksL_law_105 15 rfl rfl)
theorem dL_law_2671 : decode cL_law 2671 = .ok (.lcmp, 1) := dk_148 (dk_at dksL_law_105 16 rfl rfl)
theorem dL_law_2672 : decode cL_law 2672 = .ok (.ifCond .eq 5, 3) := dk_153 0 5 (dk_at dksL_law_105 17 rfl rfl)
theorem dL_law_2675 : decode cL_law 2675 = .ok (.iconst 0, 1) := dk_3 (dk_at dksL_law_105 20 rfl rfl)
theorem dL_law_2676 : decode cL_law 2676 = .ok (.ireturn, 1) := dk_172 (dk_at dksL_law_105 21 rfl rfl)
theorem dL_law_2677 : decode cL_law 2677 = .ok (.goto 99, 3) := dk_167 0 99 (dk_at dksL_law_106 0 rfl rfl)
theorem dL_law_2680 : decode cL_law 2680 = .ok (.aload_n 1, 1) := dk_43 (dk_at dksL_law_106 3 rfl rfl)
theorem dL_law_2681 : decode cL_law 2681 = .ok (.invokevirtual 312, 3) := dk_182 1 56 (dk_at dksL_law_106 4 rfl rfl)
theorem dL_law_2684 : decode cL_law 2684 = .ok (.fstore 5, 2) := dk_56 5 (dk_at dksL_law_106 7 rfl rfl)
theorem dL_law_2686 : decode cL_law 2686 = .ok (.aload_n 2, 1) := dk_44 (dk_at dksL_law_106 9 rfl rfl)
theorem dL_law_2687 : decode cL_law 2687 = .ok (.invokevirtual 316, 3) := dk_182 1 60 (dk_at dksL_law_106 10 rfl rfl)
theorem dL_law_2690 : decode cL_law 2690 = .ok (.fstore 6, 2) := dk_56 6 (dk_at dksL_law_106 13 rfl rfl)
theorem dL_law_2692 : decode cL_law 2692 = .ok (.fload 5, 2) := dk_23 5 (dk_at dksL_law_106 15 rfl rfl)
theorem dL_law_2694 : decode cL_law 2694 = .ok (.fload 6, 2) := dk_23 6 (dk_at dksL_law_106 17 rfl rfl)
theorem dL_law_2696 : decode cL_law 2696 = .ok (.fcmp .l, 1) := dk_149 (dk_at dksL_law_106 19 rfl rfl)
theorem dL_law_2697 : decode cL_law 2697 = .ok (.ifCond .eq 21, 3) := dk_153 0 21 (dk_at dksL_law_106 20 rfl rfl)
theorem dL_law_2700 : decode cL_law 2700 = .ok (.fload 5, 2) := dk_23 5 (dk_at dksL_law_107 0 rfl rfl)
theorem dL_law_2702 : decode cL_law 2702 = .ok (.fload 5, 2) := dk_23 5 (dk_at dksL_law_107 2 rfl rfl)
theorem dL_law_2704 : decode cL_law 2704 = .ok (.fcmp .l, 1) := dk_149 (dk_at dksL_law_107 4 rfl rfl)
theorem dL_law_2705 : decode cL_law 2705 = .ok (.ifCond .eq 11, 3) := dk_153 0 11 (dk_at dksL_law_107 5 rfl rfl)
theorem dL_law_2708 : decode cL_law 2708 = .ok (.fload 6, 2) := dk_23 6 (dk_at dksL_law_107 8 rfl rfl)
theorem dL_law_2710 : decode cL_law 2710 = .ok (.fload 6, 2) := dk_23 6 (dk_at dksL_law_107 10 rfl rfl)
theorem dL_law_2712 : decode cL_law 2712 = .ok (.fcmp .l, 1) := dk_149 (dk_at dksL_law_107 12 rfl rfl)
theorem dL_law_2713 : decode cL_law 2713 = .ok (.ifCond .ne 5, 3) := dk_154 0 5 (dk_at dksL_law_107 13 rfl rfl)
theorem dL_law_2716 : decode cL_law 2716 = .ok (.iconst 0, 1) := dk_3 (dk_at dksL_law_107 16 rfl rfl)
theorem dL_law_2717 : decode cL_law 2717 = .ok (.ireturn, 1) := dk_172 (dk_at dksL_law_107 17 rfl rfl)
theorem dL_law_2718 : decode cL_law 2718 = .ok (.goto 58, 3) := dk_167 0 58 (dk_at dksL_law_107 18 rfl rfl)
theorem dL_law_2721 : decode cL_law 2721 = .ok (.aload_n 1, 1) := dk_43 (dk_at dksL_law_107 21 rfl rfl)
theorem dL_law_2722 : decode cL_law 2722 = .ok (.invokevirtual 317, 3) := dk_182 1 61 (dk_at dksL_law_108 0 rfl rfl)
theorem dL_law_2725 : decode cL_law 2725 = .ok (.dstore 5, 2) := dk_57 5 (dk_at dksL_law_108 3 rfl rfl)
theorem dL_law_2727 : decode cL_law 2727 = .ok (.aload_n 2, 1) := dk_44 (dk_at dksL_law_108 5 rfl rfl)
theorem dL_law_2728 : decode cL_law 2728 = .ok (.invokevirtual 321, 3) := dk_182 1 65 (dk_at dksL_law_108 6 rfl rfl)
theorem dL_law_2731 : decode cL_law 2731 = .ok (.dstore 7, 2) := dk_57 7 (dk_at dksL_law_108 9 rfl rfl)
theorem dL_law_2733 : decode cL_law 2733 = .ok (.dload 5, 2) := dk_24 5 (dk_at dksL_law_108 11 rfl rfl)
theorem dL_law_2735 : decode cL_law 2735 = .ok (.dload 7, 2) := dk_24 7 (dk_at dksL_law_108 13 rfl rfl)
theorem dL_law_2737 : decode cL_law 2737 = .ok (.dcmp .l, 1) := dk_151 (dk_at dksL_law_108 15 rfl rfl)
theorem dL_law_2738 : decode cL_law 2738 = .ok (.ifCond .eq 21, 3) := dk_153 0 21 (dk_at dksL_law_108 16 rfl rfl)
theorem dL_law_2741 : decode cL_law 2741 = .ok (.dload 5, 2) := dk_24 5 (dk_at dksL_law_108 19 rfl rfl)
theorem dL_law_2743 : decode cL_law 2743 = .ok (.dload 5, 2) := dk_24 5 (dk_at dksL_law_108 21 rfl rfl)
theorem dL_law_2745 : decode cL_law 2745 = .ok (.dcmp .l, 1) := dk_151 (dk_at dksL_law_108 23 rfl rfl)
theorem dL_law_2746 : decode cL_law 2746 = .ok (.ifCond .eq 11, 3) := dk_153 0 11 (dk_at dksL_law_109 0 rfl rfl)
theorem dL_law_2749 : decode cL_law 2749 = .ok (.dload 7, 2) := dk_24 7 (dk_at dksL_law_109 3 rfl rfl)
theorem dL_law_2751 : decode cL_law 2751 = .ok (.dload 7, 2) := dk_24 7 (dk_at dksL_law_109 5 rfl rfl)
theorem dL_law_2753 : decode cL_law 2753 = .ok (.dcmp .l, 1) := dk_151 (dk_at dksL_law_109 7 rfl rfl)
theorem dL_law_2754 : decode cL_law 2754 = .ok (.ifCond .ne 5, 3) := dk_154 0 5 (dk_at dksL_law_109 8 rfl rfl)
theorem dL_law_2757 : decode cL_law 2757 = .ok (.iconst 0, 1) := dk_3 (dk_at dksL_law_109 11 rfl rfl)
theorem dL_law_2758 : decode cL_law 2758 = .ok (.ireturn, 1) := dk_172 (dk_at dksL_law_109 12 rfl rfl)
theorem dL_law_2759 : decode cL_law 2759 = .ok (.goto 17, 3) := dk_167 0 17 (dk_at dksL_law_109 13 rfl rfl)
theorem dL_law_2762 : decode cL_law 2762 = .ok (.aload_n 1, 1) := dk_43 (dk_at dksL_law_109 16 rfl rfl)
theorem dL_law_2763 : decode cL_law 2763 = .ok (.invokevirtual 322, 3) := dk_182 1 66 (dk_at dksL_law_109 17 rfl rfl)
theorem dL_law_2766 : decode cL_law 2766 = .ok (.aload_n 2, 1) := dk_44 (dk_at dksL_law_109 20 rfl rfl)
theorem dL_law_2767 : decode cL_law 2767 = .ok (.invokevirtual 326, 3) := dk_182 1 70 (dk_at dksL_law_109 21 rfl rfl)
theorem dL_law_2770 : decode cL_law 2770 = .ok (.lcmp, 1) := dk_148 (dk_at dksL_law_110 0 rfl rfl)
theorem dL_law_2771 : decode cL_law 2771 = .ok (.ifCond .eq 5, 3) := dk_153 0 5 (dk_at dksL_law_110 1 rfl rfl)
theorem dL_law_2774 : decode cL_law 2774 = .ok (.iconst 0, 1) := dk_3 (dk_at dksL_law_110 4 rfl rfl)
theorem dL_law_2775 : decode cL_law 2775 = .ok (.ireturn, 1) := dk_172 (dk_at dksL_law_110 5 rfl rfl)
theorem dL_law_2776 : decode cL_law 2776 = .ok (.iinc 4 5, 3) := dk_132 4 5 (dk_at dksL_law_110 6 rfl rfl)
theorem dL_law_2779 : decode cL_law 2779 = .ok (.goto (-2756), 3) := dk_167 245 60 (dk_at dksL_law_110 9 rfl rfl)
theorem dL_law_2782 : decode cL_law 2782 = .ok (.iconst 1, 1) := dk_4 (dk_at dksL_law_110 12 rfl rfl)
theorem dL_law_2783 : decode cL_law 2783 = .ok (.ireturn, 1) := dk_172 (dk_at dksL_law_110 13 rfl rfl)
