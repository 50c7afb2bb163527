/-! CourierClash$Vehicle -/
set_option maxRecDepth 100000
def RX4 : String := "CourierClash$Vehicle"
abbrev cX4_init : ByteArray := prog_14_method_1_code
def yX4_init : MethodName := ⟨RX4, "<init>", "()V"⟩
theorem dX4_init_0 : decode cX4_init 0 = .ok (.aload_n 0, 1) := by decide +kernel
theorem dX4_init_1 : decode cX4_init 1 = .ok (.invokespecial 1, 3) := by decide +kernel
theorem dX4_init_4 : decode cX4_init 4 = .ok (.return_, 1) := by decide +kernel
abbrev cX4_isVan : ByteArray := prog_14_method_3_code
def yX4_isVan : MethodName := ⟨RX4, "isVan", "()Z"⟩
def dkwX4_isVan_0 : List UInt8 := [42, 182, 0, 7, 4, 164, 0, 7, 4, 167, 0, 4, 3, 172]
abbrev dktX4_isVan_0 : List UInt8 := dkwX4_isVan_0 ++ []
theorem dksX4_isVan_0 : cX4_isVan.data.toList.drop 0 = dktX4_isVan_0 := by decide +kernel
theorem dX4_isVan_0 : decode cX4_isVan 0 = .ok (.aload_n 0, 1) := dk_42 (dk_at dksX4_isVan_0 0 rfl rfl)
theorem dX4_isVan_1 : decode cX4_isVan 1 = .ok (.invokevirtual 7, 3) := dk_182 0 7 (dk_at dksX4_isVan_0 1 rfl rfl)
theorem dX4_isVan_4 : decode cX4_isVan 4 = .ok (.iconst 1, 1) := dk_4 (dk_at dksX4_isVan_0 4 rfl rfl)
theorem dX4_isVan_5 : decode cX4_isVan 5 = .ok (.if_icmp .le 7, 3) := dk_164 0 7 (dk_at dksX4_isVan_0 5 rfl rfl)
theorem dX4_isVan_8 : decode cX4_isVan 8 = .ok (.iconst 1, 1) := dk_4 (dk_at dksX4_isVan_0 8 rfl rfl)
theorem dX4_isVan_9 : decode cX4_isVan 9 = .ok (.goto 4, 3) := dk_167 0 4 (dk_at dksX4_isVan_0 9 rfl rfl)
theorem dX4_isVan_12 : decode cX4_isVan 12 = .ok (.iconst 0, 1) := dk_3 (dk_at dksX4_isVan_0 12 rfl rfl)
theorem dX4_isVan_13 : decode cX4_isVan 13 = .ok (.ireturn, 1) := dk_172 (dk_at dksX4_isVan_0 13 rfl rfl)
theorem q102 : (Jvm.Cond.initialized "CourierClash$Vehicle") ∈ lw_all := lw_g (lw_at lw_m1 7 rfl) rfl
theorem q205 : (Jvm.Cond.instanceMethod ({ cls := "CourierClash$Vehicle", name := "<init>", desc := "()V" } : Jvm.MethodName)) ∈ lw_all := lw_g (lw_at lw_m1 110 rfl) rfl
theorem q206 : (Jvm.Cond.code ({ cls := "CourierClash$Vehicle", name := "<init>", desc := "()V" } : Jvm.MethodName) prog_14_method_1_code (1 : Nat) (Option.none : Option Jvm.ClassFile.FieldType)) ∈ lw_all := lw_g (lw_at lw_m1 111 rfl) rfl
theorem q207 : (Jvm.Cond.methodLink "CourierClash$Vehicle" (1 : Nat) ({ cls := "java/lang/Object", name := "<init>", desc := "()V" } : Jvm.MethodName)) ∈ lw_all := lw_g (lw_at lw_m1 112 rfl) rfl
theorem q1613 : (Jvm.Cond.instanceMethod ({ cls := "CourierClash$Vehicle", name := "isVan", desc := "()Z" } : Jvm.MethodName)) ∈ lw_all := lw_g (lw_at lw_m7 78 rfl) rfl
theorem q1614 : (Jvm.Cond.sameMethod "CourierClash$Vehicle" "CourierClash$Vehicle" "isVan" "()Z") ∈ lw_all := lw_g (lw_at lw_m7 79 rfl) rfl
theorem q1617 : (Jvm.Cond.code ({ cls := "CourierClash$Vehicle", name := "isVan", desc := "()Z" } : Jvm.MethodName) prog_14_method_3_code (1 : Nat) (Option.some Jvm.ClassFile.FieldType.boolean)) ∈ lw_all := lw_g (lw_at lw_m7 82 rfl) rfl
theorem q1618 : (Jvm.Cond.methodLink "CourierClash$Vehicle" (7 : Nat) ({ cls := "CourierClash$Vehicle", name := "times", desc := "()I" } : Jvm.MethodName)) ∈ lw_all := lw_g (lw_at lw_m7 83 rfl) rfl
theorem q1619 : (Jvm.Cond.declares ({ cls := "CourierClash$Vehicle", name := "times", desc := "()I" } : Jvm.MethodName)) ∈ lw_tbl := lw_at lw_m7 84 rfl
theorem q1620 : (Jvm.Cond.sameMethod "CourierClash$Vehicle" "CourierClash$Vehicle" "times" "()I") ∈ lw_all := lw_g (lw_at lw_m7 85 rfl) rfl
theorem q2818 : (Jvm.Cond.castable "CourierClash$Vehicle" "java/lang/Object") ∈ lw_tbl := lw_at lw_m12 83 rfl

/-! CourierClash$Bicycle -/
set_option maxRecDepth 100000
def RX5 : String := "CourierClash$Bicycle"
abbrev cX5_init : ByteArray := prog_5_method_1_code
def yX5_init : MethodName := ⟨RX5, "<init>", "()V"⟩
theorem dX5_init_0 : decode cX5_init 0 = .ok (.aload_n 0, 1) := by decide +kernel
theorem dX5_init_1 : decode cX5_init 1 = .ok (.invokespecial 1, 3) := by decide +kernel
theorem dX5_init_4 : decode cX5_init 4 = .ok (.return_, 1) := by decide +kernel
abbrev cX5_times : ByteArray := prog_5_method_2_code
def yX5_times : MethodName := ⟨RX5, "times", "()I"⟩
theorem dX5_times_0 : decode cX5_times 0 = .ok (.iconst 1, 1) := by decide +kernel
theorem dX5_times_1 : decode cX5_times 1 = .ok (.ireturn, 1) := by decide +kernel
theorem q103 : (Jvm.Cond.initialized "CourierClash$Bicycle") ∈ lw_all := lw_g (lw_at lw_m1 8 rfl) rfl
theorem q200 : (Jvm.Cond.instantiable "CourierClash$Bicycle" (0 : Nat)) ∈ lw_all := lw_g (lw_at lw_m1 105 rfl) rfl
theorem q202 : (Jvm.Cond.instanceMethod ({ cls := "CourierClash$Bicycle", name := "<init>", desc := "()V" } : Jvm.MethodName)) ∈ lw_all := lw_g (lw_at lw_m1 107 rfl) rfl
theorem q203 : (Jvm.Cond.code ({ cls := "CourierClash$Bicycle", name := "<init>", desc := "()V" } : Jvm.MethodName) prog_5_method_1_code (1 : Nat) (Option.none : Option Jvm.ClassFile.FieldType)) ∈ lw_all := lw_g (lw_at lw_m1 108 rfl) rfl
theorem q204 : (Jvm.Cond.methodLinkNest "CourierClash$Bicycle" (1 : Nat) ({ cls := "CourierClash$Vehicle", name := "<init>", desc := "()V" } : Jvm.MethodName) "CourierClash") ∈ lw_tbl := lw_at lw_m1 109 rfl
theorem q208 : (Jvm.Cond.superclass "CourierClash$Bicycle" "CourierClash$Vehicle") ∈ lw_all := lw_g (lw_at lw_m1 113 rfl) rfl
theorem q1317 : (Jvm.Cond.selects "CourierClash$Bicycle" ({ cls := "java/lang/Object", name := "getClass", desc := "()Ljava/lang/Class;" } : Jvm.MethodName) ({ cls := "java/lang/Object", name := "getClass", desc := "()Ljava/lang/Class;" } : Jvm.MethodName)) ∈ lw_all := lw_g (lw_at lw_m6 22 rfl) rfl
theorem q1615 : (Jvm.Cond.selects "CourierClash$Bicycle" ({ cls := "CourierClash$Vehicle", name := "isVan", desc := "()Z" } : Jvm.MethodName) ({ cls := "CourierClash$Vehicle", name := "isVan", desc := "()Z" } : Jvm.MethodName)) ∈ lw_all := lw_g (lw_at lw_m7 80 rfl) rfl
theorem q1621 : (Jvm.Cond.selects "CourierClash$Bicycle" ({ cls := "CourierClash$Vehicle", name := "times", desc := "()I" } : Jvm.MethodName) ({ cls := "CourierClash$Bicycle", name := "times", desc := "()I" } : Jvm.MethodName)) ∈ lw_all := lw_g (lw_at lw_m7 86 rfl) rfl
theorem q1622 : (Jvm.Cond.instanceMethod ({ cls := "CourierClash$Bicycle", name := "times", desc := "()I" } : Jvm.MethodName)) ∈ lw_all := lw_g (lw_at lw_m7 87 rfl) rfl
theorem q1623 : (Jvm.Cond.code ({ cls := "CourierClash$Bicycle", name := "times", desc := "()I" } : Jvm.MethodName) prog_5_method_2_code (1 : Nat) (Option.some Jvm.ClassFile.FieldType.int)) ∈ lw_all := lw_g (lw_at lw_m7 88 rfl) rfl
theorem q2817 : (Jvm.Cond.castable "CourierClash$Bicycle" "java/lang/Object") ∈ lw_tbl := lw_at lw_m12 82 rfl
theorem q2849 : (Jvm.Cond.castable "CourierClash$Bicycle" "CourierClash$Vehicle") ∈ lw_tbl := lw_at lw_m12 114 rfl

/-! CourierClash$Van -/
set_option maxRecDepth 100000
def RX12 : String := "CourierClash$Van"
abbrev cX12_times : ByteArray := prog_13_method_2_code
def yX12_times : MethodName := ⟨RX12, "times", "()I"⟩
theorem dX12_times_0 : decode cX12_times 0 = .ok (.iconst 2, 1) := by decide +kernel
theorem dX12_times_1 : decode cX12_times 1 = .ok (.ireturn, 1) := by decide +kernel
abbrev cX12_init : ByteArray := prog_13_method_1_code
def yX12_init : MethodName := ⟨RX12, "<init>", "()V"⟩
theorem dX12_init_0 : decode cX12_init 0 = .ok (.aload_n 0, 1) := by decide +kernel
theorem dX12_init_1 : decode cX12_init 1 = .ok (.invokespecial 1, 3) := by decide +kernel
theorem dX12_init_4 : decode cX12_init 4 = .ok (.return_, 1) := by decide +kernel
theorem q141 : (Jvm.Cond.initialized "CourierClash$Van") ∈ lw_all := lw_g (lw_at lw_m1 46 rfl) rfl
theorem q1325 : (Jvm.Cond.selects "CourierClash$Van" ({ cls := "java/lang/Object", name := "getClass", desc := "()Ljava/lang/Class;" } : Jvm.MethodName) ({ cls := "java/lang/Object", name := "getClass", desc := "()Ljava/lang/Class;" } : Jvm.MethodName)) ∈ lw_all := lw_g (lw_at lw_m6 30 rfl) rfl
theorem q1616 : (Jvm.Cond.selects "CourierClash$Van" ({ cls := "CourierClash$Vehicle", name := "isVan", desc := "()Z" } : Jvm.MethodName) ({ cls := "CourierClash$Vehicle", name := "isVan", desc := "()Z" } : Jvm.MethodName)) ∈ lw_all := lw_g (lw_at lw_m7 81 rfl) rfl
theorem q1624 : (Jvm.Cond.selects "CourierClash$Van" ({ cls := "CourierClash$Vehicle", name := "times", desc := "()I" } : Jvm.MethodName) ({ cls := "CourierClash$Van", name := "times", desc := "()I" } : Jvm.MethodName)) ∈ lw_all := lw_g (lw_at lw_m7 89 rfl) rfl
theorem q1625 : (Jvm.Cond.instanceMethod ({ cls := "CourierClash$Van", name := "times", desc := "()I" } : Jvm.MethodName)) ∈ lw_all := lw_g (lw_at lw_m7 90 rfl) rfl
theorem q1626 : (Jvm.Cond.code ({ cls := "CourierClash$Van", name := "times", desc := "()I" } : Jvm.MethodName) prog_13_method_2_code (1 : Nat) (Option.some Jvm.ClassFile.FieldType.int)) ∈ lw_all := lw_g (lw_at lw_m7 91 rfl) rfl
theorem q1868 : (Jvm.Cond.instantiable "CourierClash$Van" (0 : Nat)) ∈ lw_all := lw_g (lw_at lw_m8 93 rfl) rfl
theorem q1870 : (Jvm.Cond.instanceMethod ({ cls := "CourierClash$Van", name := "<init>", desc := "()V" } : Jvm.MethodName)) ∈ lw_all := lw_g (lw_at lw_m8 95 rfl) rfl
theorem q1871 : (Jvm.Cond.code ({ cls := "CourierClash$Van", name := "<init>", desc := "()V" } : Jvm.MethodName) prog_13_method_1_code (1 : Nat) (Option.none : Option Jvm.ClassFile.FieldType)) ∈ lw_all := lw_g (lw_at lw_m8 96 rfl) rfl
theorem q1872 : (Jvm.Cond.methodLinkNest "CourierClash$Van" (1 : Nat) ({ cls := "CourierClash$Vehicle", name := "<init>", desc := "()V" } : Jvm.MethodName) "CourierClash") ∈ lw_tbl := lw_at lw_m8 97 rfl
theorem q1873 : (Jvm.Cond.superclass "CourierClash$Van" "CourierClash$Vehicle") ∈ lw_all := lw_g (lw_at lw_m8 98 rfl) rfl
theorem q2839 : (Jvm.Cond.castable "CourierClash$Van" "java/lang/Object") ∈ lw_tbl := lw_at lw_m12 104 rfl
theorem q2850 : (Jvm.Cond.castable "CourierClash$Van" "CourierClash$Vehicle") ∈ lw_tbl := lw_at lw_m12 115 rfl

/-! CourierClash$Street -/
set_option maxRecDepth 100000
def RX10 : String := "CourierClash$Street"
def TX10 : u_T := fun k => match k with
  | 0 => ("CourierClash$Street", "from", "I", true)
  | 1 => ("CourierClash$Street", "to", "I", true)
  | 2 => ("CourierClash$Street", "isNarrow", "Z", true)
  | _ => ("CourierClash$Street", "isOpen", "Z", false)
def tyX10 : Nat → FieldType := fun k => match k with
  | 0 => .int
  | 1 => .int
  | 2 => .boolean
  | _ => .boolean
abbrev wsX100 : List Cond := u_ws RX10 TX10 4
theorem nmX10 : ∀ a, a < 4 → ∀ b, b < 4 → a ≠ b → (TX10 a).2.1 ≠ (TX10 b).2.1 := by decide +kernel
theorem tyX10_ok : ∀ k, k < 4 → parseFieldDescriptor (TX10 k).2.2.1 = some (tyX10 k) := by decide +kernel
abbrev cX10_again : ByteArray := prog_12_method_2_code
def yX10_again : MethodName := ⟨RX10, "again", "()LCourierClash$Street;"⟩
def dkwX10_again_1 : List UInt8 := [180, 0, 7, 181, 0, 7, 43, 176]
abbrev dktX10_again_1 : List UInt8 := dkwX10_again_1 ++ []
def dkwX10_again_0 : List UInt8 := [187, 0, 8, 89, 42, 180, 0, 13, 42, 180, 0, 17, 42, 180, 0, 20, 183, 0, 23, 76, 43, 42]
abbrev dktX10_again_0 : List UInt8 := dkwX10_again_0 ++ dktX10_again_1
theorem dksX10_again_0 : cX10_again.data.toList.drop 0 = dktX10_again_0 := by decide +kernel
theorem dksX10_again_1 : cX10_again.data.toList.drop 22 = dktX10_again_1 := dk_seg dksX10_again_0 22 rfl rfl
theorem dX10_again_0 : decode cX10_again 0 = .ok (.new 8, 3) := dk_187 0 8 (dk_at dksX10_again_0 0 rfl rfl)
theorem dX10_again_3 : decode cX10_again 3 = .ok (.dup, 1) := dk_89 (dk_at dksX10_again_0 3 rfl rfl)
theorem dX10_again_4 : decode cX10_again 4 = .ok (.aload_n 0, 1) := dk_42 (dk_at dksX10_again_0 4 rfl rfl)
theorem dX10_again_5 : decode cX10_again 5 = .ok (.getfield 13, 3) := dk_180 0 13 (dk_at dksX10_again_0 5 rfl rfl)
theorem dX10_again_8 : decode cX10_again 8 = .ok (.aload_n 0, 1) := dk_42 (dk_at dksX10_again_0 8 rfl rfl)
theorem dX10_again_9 : decode cX10_again 9 = .ok (.getfield 17, 3) := dk_180 0 17 (dk_at dksX10_again_0 9 rfl rfl)
theorem dX10_again_12 : decode cX10_again 12 = .ok (.aload_n 0, 1) := dk_42 (dk_at dksX10_again_0 12 rfl rfl)
theorem dX10_again_13 : decode cX10_again 13 = .ok (.getfield 20, 3) := dk_180 0 20 (dk_at dksX10_again_0 13 rfl rfl)
theorem dX10_again_16 : decode cX10_again 16 = .ok (.invokespecial 23, 3) := dk_183 0 23 (dk_at dksX10_again_0 16 rfl rfl)
theorem dX10_again_19 : decode cX10_again 19 = .ok (.astore_n 1, 1) := dk_76 (dk_at dksX10_again_0 19 rfl rfl)
theorem dX10_again_20 : decode cX10_again 20 = .ok (.aload_n 1, 1) := dk_43 (dk_at dksX10_again_0 20 rfl rfl)
theorem dX10_again_21 : decode cX10_again 21 = .ok (.aload_n 0, 1) := dk_42 (dk_at dksX10_again_0 21 rfl rfl)
theorem dX10_again_22 : decode cX10_again 22 = .ok (.getfield 7, 3) := dk_180 0 7 (dk_at dksX10_again_1 0 rfl rfl)
theorem dX10_again_25 : decode cX10_again 25 = .ok (.putfield 7, 3) := dk_181 0 7 (dk_at dksX10_again_1 3 rfl rfl)
theorem dX10_again_28 : decode cX10_again 28 = .ok (.aload_n 1, 1) := dk_43 (dk_at dksX10_again_1 6 rfl rfl)
theorem dX10_again_29 : decode cX10_again 29 = .ok (.areturn, 1) := dk_176 (dk_at dksX10_again_1 7 rfl rfl)
abbrev cX10_init : ByteArray := prog_12_method_1_code
def yX10_init : MethodName := ⟨RX10, "<init>", "(IIZ)V"⟩
def dkwX10_init_1 : List UInt8 := [177]
abbrev dktX10_init_1 : List UInt8 := dkwX10_init_1 ++ []
def dkwX10_init_0 : List UInt8 := [42, 183, 0, 1, 42, 4, 181, 0, 7, 42, 27, 181, 0, 13, 42, 28, 181, 0, 17, 42, 29, 181, 0, 20]
abbrev dktX10_init_0 : List UInt8 := dkwX10_init_0 ++ dktX10_init_1
theorem dksX10_init_0 : cX10_init.data.toList.drop 0 = dktX10_init_0 := by decide +kernel
theorem dksX10_init_1 : cX10_init.data.toList.drop 24 = dktX10_init_1 := dk_seg dksX10_init_0 24 rfl rfl
theorem dX10_init_0 : decode cX10_init 0 = .ok (.aload_n 0, 1) := dk_42 (dk_at dksX10_init_0 0 rfl rfl)
theorem dX10_init_1 : decode cX10_init 1 = .ok (.invokespecial 1, 3) := dk_183 0 1 (dk_at dksX10_init_0 1 rfl rfl)
theorem dX10_init_4 : decode cX10_init 4 = .ok (.aload_n 0, 1) := dk_42 (dk_at dksX10_init_0 4 rfl rfl)
theorem dX10_init_5 : decode cX10_init 5 = .ok (.iconst 1, 1) := dk_4 (dk_at dksX10_init_0 5 rfl rfl)
theorem dX10_init_6 : decode cX10_init 6 = .ok (.putfield 7, 3) := dk_181 0 7 (dk_at dksX10_init_0 6 rfl rfl)
theorem dX10_init_9 : decode cX10_init 9 = .ok (.aload_n 0, 1) := dk_42 (dk_at dksX10_init_0 9 rfl rfl)
theorem dX10_init_10 : decode cX10_init 10 = .ok (.iload_n 1, 1) := dk_27 (dk_at dksX10_init_0 10 rfl rfl)
theorem dX10_init_11 : decode cX10_init 11 = .ok (.putfield 13, 3) := dk_181 0 13 (dk_at dksX10_init_0 11 rfl rfl)
theorem dX10_init_14 : decode cX10_init 14 = .ok (.aload_n 0, 1) := dk_42 (dk_at dksX10_init_0 14 rfl rfl)
theorem dX10_init_15 : decode cX10_init 15 = .ok (.iload_n 2, 1) := dk_28 (dk_at dksX10_init_0 15 rfl rfl)
theorem dX10_init_16 : decode cX10_init 16 = .ok (.putfield 17, 3) := dk_181 0 17 (dk_at dksX10_init_0 16 rfl rfl)
theorem dX10_init_19 : decode cX10_init 19 = .ok (.aload_n 0, 1) := dk_42 (dk_at dksX10_init_0 19 rfl rfl)
theorem dX10_init_20 : decode cX10_init 20 = .ok (.iload_n 3, 1) := dk_29 (dk_at dksX10_init_0 20 rfl rfl)
theorem dX10_init_21 : decode cX10_init 21 = .ok (.putfield 20, 3) := dk_181 0 20 (dk_at dksX10_init_0 21 rfl rfl)
theorem dX10_init_24 : decode cX10_init 24 = .ok (.return_, 1) := dk_177 (dk_at dksX10_init_1 0 rfl rfl)
abbrev cX10_leads : ByteArray := prog_12_method_4_code
def yX10_leads : MethodName := ⟨RX10, "leads", "(LCourierClash$Vehicle;)Z"⟩
def dkwX10_leads_1 : List UInt8 := [167, 0, 4, 3, 172]
abbrev dktX10_leads_1 : List UInt8 := dkwX10_leads_1 ++ []
def dkwX10_leads_0 : List UInt8 := [42, 180, 0, 7, 153, 0, 21, 42, 180, 0, 20, 153, 0, 10, 43, 182, 0, 32, 154, 0, 7, 4]
abbrev dktX10_leads_0 : List UInt8 := dkwX10_leads_0 ++ dktX10_leads_1
theorem dksX10_leads_0 : cX10_leads.data.toList.drop 0 = dktX10_leads_0 := by decide +kernel
theorem dksX10_leads_1 : cX10_leads.data.toList.drop 22 = dktX10_leads_1 := dk_seg dksX10_leads_0 22 rfl rfl
theorem dX10_leads_0 : decode cX10_leads 0 = .ok (.aload_n 0, 1) := dk_42 (dk_at dksX10_leads_0 0 rfl rfl)
theorem dX10_leads_1 : decode cX10_leads 1 = .ok (.getfield 7, 3) := dk_180 0 7 (dk_at dksX10_leads_0 1 rfl rfl)
theorem dX10_leads_4 : decode cX10_leads 4 = .ok (.ifCond .eq 21, 3) := dk_153 0 21 (dk_at dksX10_leads_0 4 rfl rfl)
theorem dX10_leads_7 : decode cX10_leads 7 = .ok (.aload_n 0, 1) := dk_42 (dk_at dksX10_leads_0 7 rfl rfl)
theorem dX10_leads_8 : decode cX10_leads 8 = .ok (.getfield 20, 3) := dk_180 0 20 (dk_at dksX10_leads_0 8 rfl rfl)
theorem dX10_leads_11 : decode cX10_leads 11 = .ok (.ifCond .eq 10, 3) := dk_153 0 10 (dk_at dksX10_leads_0 11 rfl rfl)
theorem dX10_leads_14 : decode cX10_leads 14 = .ok (.aload_n 1, 1) := dk_43 (dk_at dksX10_leads_0 14 rfl rfl)
theorem dX10_leads_15 : decode cX10_leads 15 = .ok (.invokevirtual 32, 3) := dk_182 0 32 (dk_at dksX10_leads_0 15 rfl rfl)
theorem dX10_leads_18 : decode cX10_leads 18 = .ok (.ifCond .ne 7, 3) := dk_154 0 7 (dk_at dksX10_leads_0 18 rfl rfl)
theorem dX10_leads_21 : decode cX10_leads 21 = .ok (.iconst 1, 1) := dk_4 (dk_at dksX10_leads_0 21 rfl rfl)
theorem dX10_leads_22 : decode cX10_leads 22 = .ok (.goto 4, 3) := dk_167 0 4 (dk_at dksX10_leads_1 0 rfl rfl)
theorem dX10_leads_25 : decode cX10_leads 25 = .ok (.iconst 0, 1) := dk_3 (dk_at dksX10_leads_1 3 rfl rfl)
theorem dX10_leads_26 : decode cX10_leads 26 = .ok (.ireturn, 1) := dk_172 (dk_at dksX10_leads_1 4 rfl rfl)
abbrev cX10_takes : ByteArray := prog_12_method_3_code
def yX10_takes : MethodName := ⟨RX10, "takes", "(LCourierClash$Vehicle;)Z"⟩
def dkwX10_takes_1 : List UInt8 := [172, 78, 3, 172]
abbrev dktX10_takes_1 : List UInt8 := dkwX10_takes_1 ++ []
def dkwX10_takes_0 : List UInt8 := [42, 180, 0, 20, 153, 0, 10, 4, 189, 0, 26, 167, 0, 7, 4, 189, 0, 28, 77, 44, 3, 43, 83, 4]
abbrev dktX10_takes_0 : List UInt8 := dkwX10_takes_0 ++ dktX10_takes_1
theorem dksX10_takes_0 : cX10_takes.data.toList.drop 0 = dktX10_takes_0 := by decide +kernel
theorem dksX10_takes_1 : cX10_takes.data.toList.drop 24 = dktX10_takes_1 := dk_seg dksX10_takes_0 24 rfl rfl
theorem dX10_takes_0 : decode cX10_takes 0 = .ok (.aload_n 0, 1) := dk_42 (dk_at dksX10_takes_0 0 rfl rfl)
theorem dX10_takes_1 : decode cX10_takes 1 = .ok (.getfield 20, 3) := dk_180 0 20 (dk_at dksX10_takes_0 1 rfl rfl)
theorem dX10_takes_4 : decode cX10_takes 4 = .ok (.ifCond .eq 10, 3) := dk_153 0 10 (dk_at dksX10_takes_0 4 rfl rfl)
theorem dX10_takes_7 : decode cX10_takes 7 = .ok (.iconst 1, 1) := dk_4 (dk_at dksX10_takes_0 7 rfl rfl)
theorem dX10_takes_8 : decode cX10_takes 8 = .ok (.anewarray 26, 3) := dk_189 0 26 (dk_at dksX10_takes_0 8 rfl rfl)
theorem dX10_takes_11 : decode cX10_takes 11 = .ok (.goto 7, 3) := dk_167 0 7 (dk_at dksX10_takes_0 11 rfl rfl)
theorem dX10_takes_14 : decode cX10_takes 14 = .ok (.iconst 1, 1) := dk_4 (dk_at dksX10_takes_0 14 rfl rfl)
theorem dX10_takes_15 : decode cX10_takes 15 = .ok (.anewarray 28, 3) := dk_189 0 28 (dk_at dksX10_takes_0 15 rfl rfl)
theorem dX10_takes_18 : decode cX10_takes 18 = .ok (.astore_n 2, 1) := dk_77 (dk_at dksX10_takes_0 18 rfl rfl)
theorem dX10_takes_19 : decode cX10_takes 19 = .ok (.aload_n 2, 1) := dk_44 (dk_at dksX10_takes_0 19 rfl rfl)
theorem dX10_takes_20 : decode cX10_takes 20 = .ok (.iconst 0, 1) := dk_3 (dk_at dksX10_takes_0 20 rfl rfl)
theorem dX10_takes_21 : decode cX10_takes 21 = .ok (.aload_n 1, 1) := dk_43 (dk_at dksX10_takes_0 21 rfl rfl)
theorem dX10_takes_22 : decode cX10_takes 22 = .ok (.aastore, 1) := dk_83 (dk_at dksX10_takes_0 22 rfl rfl)
theorem dX10_takes_23 : decode cX10_takes 23 = .ok (.iconst 1, 1) := dk_4 (dk_at dksX10_takes_0 23 rfl rfl)
theorem dX10_takes_24 : decode cX10_takes 24 = .ok (.ireturn, 1) := dk_172 (dk_at dksX10_takes_1 0 rfl rfl)
theorem dX10_takes_25 : decode cX10_takes 25 = .ok (.astore_n 3, 1) := dk_78 (dk_at dksX10_takes_1 1 rfl rfl)
theorem dX10_takes_26 : decode cX10_takes 26 = .ok (.iconst 0, 1) := dk_3 (dk_at dksX10_takes_1 2 rfl rfl)
theorem dX10_takes_27 : decode cX10_takes 27 = .ok (.ireturn, 1) := dk_172 (dk_at dksX10_takes_1 3 rfl rfl)
theorem q134 : (Jvm.Cond.initialized "CourierClash$Street") ∈ lw_all := lw_g (lw_at lw_m1 39 rfl) rfl
theorem q1260 : (Jvm.Cond.instanceMethod ({ cls := "CourierClash$Street", name := "again", desc := "()LCourierClash$Street;" } : Jvm.MethodName)) ∈ lw_all := lw_g (lw_at lw_m5 205 rfl) rfl
theorem q1261 : (Jvm.Cond.selects "CourierClash$Street" ({ cls := "CourierClash$Street", name := "again", desc := "()LCourierClash$Street;" } : Jvm.MethodName) ({ cls := "CourierClash$Street", name := "again", desc := "()LCourierClash$Street;" } : Jvm.MethodName)) ∈ lw_all := lw_g (lw_at lw_m5 206 rfl) rfl
theorem q1262 : (Jvm.Cond.code ({ cls := "CourierClash$Street", name := "again", desc := "()LCourierClash$Street;" } : Jvm.MethodName) prog_12_method_2_code (2 : Nat) (Option.some (Jvm.ClassFile.FieldType.object "CourierClash$Street"))) ∈ lw_all := lw_g (lw_at lw_m5 207 rfl) rfl
theorem q1263 : (Jvm.Cond.classLink "CourierClash$Street" (8 : Nat) "CourierClash$Street") ∈ lw_all := lw_g (lw_at lw_m5 208 rfl) rfl
theorem q1264 : (Jvm.Cond.instantiable "CourierClash$Street" (4 : Nat)) ∈ lw_all := lw_g (lw_at lw_m5 209 rfl) rfl
theorem q1265 : (Jvm.Cond.methodLink "CourierClash$Street" (23 : Nat) ({ cls := "CourierClash$Street", name := "<init>", desc := "(IIZ)V" } : Jvm.MethodName)) ∈ lw_all := lw_g (lw_at lw_m5 210 rfl) rfl
theorem q1266 : (Jvm.Cond.instanceMethod ({ cls := "CourierClash$Street", name := "<init>", desc := "(IIZ)V" } : Jvm.MethodName)) ∈ lw_all := lw_g (lw_at lw_m5 211 rfl) rfl
theorem q1267 : (Jvm.Cond.code ({ cls := "CourierClash$Street", name := "<init>", desc := "(IIZ)V" } : Jvm.MethodName) prog_12_method_1_code (4 : Nat) (Option.none : Option Jvm.ClassFile.FieldType)) ∈ lw_all := lw_g (lw_at lw_m5 212 rfl) rfl
theorem q1268 : (Jvm.Cond.methodLink "CourierClash$Street" (1 : Nat) ({ cls := "java/lang/Object", name := "<init>", desc := "()V" } : Jvm.MethodName)) ∈ lw_all := lw_g (lw_at lw_m5 213 rfl) rfl
theorem q1269 : (Jvm.Cond.fieldLink "CourierClash$Street" (13 : Nat) "CourierClash$Street" "from" "I") ∈ lw_all := lw_g (lw_at lw_m5 214 rfl) rfl
theorem q1273 : (Jvm.Cond.fieldLink "CourierClash$Street" (17 : Nat) "CourierClash$Street" "to" "I") ∈ lw_all := lw_g (lw_at lw_m5 218 rfl) rfl
theorem q1277 : (Jvm.Cond.fieldLink "CourierClash$Street" (20 : Nat) "CourierClash$Street" "isNarrow" "Z") ∈ lw_all := lw_g (lw_at lw_m5 222 rfl) rfl
theorem q1278 : (Jvm.Cond.fieldLink "CourierClash$Street" (7 : Nat) "CourierClash$Street" "isOpen" "Z") ∈ lw_all := lw_g (lw_at lw_m5 223 rfl) rfl
theorem q1281 : (Jvm.Cond.laysFinal "CourierClash$Street" "CourierClash$Street" "from" "I") ∈ lw_all := lw_g (lw_at lw_m5 226 rfl) rfl
theorem q1282 : (Jvm.Cond.soleField "CourierClash$Street" "from") ∈ lw_all := lw_g (lw_at lw_m5 227 rfl) rfl
theorem q1283 : (Jvm.Cond.laysFinal "CourierClash$Street" "CourierClash$Street" "to" "I") ∈ lw_all := lw_g (lw_at lw_m5 228 rfl) rfl
theorem q1284 : (Jvm.Cond.soleField "CourierClash$Street" "to") ∈ lw_all := lw_g (lw_at lw_m5 229 rfl) rfl
theorem q1285 : (Jvm.Cond.laysFinal "CourierClash$Street" "CourierClash$Street" "isNarrow" "Z") ∈ lw_all := lw_g (lw_at lw_m5 230 rfl) rfl
theorem q1286 : (Jvm.Cond.soleField "CourierClash$Street" "isNarrow") ∈ lw_all := lw_g (lw_at lw_m5 231 rfl) rfl
theorem q1287 : (Jvm.Cond.lays "CourierClash$Street" "CourierClash$Street" "isOpen" "Z") ∈ lw_all := lw_g (lw_at lw_m5 232 rfl) rfl
theorem q1288 : (Jvm.Cond.soleField "CourierClash$Street" "isOpen") ∈ lw_all := lw_g (lw_at lw_m5 233 rfl) rfl
theorem q1289 : (Jvm.Cond.superclass "CourierClash$Street" "java/lang/Object") ∈ lw_all := lw_g (lw_at lw_m5 234 rfl) rfl
theorem q1324 : (Jvm.Cond.selects "CourierClash$Street" ({ cls := "java/lang/Object", name := "getClass", desc := "()Ljava/lang/Class;" } : Jvm.MethodName) ({ cls := "java/lang/Object", name := "getClass", desc := "()Ljava/lang/Class;" } : Jvm.MethodName)) ∈ lw_all := lw_g (lw_at lw_m6 29 rfl) rfl
theorem q1648 : (Jvm.Cond.instanceMethod ({ cls := "CourierClash$Street", name := "leads", desc := "(LCourierClash$Vehicle;)Z" } : Jvm.MethodName)) ∈ lw_all := lw_g (lw_at lw_m7 113 rfl) rfl
theorem q1649 : (Jvm.Cond.selects "CourierClash$Street" ({ cls := "CourierClash$Street", name := "leads", desc := "(LCourierClash$Vehicle;)Z" } : Jvm.MethodName) ({ cls := "CourierClash$Street", name := "leads", desc := "(LCourierClash$Vehicle;)Z" } : Jvm.MethodName)) ∈ lw_all := lw_g (lw_at lw_m7 114 rfl) rfl
theorem q1650 : (Jvm.Cond.code ({ cls := "CourierClash$Street", name := "leads", desc := "(LCourierClash$Vehicle;)Z" } : Jvm.MethodName) prog_12_method_4_code (2 : Nat) (Option.some Jvm.ClassFile.FieldType.boolean)) ∈ lw_all := lw_g (lw_at lw_m7 115 rfl) rfl
theorem q1651 : (Jvm.Cond.methodLink "CourierClash$Street" (32 : Nat) ({ cls := "CourierClash$Vehicle", name := "isVan", desc := "()Z" } : Jvm.MethodName)) ∈ lw_all := lw_g (lw_at lw_m7 116 rfl) rfl
theorem q1875 : (Jvm.Cond.instanceMethod ({ cls := "CourierClash$Street", name := "takes", desc := "(LCourierClash$Vehicle;)Z" } : Jvm.MethodName)) ∈ lw_all := lw_g (lw_at lw_m8 100 rfl) rfl
theorem q1876 : (Jvm.Cond.selects "CourierClash$Street" ({ cls := "CourierClash$Street", name := "takes", desc := "(LCourierClash$Vehicle;)Z" } : Jvm.MethodName) ({ cls := "CourierClash$Street", name := "takes", desc := "(LCourierClash$Vehicle;)Z" } : Jvm.MethodName)) ∈ lw_all := lw_g (lw_at lw_m8 101 rfl) rfl
theorem q1877 : (Jvm.Cond.codeWith ({ cls := "CourierClash$Street", name := "takes", desc := "(LCourierClash$Vehicle;)Z" } : Jvm.MethodName) prog_12_method_3_code (4 : Nat) (Option.some Jvm.ClassFile.FieldType.boolean) [((19 : Nat), (24 : Nat), (25 : Nat), (30 : Nat))]) ∈ lw_all := lw_g (lw_at lw_m8 102 rfl) rfl
theorem q1878 : (Jvm.Cond.classLink "CourierClash$Street" (30 : Nat) "java/lang/ArrayStoreException") ∈ lw_all := lw_g (lw_at lw_m8 103 rfl) rfl
theorem q1892 : (Jvm.Cond.classLink "CourierClash$Street" (26 : Nat) "CourierClash$Bicycle") ∈ lw_all := lw_g (lw_at lw_m8 117 rfl) rfl
theorem q1894 : (Jvm.Cond.classLink "CourierClash$Street" (28 : Nat) "CourierClash$Vehicle") ∈ lw_all := lw_g (lw_at lw_m8 119 rfl) rfl
theorem q2835 : (Jvm.Cond.castable "CourierClash$Street" "java/lang/Object") ∈ lw_tbl := lw_at lw_m12 100 rfl
theorem in_X10 : ∀ w ∈ wsX100, w ∈ lw_all := lw_in wsX100 [1281, 1283, 1285, 1287] (by decide +kernel) (by decide +kernel)

/-! CourierClash$Courier -/
set_option maxRecDepth 100000
def RX3 : String := "CourierClash$Courier"
def TX3 : u_T := fun k => match k with
  | 0 => ("CourierClash$Courier", "junction", "I", false)
  | 1 => ("CourierClash$Courier", "vehicle", "LCourierClash$Vehicle;", false)
  | 2 => ("CourierClash$Courier", "order", "I", false)
  | 3 => ("CourierClash$Courier", "moves", "I", false)
  | _ => ("CourierClash$Courier", "outcome", "I", false)
def tyX3 : Nat → FieldType := fun k => match k with
  | 0 => .int
  | 1 => .object "CourierClash$Vehicle"
  | 2 => .int
  | 3 => .int
  | _ => .int
abbrev wsX30 : List Cond := u_ws RX3 TX3 5
theorem nmX3 : ∀ a, a < 5 → ∀ b, b < 5 → a ≠ b → (TX3 a).2.1 ≠ (TX3 b).2.1 := by decide +kernel
theorem tyX3_ok : ∀ k, k < 5 → parseFieldDescriptor (TX3 k).2.2.1 = some (tyX3 k) := by decide +kernel
abbrev cX3_init : ByteArray := prog_7_method_1_code
def yX3_init : MethodName := ⟨RX3, "<init>", "(I)V"⟩
def dkwX3_init_1 : List UInt8 := [181, 0, 22, 42, 27, 181, 0, 25, 177]
abbrev dktX3_init_1 : List UInt8 := dkwX3_init_1 ++ []
def dkwX3_init_0 : List UInt8 := [42, 183, 0, 3, 42, 187, 0, 9, 89, 183, 0, 11, 181, 0, 12, 42, 2, 181, 0, 18, 42, 4]
abbrev dktX3_init_0 : List UInt8 := dkwX3_init_0 ++ dktX3_init_1
theorem dksX3_init_0 : cX3_init.data.toList.drop 0 = dktX3_init_0 := by decide +kernel
theorem dksX3_init_1 : cX3_init.data.toList.drop 22 = dktX3_init_1 := dk_seg dksX3_init_0 22 rfl rfl
theorem dX3_init_0 : decode cX3_init 0 = .ok (.aload_n 0, 1) := dk_42 (dk_at dksX3_init_0 0 rfl rfl)
theorem dX3_init_1 : decode cX3_init 1 = .ok (.invokespecial 3, 3) := dk_183 0 3 (dk_at dksX3_init_0 1 rfl rfl)
theorem dX3_init_4 : decode cX3_init 4 = .ok (.aload_n 0, 1) := dk_42 (dk_at dksX3_init_0 4 rfl rfl)
theorem dX3_init_5 : decode cX3_init 5 = .ok (.new 9, 3) := dk_187 0 9 (dk_at dksX3_init_0 5 rfl rfl)
theorem dX3_init_8 : decode cX3_init 8 = .ok (.dup, 1) := dk_89 (dk_at dksX3_init_0 8 rfl rfl)
theorem dX3_init_9 : decode cX3_init 9 = .ok (.invokespecial 11, 3) := dk_183 0 11 (dk_at dksX3_init_0 9 rfl rfl)
theorem dX3_init_12 : decode cX3_init 12 = .ok (.putfield 12, 3) := dk_181 0 12 (dk_at dksX3_init_0 12 rfl rfl)
theorem dX3_init_15 : decode cX3_init 15 = .ok (.aload_n 0, 1) := dk_42 (dk_at dksX3_init_0 15 rfl rfl)
theorem dX3_init_16 : decode cX3_init 16 = .ok (.iconst (-1), 1) := dk_2 (dk_at dksX3_init_0 16 rfl rfl)
theorem dX3_init_17 : decode cX3_init 17 = .ok (.putfield 18, 3) := dk_181 0 18 (dk_at dksX3_init_0 17 rfl rfl)
theorem dX3_init_20 : decode cX3_init 20 = .ok (.aload_n 0, 1) := dk_42 (dk_at dksX3_init_0 20 rfl rfl)
theorem dX3_init_21 : decode cX3_init 21 = .ok (.iconst 1, 1) := dk_4 (dk_at dksX3_init_0 21 rfl rfl)
theorem dX3_init_22 : decode cX3_init 22 = .ok (.putfield 22, 3) := dk_181 0 22 (dk_at dksX3_init_1 0 rfl rfl)
theorem dX3_init_25 : decode cX3_init 25 = .ok (.aload_n 0, 1) := dk_42 (dk_at dksX3_init_1 3 rfl rfl)
theorem dX3_init_26 : decode cX3_init 26 = .ok (.iload_n 1, 1) := dk_27 (dk_at dksX3_init_1 4 rfl rfl)
theorem dX3_init_27 : decode cX3_init 27 = .ok (.putfield 25, 3) := dk_181 0 25 (dk_at dksX3_init_1 5 rfl rfl)
theorem dX3_init_30 : decode cX3_init 30 = .ok (.return_, 1) := dk_177 (dk_at dksX3_init_1 8 rfl rfl)
abbrev cX3_become : ByteArray := prog_7_method_2_code
def yX3_become : MethodName := ⟨RX3, "become", "(LCourierClash$Courier;)V"⟩
def dkwX3_become_1 : List UInt8 := [42, 43, 180, 0, 28, 181, 0, 28, 42, 43, 180, 0, 22, 181, 0, 22, 177]
abbrev dktX3_become_1 : List UInt8 := dkwX3_become_1 ++ []
def dkwX3_become_0 : List UInt8 := [42, 43, 180, 0, 25, 181, 0, 25, 42, 43, 180, 0, 12, 181, 0, 12, 42, 43, 180, 0, 18, 181, 0, 18]
abbrev dktX3_become_0 : List UInt8 := dkwX3_become_0 ++ dktX3_become_1
theorem dksX3_become_0 : cX3_become.data.toList.drop 0 = dktX3_become_0 := by decide +kernel
theorem dksX3_become_1 : cX3_become.data.toList.drop 24 = dktX3_become_1 := dk_seg dksX3_become_0 24 rfl rfl
theorem dX3_become_0 : decode cX3_become 0 = .ok (.aload_n 0, 1) := dk_42 (dk_at dksX3_become_0 0 rfl rfl)
theorem dX3_become_1 : decode cX3_become 1 = .ok (.aload_n 1, 1) := dk_43 (dk_at dksX3_become_0 1 rfl rfl)
theorem dX3_become_2 : decode cX3_become 2 = .ok (.getfield 25, 3) := dk_180 0 25 (dk_at dksX3_become_0 2 rfl rfl)
theorem dX3_become_5 : decode cX3_become 5 = .ok (.putfield 25, 3) := dk_181 0 25 (dk_at dksX3_become_0 5 rfl rfl)
theorem dX3_become_8 : decode cX3_become 8 = .ok (.aload_n 0, 1) := dk_42 (dk_at dksX3_become_0 8 rfl rfl)
theorem dX3_become_9 : decode cX3_become 9 = .ok (.aload_n 1, 1) := dk_43 (dk_at dksX3_become_0 9 rfl rfl)
theorem dX3_become_10 : decode cX3_become 10 = .ok (.getfield 12, 3) := dk_180 0 12 (dk_at dksX3_become_0 10 rfl rfl)
theorem dX3_become_13 : decode cX3_become 13 = .ok (.putfield 12, 3) := dk_181 0 12 (dk_at dksX3_become_0 13 rfl rfl)
theorem dX3_become_16 : decode cX3_become 16 = .ok (.aload_n 0, 1) := dk_42 (dk_at dksX3_become_0 16 rfl rfl)
theorem dX3_become_17 : decode cX3_become 17 = .ok (.aload_n 1, 1) := dk_43 (dk_at dksX3_become_0 17 rfl rfl)
theorem dX3_become_18 : decode cX3_become 18 = .ok (.getfield 18, 3) := dk_180 0 18 (dk_at dksX3_become_0 18 rfl rfl)
theorem dX3_become_21 : decode cX3_become 21 = .ok (.putfield 18, 3) := dk_181 0 18 (dk_at dksX3_become_0 21 rfl rfl)
theorem dX3_become_24 : decode cX3_become 24 = .ok (.aload_n 0, 1) := dk_42 (dk_at dksX3_become_1 0 rfl rfl)
theorem dX3_become_25 : decode cX3_become 25 = .ok (.aload_n 1, 1) := dk_43 (dk_at dksX3_become_1 1 rfl rfl)
theorem dX3_become_26 : decode cX3_become 26 = .ok (.getfield 28, 3) := dk_180 0 28 (dk_at dksX3_become_1 2 rfl rfl)
theorem dX3_become_29 : decode cX3_become 29 = .ok (.putfield 28, 3) := dk_181 0 28 (dk_at dksX3_become_1 5 rfl rfl)
theorem dX3_become_32 : decode cX3_become 32 = .ok (.aload_n 0, 1) := dk_42 (dk_at dksX3_become_1 8 rfl rfl)
theorem dX3_become_33 : decode cX3_become 33 = .ok (.aload_n 1, 1) := dk_43 (dk_at dksX3_become_1 9 rfl rfl)
theorem dX3_become_34 : decode cX3_become 34 = .ok (.getfield 22, 3) := dk_180 0 22 (dk_at dksX3_become_1 10 rfl rfl)
theorem dX3_become_37 : decode cX3_become 37 = .ok (.putfield 22, 3) := dk_181 0 22 (dk_at dksX3_become_1 13 rfl rfl)
theorem dX3_become_40 : decode cX3_become 40 = .ok (.return_, 1) := dk_177 (dk_at dksX3_become_1 16 rfl rfl)
theorem q101 : (Jvm.Cond.initialized "CourierClash$Courier") ∈ lw_all := lw_g (lw_at lw_m1 6 rfl) rfl
theorem q194 : (Jvm.Cond.instantiable "CourierClash$Courier" (5 : Nat)) ∈ lw_all := lw_g (lw_at lw_m1 99 rfl) rfl
theorem q196 : (Jvm.Cond.instanceMethod ({ cls := "CourierClash$Courier", name := "<init>", desc := "(I)V" } : Jvm.MethodName)) ∈ lw_all := lw_g (lw_at lw_m1 101 rfl) rfl
theorem q197 : (Jvm.Cond.code ({ cls := "CourierClash$Courier", name := "<init>", desc := "(I)V" } : Jvm.MethodName) prog_7_method_1_code (2 : Nat) (Option.none : Option Jvm.ClassFile.FieldType)) ∈ lw_all := lw_g (lw_at lw_m1 102 rfl) rfl
theorem q198 : (Jvm.Cond.methodLink "CourierClash$Courier" (3 : Nat) ({ cls := "java/lang/Object", name := "<init>", desc := "()V" } : Jvm.MethodName)) ∈ lw_all := lw_g (lw_at lw_m1 103 rfl) rfl
theorem q199 : (Jvm.Cond.classLink "CourierClash$Courier" (9 : Nat) "CourierClash$Bicycle") ∈ lw_all := lw_g (lw_at lw_m1 104 rfl) rfl
theorem q201 : (Jvm.Cond.methodLinkNest "CourierClash$Courier" (11 : Nat) ({ cls := "CourierClash$Bicycle", name := "<init>", desc := "()V" } : Jvm.MethodName) "CourierClash") ∈ lw_tbl := lw_at lw_m1 106 rfl
theorem q209 : (Jvm.Cond.fieldLink "CourierClash$Courier" (25 : Nat) "CourierClash$Courier" "junction" "I") ∈ lw_all := lw_g (lw_at lw_m1 114 rfl) rfl
theorem q212 : (Jvm.Cond.fieldLink "CourierClash$Courier" (12 : Nat) "CourierClash$Courier" "vehicle" "LCourierClash$Vehicle;") ∈ lw_all := lw_g (lw_at lw_m1 117 rfl) rfl
theorem q215 : (Jvm.Cond.fieldLink "CourierClash$Courier" (18 : Nat) "CourierClash$Courier" "order" "I") ∈ lw_all := lw_g (lw_at lw_m1 120 rfl) rfl
theorem q218 : (Jvm.Cond.fieldLink "CourierClash$Courier" (28 : Nat) "CourierClash$Courier" "moves" "I") ∈ lw_all := lw_g (lw_at lw_m1 123 rfl) rfl
theorem q221 : (Jvm.Cond.fieldLink "CourierClash$Courier" (22 : Nat) "CourierClash$Courier" "outcome" "I") ∈ lw_all := lw_g (lw_at lw_m1 126 rfl) rfl
theorem q224 : (Jvm.Cond.lays "CourierClash$Courier" "CourierClash$Courier" "junction" "I") ∈ lw_all := lw_g (lw_at lw_m1 129 rfl) rfl
theorem q225 : (Jvm.Cond.soleField "CourierClash$Courier" "junction") ∈ lw_all := lw_g (lw_at lw_m1 130 rfl) rfl
theorem q226 : (Jvm.Cond.lays "CourierClash$Courier" "CourierClash$Courier" "vehicle" "LCourierClash$Vehicle;") ∈ lw_all := lw_g (lw_at lw_m1 131 rfl) rfl
theorem q227 : (Jvm.Cond.soleField "CourierClash$Courier" "vehicle") ∈ lw_all := lw_g (lw_at lw_m1 132 rfl) rfl
theorem q228 : (Jvm.Cond.lays "CourierClash$Courier" "CourierClash$Courier" "order" "I") ∈ lw_all := lw_g (lw_at lw_m1 133 rfl) rfl
theorem q229 : (Jvm.Cond.soleField "CourierClash$Courier" "order") ∈ lw_all := lw_g (lw_at lw_m1 134 rfl) rfl
theorem q230 : (Jvm.Cond.lays "CourierClash$Courier" "CourierClash$Courier" "moves" "I") ∈ lw_all := lw_g (lw_at lw_m1 135 rfl) rfl
theorem q231 : (Jvm.Cond.soleField "CourierClash$Courier" "moves") ∈ lw_all := lw_g (lw_at lw_m1 136 rfl) rfl
theorem q232 : (Jvm.Cond.lays "CourierClash$Courier" "CourierClash$Courier" "outcome" "I") ∈ lw_all := lw_g (lw_at lw_m1 137 rfl) rfl
theorem q233 : (Jvm.Cond.soleField "CourierClash$Courier" "outcome") ∈ lw_all := lw_g (lw_at lw_m1 138 rfl) rfl
theorem q234 : (Jvm.Cond.superclass "CourierClash$Courier" "java/lang/Object") ∈ lw_all := lw_g (lw_at lw_m1 139 rfl) rfl
theorem q1319 : (Jvm.Cond.selects "CourierClash$Courier" ({ cls := "java/lang/Object", name := "getClass", desc := "()Ljava/lang/Class;" } : Jvm.MethodName) ({ cls := "java/lang/Object", name := "getClass", desc := "()Ljava/lang/Class;" } : Jvm.MethodName)) ∈ lw_all := lw_g (lw_at lw_m6 24 rfl) rfl
theorem q1354 : (Jvm.Cond.instanceMethod ({ cls := "CourierClash$Courier", name := "become", desc := "(LCourierClash$Courier;)V" } : Jvm.MethodName)) ∈ lw_all := lw_g (lw_at lw_m6 59 rfl) rfl
theorem q1355 : (Jvm.Cond.selects "CourierClash$Courier" ({ cls := "CourierClash$Courier", name := "become", desc := "(LCourierClash$Courier;)V" } : Jvm.MethodName) ({ cls := "CourierClash$Courier", name := "become", desc := "(LCourierClash$Courier;)V" } : Jvm.MethodName)) ∈ lw_all := lw_g (lw_at lw_m6 60 rfl) rfl
theorem q1356 : (Jvm.Cond.code ({ cls := "CourierClash$Courier", name := "become", desc := "(LCourierClash$Courier;)V" } : Jvm.MethodName) prog_7_method_2_code (2 : Nat) (Option.none : Option Jvm.ClassFile.FieldType)) ∈ lw_all := lw_g (lw_at lw_m6 61 rfl) rfl
theorem q2816 : (Jvm.Cond.castable "CourierClash$Courier" "java/lang/Object") ∈ lw_tbl := lw_at lw_m12 81 rfl
theorem in_X3 : ∀ w ∈ wsX30, w ∈ lw_all := lw_in wsX30 [224, 226, 228, 230, 232] (by decide +kernel) (by decide +kernel)

/-! CourierClash$Parcel -/
set_option maxRecDepth 100000
def RX11 : String := "CourierClash$Parcel"
def TX11 : u_T := fun k => match k with
  | 0 => ("CourierClash$Parcel", "number", "I", true)
  | 1 => ("CourierClash$Parcel", "target", "I", true)
  | 2 => ("CourierClash$Parcel", "weight", "I", true)
  | 3 => ("CourierClash$Parcel", "value", "I", true)
  | 4 => ("CourierClash$Parcel", "junction", "I", true)
  | 5 => ("CourierClash$Parcel", "courier", "I", false)
  | _ => ("CourierClash$Parcel", "isDelivered", "Z", false)
def tyX11 : Nat → FieldType := fun k => match k with
  | 0 => .int
  | 1 => .int
  | 2 => .int
  | 3 => .int
  | 4 => .int
  | 5 => .int
  | _ => .boolean
abbrev wsX110 : List Cond := u_ws RX11 TX11 7
theorem nmX11 : ∀ a, a < 7 → ∀ b, b < 7 → a ≠ b → (TX11 a).2.1 ≠ (TX11 b).2.1 := by decide +kernel
theorem tyX11_ok : ∀ k, k < 7 → parseFieldDescriptor (TX11 k).2.2.1 = some (tyX11 k) := by decide +kernel
abbrev cX11_code : ByteArray := prog_9_method_5_code
def yX11_code : MethodName := ⟨RX11, "code", "()I"⟩
def dkwX11_code_1 : List UInt8 := [180, 0, 9, 96, 167, 0, 10, 16, 10, 42, 180, 0, 9, 96, 172]
abbrev dktX11_code_1 : List UInt8 := dkwX11_code_1 ++ []
def dkwX11_code_0 : List UInt8 := [42, 182, 0, 37, 153, 0, 10, 42, 180, 0, 18, 167, 0, 27, 42, 180, 0, 33, 153, 0, 13, 16, 14, 42]
abbrev dktX11_code_0 : List UInt8 := dkwX11_code_0 ++ dktX11_code_1
theorem dksX11_code_0 : cX11_code.data.toList.drop 0 = dktX11_code_0 := by decide +kernel
theorem dksX11_code_1 : cX11_code.data.toList.drop 24 = dktX11_code_1 := dk_seg dksX11_code_0 24 rfl rfl
theorem dX11_code_0 : decode cX11_code 0 = .ok (.aload_n 0, 1) := dk_42 (dk_at dksX11_code_0 0 rfl rfl)
theorem dX11_code_1 : decode cX11_code 1 = .ok (.invokevirtual 37, 3) := dk_182 0 37 (dk_at dksX11_code_0 1 rfl rfl)
theorem dX11_code_4 : decode cX11_code 4 = .ok (.ifCond .eq 10, 3) := dk_153 0 10 (dk_at dksX11_code_0 4 rfl rfl)
theorem dX11_code_7 : decode cX11_code 7 = .ok (.aload_n 0, 1) := dk_42 (dk_at dksX11_code_0 7 rfl rfl)
theorem dX11_code_8 : decode cX11_code 8 = .ok (.getfield 18, 3) := dk_180 0 18 (dk_at dksX11_code_0 8 rfl rfl)
theorem dX11_code_11 : decode cX11_code 11 = .ok (.goto 27, 3) := dk_167 0 27 (dk_at dksX11_code_0 11 rfl rfl)
theorem dX11_code_14 : decode cX11_code 14 = .ok (.aload_n 0, 1) := dk_42 (dk_at dksX11_code_0 14 rfl rfl)
theorem dX11_code_15 : decode cX11_code 15 = .ok (.getfield 33, 3) := dk_180 0 33 (dk_at dksX11_code_0 15 rfl rfl)
theorem dX11_code_18 : decode cX11_code 18 = .ok (.ifCond .eq 13, 3) := dk_153 0 13 (dk_at dksX11_code_0 18 rfl rfl)
theorem dX11_code_21 : decode cX11_code 21 = .ok (.bipush 14, 2) := dk_16 14 (dk_at dksX11_code_0 21 rfl rfl)
theorem dX11_code_23 : decode cX11_code 23 = .ok (.aload_n 0, 1) := dk_42 (dk_at dksX11_code_0 23 rfl rfl)
theorem dX11_code_24 : decode cX11_code 24 = .ok (.getfield 9, 3) := dk_180 0 9 (dk_at dksX11_code_1 0 rfl rfl)
theorem dX11_code_27 : decode cX11_code 27 = .ok (.iadd, 1) := dk_96 (dk_at dksX11_code_1 3 rfl rfl)
theorem dX11_code_28 : decode cX11_code 28 = .ok (.goto 10, 3) := dk_167 0 10 (dk_at dksX11_code_1 4 rfl rfl)
theorem dX11_code_31 : decode cX11_code 31 = .ok (.bipush 10, 2) := dk_16 10 (dk_at dksX11_code_1 7 rfl rfl)
theorem dX11_code_33 : decode cX11_code 33 = .ok (.aload_n 0, 1) := dk_42 (dk_at dksX11_code_1 9 rfl rfl)
theorem dX11_code_34 : decode cX11_code 34 = .ok (.getfield 9, 3) := dk_180 0 9 (dk_at dksX11_code_1 10 rfl rfl)
theorem dX11_code_37 : decode cX11_code 37 = .ok (.iadd, 1) := dk_96 (dk_at dksX11_code_1 13 rfl rfl)
theorem dX11_code_38 : decode cX11_code 38 = .ok (.ireturn, 1) := dk_172 (dk_at dksX11_code_1 14 rfl rfl)
abbrev cX11_isWaiting : ByteArray := prog_9_method_3_code
def yX11_isWaiting : MethodName := ⟨RX11, "isWaiting", "()Z"⟩
def dkwX11_isWaiting_0 : List UInt8 := [42, 180, 0, 9, 2, 160, 0, 7, 4, 167, 0, 4, 3, 172]
abbrev dktX11_isWaiting_0 : List UInt8 := dkwX11_isWaiting_0 ++ []
theorem dksX11_isWaiting_0 : cX11_isWaiting.data.toList.drop 0 = dktX11_isWaiting_0 := by decide +kernel
theorem dX11_isWaiting_0 : decode cX11_isWaiting 0 = .ok (.aload_n 0, 1) := dk_42 (dk_at dksX11_isWaiting_0 0 rfl rfl)
theorem dX11_isWaiting_1 : decode cX11_isWaiting 1 = .ok (.getfield 9, 3) := dk_180 0 9 (dk_at dksX11_isWaiting_0 1 rfl rfl)
theorem dX11_isWaiting_4 : decode cX11_isWaiting 4 = .ok (.iconst (-1), 1) := dk_2 (dk_at dksX11_isWaiting_0 4 rfl rfl)
theorem dX11_isWaiting_5 : decode cX11_isWaiting 5 = .ok (.if_icmp .ne 7, 3) := dk_160 0 7 (dk_at dksX11_isWaiting_0 5 rfl rfl)
theorem dX11_isWaiting_8 : decode cX11_isWaiting 8 = .ok (.iconst 1, 1) := dk_4 (dk_at dksX11_isWaiting_0 8 rfl rfl)
theorem dX11_isWaiting_9 : decode cX11_isWaiting 9 = .ok (.goto 4, 3) := dk_167 0 4 (dk_at dksX11_isWaiting_0 9 rfl rfl)
theorem dX11_isWaiting_12 : decode cX11_isWaiting 12 = .ok (.iconst 0, 1) := dk_3 (dk_at dksX11_isWaiting_0 12 rfl rfl)
theorem dX11_isWaiting_13 : decode cX11_isWaiting 13 = .ok (.ireturn, 1) := dk_172 (dk_at dksX11_isWaiting_0 13 rfl rfl)
abbrev cX11_again : ByteArray := prog_9_method_2_code
def yX11_again : MethodName := ⟨RX11, "again", "()LCourierClash$Parcel;"⟩
def dkwX11_again_1 : List UInt8 := [183, 0, 30, 76, 43, 42, 180, 0, 9, 181, 0, 9, 43, 42, 180, 0, 33, 181, 0, 33, 43, 176]
abbrev dktX11_again_1 : List UInt8 := dkwX11_again_1 ++ []
def dkwX11_again_0 : List UInt8 := [187, 0, 10, 89, 42, 180, 0, 15, 42, 180, 0, 18, 42, 180, 0, 21, 42, 180, 0, 24, 42, 180, 0, 27]
abbrev dktX11_again_0 : List UInt8 := dkwX11_again_0 ++ dktX11_again_1
theorem dksX11_again_0 : cX11_again.data.toList.drop 0 = dktX11_again_0 := by decide +kernel
theorem dksX11_again_1 : cX11_again.data.toList.drop 24 = dktX11_again_1 := dk_seg dksX11_again_0 24 rfl rfl
theorem dX11_again_0 : decode cX11_again 0 = .ok (.new 10, 3) := dk_187 0 10 (dk_at dksX11_again_0 0 rfl rfl)
theorem dX11_again_3 : decode cX11_again 3 = .ok (.dup, 1) := dk_89 (dk_at dksX11_again_0 3 rfl rfl)
theorem dX11_again_4 : decode cX11_again 4 = .ok (.aload_n 0, 1) := dk_42 (dk_at dksX11_again_0 4 rfl rfl)
theorem dX11_again_5 : decode cX11_again 5 = .ok (.getfield 15, 3) := dk_180 0 15 (dk_at dksX11_again_0 5 rfl rfl)
theorem dX11_again_8 : decode cX11_again 8 = .ok (.aload_n 0, 1) := dk_42 (dk_at dksX11_again_0 8 rfl rfl)
theorem dX11_again_9 : decode cX11_again 9 = .ok (.getfield 18, 3) := dk_180 0 18 (dk_at dksX11_again_0 9 rfl rfl)
theorem dX11_again_12 : decode cX11_again 12 = .ok (.aload_n 0, 1) := dk_42 (dk_at dksX11_again_0 12 rfl rfl)
theorem dX11_again_13 : decode cX11_again 13 = .ok (.getfield 21, 3) := dk_180 0 21 (dk_at dksX11_again_0 13 rfl rfl)
theorem dX11_again_16 : decode cX11_again 16 = .ok (.aload_n 0, 1) := dk_42 (dk_at dksX11_again_0 16 rfl rfl)
theorem dX11_again_17 : decode cX11_again 17 = .ok (.getfield 24, 3) := dk_180 0 24 (dk_at dksX11_again_0 17 rfl rfl)
theorem dX11_again_20 : decode cX11_again 20 = .ok (.aload_n 0, 1) := dk_42 (dk_at dksX11_again_0 20 rfl rfl)
theorem dX11_again_21 : decode cX11_again 21 = .ok (.getfield 27, 3) := dk_180 0 27 (dk_at dksX11_again_0 21 rfl rfl)
theorem dX11_again_24 : decode cX11_again 24 = .ok (.invokespecial 30, 3) := dk_183 0 30 (dk_at dksX11_again_1 0 rfl rfl)
theorem dX11_again_27 : decode cX11_again 27 = .ok (.astore_n 1, 1) := dk_76 (dk_at dksX11_again_1 3 rfl rfl)
theorem dX11_again_28 : decode cX11_again 28 = .ok (.aload_n 1, 1) := dk_43 (dk_at dksX11_again_1 4 rfl rfl)
theorem dX11_again_29 : decode cX11_again 29 = .ok (.aload_n 0, 1) := dk_42 (dk_at dksX11_again_1 5 rfl rfl)
theorem dX11_again_30 : decode cX11_again 30 = .ok (.getfield 9, 3) := dk_180 0 9 (dk_at dksX11_again_1 6 rfl rfl)
theorem dX11_again_33 : decode cX11_again 33 = .ok (.putfield 9, 3) := dk_181 0 9 (dk_at dksX11_again_1 9 rfl rfl)
theorem dX11_again_36 : decode cX11_again 36 = .ok (.aload_n 1, 1) := dk_43 (dk_at dksX11_again_1 12 rfl rfl)
theorem dX11_again_37 : decode cX11_again 37 = .ok (.aload_n 0, 1) := dk_42 (dk_at dksX11_again_1 13 rfl rfl)
theorem dX11_again_38 : decode cX11_again 38 = .ok (.getfield 33, 3) := dk_180 0 33 (dk_at dksX11_again_1 14 rfl rfl)
theorem dX11_again_41 : decode cX11_again 41 = .ok (.putfield 33, 3) := dk_181 0 33 (dk_at dksX11_again_1 17 rfl rfl)
theorem dX11_again_44 : decode cX11_again 44 = .ok (.aload_n 1, 1) := dk_43 (dk_at dksX11_again_1 20 rfl rfl)
theorem dX11_again_45 : decode cX11_again 45 = .ok (.areturn, 1) := dk_176 (dk_at dksX11_again_1 21 rfl rfl)
abbrev cX11_init : ByteArray := prog_9_method_1_code
def yX11_init : MethodName := ⟨RX11, "<init>", "(IIIII)V"⟩
def dkwX11_init_1 : List UInt8 := [42, 21, 4, 181, 0, 24, 42, 21, 5, 181, 0, 27, 177]
abbrev dktX11_init_1 : List UInt8 := dkwX11_init_1 ++ []
def dkwX11_init_0 : List UInt8 := [42, 183, 0, 3, 42, 2, 181, 0, 9, 42, 27, 181, 0, 15, 42, 28, 181, 0, 18, 42, 29, 181, 0, 21]
abbrev dktX11_init_0 : List UInt8 := dkwX11_init_0 ++ dktX11_init_1
theorem dksX11_init_0 : cX11_init.data.toList.drop 0 = dktX11_init_0 := by decide +kernel
theorem dksX11_init_1 : cX11_init.data.toList.drop 24 = dktX11_init_1 := dk_seg dksX11_init_0 24 rfl rfl
theorem dX11_init_0 : decode cX11_init 0 = .ok (.aload_n 0, 1) := dk_42 (dk_at dksX11_init_0 0 rfl rfl)
theorem dX11_init_1 : decode cX11_init 1 = .ok (.invokespecial 3, 3) := dk_183 0 3 (dk_at dksX11_init_0 1 rfl rfl)
theorem dX11_init_4 : decode cX11_init 4 = .ok (.aload_n 0, 1) := dk_42 (dk_at dksX11_init_0 4 rfl rfl)
theorem dX11_init_5 : decode cX11_init 5 = .ok (.iconst (-1), 1) := dk_2 (dk_at dksX11_init_0 5 rfl rfl)
theorem dX11_init_6 : decode cX11_init 6 = .ok (.putfield 9, 3) := dk_181 0 9 (dk_at dksX11_init_0 6 rfl rfl)
theorem dX11_init_9 : decode cX11_init 9 = .ok (.aload_n 0, 1) := dk_42 (dk_at dksX11_init_0 9 rfl rfl)
theorem dX11_init_10 : decode cX11_init 10 = .ok (.iload_n 1, 1) := dk_27 (dk_at dksX11_init_0 10 rfl rfl)
theorem dX11_init_11 : decode cX11_init 11 = .ok (.putfield 15, 3) := dk_181 0 15 (dk_at dksX11_init_0 11 rfl rfl)
theorem dX11_init_14 : decode cX11_init 14 = .ok (.aload_n 0, 1) := dk_42 (dk_at dksX11_init_0 14 rfl rfl)
theorem dX11_init_15 : decode cX11_init 15 = .ok (.iload_n 2, 1) := dk_28 (dk_at dksX11_init_0 15 rfl rfl)
theorem dX11_init_16 : decode cX11_init 16 = .ok (.putfield 18, 3) := dk_181 0 18 (dk_at dksX11_init_0 16 rfl rfl)
theorem dX11_init_19 : decode cX11_init 19 = .ok (.aload_n 0, 1) := dk_42 (dk_at dksX11_init_0 19 rfl rfl)
theorem dX11_init_20 : decode cX11_init 20 = .ok (.iload_n 3, 1) := dk_29 (dk_at dksX11_init_0 20 rfl rfl)
theorem dX11_init_21 : decode cX11_init 21 = .ok (.putfield 21, 3) := dk_181 0 21 (dk_at dksX11_init_0 21 rfl rfl)
theorem dX11_init_24 : decode cX11_init 24 = .ok (.aload_n 0, 1) := dk_42 (dk_at dksX11_init_1 0 rfl rfl)
theorem dX11_init_25 : decode cX11_init 25 = .ok (.iload 4, 2) := dk_21 4 (dk_at dksX11_init_1 1 rfl rfl)
theorem dX11_init_27 : decode cX11_init 27 = .ok (.putfield 24, 3) := dk_181 0 24 (dk_at dksX11_init_1 3 rfl rfl)
theorem dX11_init_30 : decode cX11_init 30 = .ok (.aload_n 0, 1) := dk_42 (dk_at dksX11_init_1 6 rfl rfl)
theorem dX11_init_31 : decode cX11_init 31 = .ok (.iload 5, 2) := dk_21 5 (dk_at dksX11_init_1 7 rfl rfl)
theorem dX11_init_33 : decode cX11_init 33 = .ok (.putfield 27, 3) := dk_181 0 27 (dk_at dksX11_init_1 9 rfl rfl)
theorem dX11_init_36 : decode cX11_init 36 = .ok (.return_, 1) := dk_177 (dk_at dksX11_init_1 12 rfl rfl)
abbrev cX11_isWith : ByteArray := prog_9_method_4_code
def yX11_isWith : MethodName := ⟨RX11, "isWith", "(I)Z"⟩
def dkwX11_isWith_0 : List UInt8 := [42, 180, 0, 9, 27, 160, 0, 14, 42, 180, 0, 33, 154, 0, 7, 4, 167, 0, 4, 3, 172]
abbrev dktX11_isWith_0 : List UInt8 := dkwX11_isWith_0 ++ []
theorem dksX11_isWith_0 : cX11_isWith.data.toList.drop 0 = dktX11_isWith_0 := by decide +kernel
theorem dX11_isWith_0 : decode cX11_isWith 0 = .ok (.aload_n 0, 1) := dk_42 (dk_at dksX11_isWith_0 0 rfl rfl)
theorem dX11_isWith_1 : decode cX11_isWith 1 = .ok (.getfield 9, 3) := dk_180 0 9 (dk_at dksX11_isWith_0 1 rfl rfl)
theorem dX11_isWith_4 : decode cX11_isWith 4 = .ok (.iload_n 1, 1) := dk_27 (dk_at dksX11_isWith_0 4 rfl rfl)
theorem dX11_isWith_5 : decode cX11_isWith 5 = .ok (.if_icmp .ne 14, 3) := dk_160 0 14 (dk_at dksX11_isWith_0 5 rfl rfl)
theorem dX11_isWith_8 : decode cX11_isWith 8 = .ok (.aload_n 0, 1) := dk_42 (dk_at dksX11_isWith_0 8 rfl rfl)
theorem dX11_isWith_9 : decode cX11_isWith 9 = .ok (.getfield 33, 3) := dk_180 0 33 (dk_at dksX11_isWith_0 9 rfl rfl)
theorem dX11_isWith_12 : decode cX11_isWith 12 = .ok (.ifCond .ne 7, 3) := dk_154 0 7 (dk_at dksX11_isWith_0 12 rfl rfl)
theorem dX11_isWith_15 : decode cX11_isWith 15 = .ok (.iconst 1, 1) := dk_4 (dk_at dksX11_isWith_0 15 rfl rfl)
theorem dX11_isWith_16 : decode cX11_isWith 16 = .ok (.goto 4, 3) := dk_167 0 4 (dk_at dksX11_isWith_0 16 rfl rfl)
theorem dX11_isWith_19 : decode cX11_isWith 19 = .ok (.iconst 0, 1) := dk_3 (dk_at dksX11_isWith_0 19 rfl rfl)
theorem dX11_isWith_20 : decode cX11_isWith 20 = .ok (.ireturn, 1) := dk_172 (dk_at dksX11_isWith_0 20 rfl rfl)
theorem q136 : (Jvm.Cond.initialized "CourierClash$Parcel") ∈ lw_all := lw_g (lw_at lw_m1 41 rfl) rfl
theorem q419 : (Jvm.Cond.instanceMethod ({ cls := "CourierClash$Parcel", name := "code", desc := "()I" } : Jvm.MethodName)) ∈ lw_all := lw_g (lw_at lw_m2 84 rfl) rfl
theorem q420 : (Jvm.Cond.selects "CourierClash$Parcel" ({ cls := "CourierClash$Parcel", name := "code", desc := "()I" } : Jvm.MethodName) ({ cls := "CourierClash$Parcel", name := "code", desc := "()I" } : Jvm.MethodName)) ∈ lw_all := lw_g (lw_at lw_m2 85 rfl) rfl
theorem q421 : (Jvm.Cond.code ({ cls := "CourierClash$Parcel", name := "code", desc := "()I" } : Jvm.MethodName) prog_9_method_5_code (1 : Nat) (Option.some Jvm.ClassFile.FieldType.int)) ∈ lw_all := lw_g (lw_at lw_m2 86 rfl) rfl
theorem q422 : (Jvm.Cond.methodLink "CourierClash$Parcel" (37 : Nat) ({ cls := "CourierClash$Parcel", name := "isWaiting", desc := "()Z" } : Jvm.MethodName)) ∈ lw_all := lw_g (lw_at lw_m2 87 rfl) rfl
theorem q423 : (Jvm.Cond.instanceMethod ({ cls := "CourierClash$Parcel", name := "isWaiting", desc := "()Z" } : Jvm.MethodName)) ∈ lw_all := lw_g (lw_at lw_m2 88 rfl) rfl
theorem q424 : (Jvm.Cond.selects "CourierClash$Parcel" ({ cls := "CourierClash$Parcel", name := "isWaiting", desc := "()Z" } : Jvm.MethodName) ({ cls := "CourierClash$Parcel", name := "isWaiting", desc := "()Z" } : Jvm.MethodName)) ∈ lw_all := lw_g (lw_at lw_m2 89 rfl) rfl
theorem q425 : (Jvm.Cond.code ({ cls := "CourierClash$Parcel", name := "isWaiting", desc := "()Z" } : Jvm.MethodName) prog_9_method_3_code (1 : Nat) (Option.some Jvm.ClassFile.FieldType.boolean)) ∈ lw_all := lw_g (lw_at lw_m2 90 rfl) rfl
theorem q1321 : (Jvm.Cond.selects "CourierClash$Parcel" ({ cls := "java/lang/Object", name := "getClass", desc := "()Ljava/lang/Class;" } : Jvm.MethodName) ({ cls := "java/lang/Object", name := "getClass", desc := "()Ljava/lang/Class;" } : Jvm.MethodName)) ∈ lw_all := lw_g (lw_at lw_m6 26 rfl) rfl
theorem q1358 : (Jvm.Cond.instanceMethod ({ cls := "CourierClash$Parcel", name := "again", desc := "()LCourierClash$Parcel;" } : Jvm.MethodName)) ∈ lw_all := lw_g (lw_at lw_m6 63 rfl) rfl
theorem q1359 : (Jvm.Cond.selects "CourierClash$Parcel" ({ cls := "CourierClash$Parcel", name := "again", desc := "()LCourierClash$Parcel;" } : Jvm.MethodName) ({ cls := "CourierClash$Parcel", name := "again", desc := "()LCourierClash$Parcel;" } : Jvm.MethodName)) ∈ lw_all := lw_g (lw_at lw_m6 64 rfl) rfl
theorem q1360 : (Jvm.Cond.code ({ cls := "CourierClash$Parcel", name := "again", desc := "()LCourierClash$Parcel;" } : Jvm.MethodName) prog_9_method_2_code (2 : Nat) (Option.some (Jvm.ClassFile.FieldType.object "CourierClash$Parcel"))) ∈ lw_all := lw_g (lw_at lw_m6 65 rfl) rfl
theorem q1361 : (Jvm.Cond.classLink "CourierClash$Parcel" (10 : Nat) "CourierClash$Parcel") ∈ lw_all := lw_g (lw_at lw_m6 66 rfl) rfl
theorem q1362 : (Jvm.Cond.instantiable "CourierClash$Parcel" (7 : Nat)) ∈ lw_all := lw_g (lw_at lw_m6 67 rfl) rfl
theorem q1363 : (Jvm.Cond.methodLink "CourierClash$Parcel" (30 : Nat) ({ cls := "CourierClash$Parcel", name := "<init>", desc := "(IIIII)V" } : Jvm.MethodName)) ∈ lw_all := lw_g (lw_at lw_m6 68 rfl) rfl
theorem q1364 : (Jvm.Cond.instanceMethod ({ cls := "CourierClash$Parcel", name := "<init>", desc := "(IIIII)V" } : Jvm.MethodName)) ∈ lw_all := lw_g (lw_at lw_m6 69 rfl) rfl
theorem q1365 : (Jvm.Cond.code ({ cls := "CourierClash$Parcel", name := "<init>", desc := "(IIIII)V" } : Jvm.MethodName) prog_9_method_1_code (6 : Nat) (Option.none : Option Jvm.ClassFile.FieldType)) ∈ lw_all := lw_g (lw_at lw_m6 70 rfl) rfl
theorem q1366 : (Jvm.Cond.methodLink "CourierClash$Parcel" (3 : Nat) ({ cls := "java/lang/Object", name := "<init>", desc := "()V" } : Jvm.MethodName)) ∈ lw_all := lw_g (lw_at lw_m6 71 rfl) rfl
theorem q1367 : (Jvm.Cond.fieldLink "CourierClash$Parcel" (15 : Nat) "CourierClash$Parcel" "number" "I") ∈ lw_all := lw_g (lw_at lw_m6 72 rfl) rfl
theorem q1371 : (Jvm.Cond.fieldLink "CourierClash$Parcel" (21 : Nat) "CourierClash$Parcel" "target" "I") ∈ lw_all := lw_g (lw_at lw_m6 76 rfl) rfl
theorem q1374 : (Jvm.Cond.fieldLink "CourierClash$Parcel" (24 : Nat) "CourierClash$Parcel" "weight" "I") ∈ lw_all := lw_g (lw_at lw_m6 79 rfl) rfl
theorem q1378 : (Jvm.Cond.fieldLink "CourierClash$Parcel" (27 : Nat) "CourierClash$Parcel" "value" "I") ∈ lw_all := lw_g (lw_at lw_m6 83 rfl) rfl
theorem q1382 : (Jvm.Cond.fieldLink "CourierClash$Parcel" (18 : Nat) "CourierClash$Parcel" "junction" "I") ∈ lw_all := lw_g (lw_at lw_m6 87 rfl) rfl
theorem q1385 : (Jvm.Cond.fieldLink "CourierClash$Parcel" (9 : Nat) "CourierClash$Parcel" "courier" "I") ∈ lw_all := lw_g (lw_at lw_m6 90 rfl) rfl
theorem q1388 : (Jvm.Cond.fieldLink "CourierClash$Parcel" (33 : Nat) "CourierClash$Parcel" "isDelivered" "Z") ∈ lw_all := lw_g (lw_at lw_m6 93 rfl) rfl
theorem q1391 : (Jvm.Cond.laysFinal "CourierClash$Parcel" "CourierClash$Parcel" "number" "I") ∈ lw_all := lw_g (lw_at lw_m6 96 rfl) rfl
theorem q1392 : (Jvm.Cond.soleField "CourierClash$Parcel" "number") ∈ lw_all := lw_g (lw_at lw_m6 97 rfl) rfl
theorem q1393 : (Jvm.Cond.laysFinal "CourierClash$Parcel" "CourierClash$Parcel" "target" "I") ∈ lw_all := lw_g (lw_at lw_m6 98 rfl) rfl
theorem q1394 : (Jvm.Cond.soleField "CourierClash$Parcel" "target") ∈ lw_all := lw_g (lw_at lw_m6 99 rfl) rfl
theorem q1395 : (Jvm.Cond.laysFinal "CourierClash$Parcel" "CourierClash$Parcel" "weight" "I") ∈ lw_all := lw_g (lw_at lw_m6 100 rfl) rfl
theorem q1396 : (Jvm.Cond.soleField "CourierClash$Parcel" "weight") ∈ lw_all := lw_g (lw_at lw_m6 101 rfl) rfl
theorem q1397 : (Jvm.Cond.laysFinal "CourierClash$Parcel" "CourierClash$Parcel" "value" "I") ∈ lw_all := lw_g (lw_at lw_m6 102 rfl) rfl
theorem q1398 : (Jvm.Cond.soleField "CourierClash$Parcel" "value") ∈ lw_all := lw_g (lw_at lw_m6 103 rfl) rfl
theorem q1399 : (Jvm.Cond.laysFinal "CourierClash$Parcel" "CourierClash$Parcel" "junction" "I") ∈ lw_all := lw_g (lw_at lw_m6 104 rfl) rfl
theorem q1400 : (Jvm.Cond.soleField "CourierClash$Parcel" "junction") ∈ lw_all := lw_g (lw_at lw_m6 105 rfl) rfl
theorem q1401 : (Jvm.Cond.lays "CourierClash$Parcel" "CourierClash$Parcel" "courier" "I") ∈ lw_all := lw_g (lw_at lw_m6 106 rfl) rfl
theorem q1402 : (Jvm.Cond.soleField "CourierClash$Parcel" "courier") ∈ lw_all := lw_g (lw_at lw_m6 107 rfl) rfl
theorem q1403 : (Jvm.Cond.lays "CourierClash$Parcel" "CourierClash$Parcel" "isDelivered" "Z") ∈ lw_all := lw_g (lw_at lw_m6 108 rfl) rfl
theorem q1404 : (Jvm.Cond.soleField "CourierClash$Parcel" "isDelivered") ∈ lw_all := lw_g (lw_at lw_m6 109 rfl) rfl
theorem q1405 : (Jvm.Cond.superclass "CourierClash$Parcel" "java/lang/Object") ∈ lw_all := lw_g (lw_at lw_m6 110 rfl) rfl
theorem q1568 : (Jvm.Cond.instanceMethod ({ cls := "CourierClash$Parcel", name := "isWith", desc := "(I)Z" } : Jvm.MethodName)) ∈ lw_all := lw_g (lw_at lw_m7 33 rfl) rfl
theorem q1569 : (Jvm.Cond.selects "CourierClash$Parcel" ({ cls := "CourierClash$Parcel", name := "isWith", desc := "(I)Z" } : Jvm.MethodName) ({ cls := "CourierClash$Parcel", name := "isWith", desc := "(I)Z" } : Jvm.MethodName)) ∈ lw_all := lw_g (lw_at lw_m7 34 rfl) rfl
theorem q1570 : (Jvm.Cond.code ({ cls := "CourierClash$Parcel", name := "isWith", desc := "(I)Z" } : Jvm.MethodName) prog_9_method_4_code (2 : Nat) (Option.some Jvm.ClassFile.FieldType.boolean)) ∈ lw_all := lw_g (lw_at lw_m7 35 rfl) rfl
theorem q2836 : (Jvm.Cond.castable "CourierClash$Parcel" "java/lang/Object") ∈ lw_tbl := lw_at lw_m12 101 rfl
theorem in_X11 : ∀ w ∈ wsX110, w ∈ lw_all := lw_in wsX110 [1391, 1393, 1395, 1397, 1399, 1401, 1403] (by decide +kernel) (by decide +kernel)

/-! CourierClash$1 -/
set_option maxRecDepth 100000
def RX13 : String := "CourierClash$1"
abbrev cX13_compare : ByteArray := prog_2_method_3_code
def yX13_compare : MethodName := ⟨RX13, "compare", "(Ljava/lang/Object;Ljava/lang/Object;)I"⟩
def dkwX13_compare_0 : List UInt8 := [42, 43, 192, 0, 8, 44, 192, 0, 8, 182, 0, 25, 172]
abbrev dktX13_compare_0 : List UInt8 := dkwX13_compare_0 ++ []
theorem dksX13_compare_0 : cX13_compare.data.toList.drop 0 = dktX13_compare_0 := by decide +kernel
theorem dX13_compare_0 : decode cX13_compare 0 = .ok (.aload_n 0, 1) := dk_42 (dk_at dksX13_compare_0 0 rfl rfl)
theorem dX13_compare_1 : decode cX13_compare 1 = .ok (.aload_n 1, 1) := dk_43 (dk_at dksX13_compare_0 1 rfl rfl)
theorem dX13_compare_2 : decode cX13_compare 2 = .ok (.checkcast 8, 3) := dk_192 0 8 (dk_at dksX13_compare_0 2 rfl rfl)
theorem dX13_compare_5 : decode cX13_compare 5 = .ok (.aload_n 2, 1) := dk_44 (dk_at dksX13_compare_0 5 rfl rfl)
theorem dX13_compare_6 : decode cX13_compare 6 = .ok (.checkcast 8, 3) := dk_192 0 8 (dk_at dksX13_compare_0 6 rfl rfl)
theorem dX13_compare_9 : decode cX13_compare 9 = .ok (.invokevirtual 25, 3) := dk_182 0 25 (dk_at dksX13_compare_0 9 rfl rfl)
theorem dX13_compare_12 : decode cX13_compare 12 = .ok (.ireturn, 1) := dk_172 (dk_at dksX13_compare_0 12 rfl rfl)
abbrev cX13_compare_2 : ByteArray := prog_2_method_2_code
def yX13_compare_2 : MethodName := ⟨RX13, "compare", "(LCourierClash$Parcel;LCourierClash$Parcel;)I"⟩
def dkwX13_compare_2_2 : List UInt8 := [43, 180, 0, 22, 44, 180, 0, 22, 184, 0, 13, 172]
abbrev dktX13_compare_2_2 : List UInt8 := dkwX13_compare_2_2 ++ []
def dkwX13_compare_2_1 : List UInt8 := [180, 0, 19, 44, 180, 0, 19, 159, 0, 17, 43, 180, 0, 19, 44, 180, 0, 19, 184, 0, 13, 167, 0, 14]
abbrev dktX13_compare_2_1 : List UInt8 := dkwX13_compare_2_1 ++ dktX13_compare_2_2
def dkwX13_compare_2_0 : List UInt8 := [43, 180, 0, 7, 44, 180, 0, 7, 159, 0, 15, 44, 180, 0, 7, 43, 180, 0, 7, 184, 0, 13, 172, 43]
abbrev dktX13_compare_2_0 : List UInt8 := dkwX13_compare_2_0 ++ dktX13_compare_2_1
theorem dksX13_compare_2_0 : cX13_compare_2.data.toList.drop 0 = dktX13_compare_2_0 := by decide +kernel
theorem dksX13_compare_2_1 : cX13_compare_2.data.toList.drop 24 = dktX13_compare_2_1 := dk_seg dksX13_compare_2_0 24 rfl rfl
theorem dksX13_compare_2_2 : cX13_compare_2.data.toList.drop 48 = dktX13_compare_2_2 := dk_seg dksX13_compare_2_1 24 rfl rfl
theorem dX13_compare_2_0 : decode cX13_compare_2 0 = .ok (.aload_n 1, 1) := dk_43 (dk_at dksX13_compare_2_0 0 rfl rfl)
theorem dX13_compare_2_1 : decode cX13_compare_2 1 = .ok (.getfield 7, 3) := dk_180 0 7 (dk_at dksX13_compare_2_0 1 rfl rfl)
theorem dX13_compare_2_4 : decode cX13_compare_2 4 = .ok (.aload_n 2, 1) := dk_44 (dk_at dksX13_compare_2_0 4 rfl rfl)
theorem dX13_compare_2_5 : decode cX13_compare_2 5 = .ok (.getfield 7, 3) := dk_180 0 7 (dk_at dksX13_compare_2_0 5 rfl rfl)
theorem dX13_compare_2_8 : decode cX13_compare_2 8 = .ok (.if_icmp .eq 15, 3) := dk_159 0 15 (dk_at dksX13_compare_2_0 8 rfl rfl)
theorem dX13_compare_2_11 : decode cX13_compare_2 11 = .ok (.aload_n 2, 1) := dk_44 (dk_at dksX13_compare_2_0 11 rfl rfl)
theorem dX13_compare_2_12 : decode cX13_compare_2 12 = .ok (.getfield 7, 3) := dk_180 0 7 (dk_at dksX13_compare_2_0 12 rfl rfl)
theorem dX13_compare_2_15 : decode cX13_compare_2 15 = .ok (.aload_n 1, 1) := dk_43 (dk_at dksX13_compare_2_0 15 rfl rfl)
theorem dX13_compare_2_16 : decode cX13_compare_2 16 = .ok (.getfield 7, 3) := dk_180 0 7 (dk_at dksX13_compare_2_0 16 rfl rfl)
theorem dX13_compare_2_19 : decode cX13_compare_2 19 = .ok (.invokestatic 13, 3) := dk_184 0 13 (dk_at dksX13_compare_2_0 19 rfl rfl)
theorem dX13_compare_2_22 : decode cX13_compare_2 22 = .ok (.ireturn, 1) := dk_172 (dk_at dksX13_compare_2_0 22 rfl rfl)
theorem dX13_compare_2_23 : decode cX13_compare_2 23 = .ok (.aload_n 1, 1) := dk_43 (dk_at dksX13_compare_2_0 23 rfl rfl)
theorem dX13_compare_2_24 : decode cX13_compare_2 24 = .ok (.getfield 19, 3) := dk_180 0 19 (dk_at dksX13_compare_2_1 0 rfl rfl)
theorem dX13_compare_2_27 : decode cX13_compare_2 27 = .ok (.aload_n 2, 1) := dk_44 (dk_at dksX13_compare_2_1 3 rfl rfl)
theorem dX13_compare_2_28 : decode cX13_compare_2 28 = .ok (.getfield 19, 3) := dk_180 0 19 (dk_at dksX13_compare_2_1 4 rfl rfl)
theorem dX13_compare_2_31 : decode cX13_compare_2 31 = .ok (.if_icmp .eq 17, 3) := dk_159 0 17 (dk_at dksX13_compare_2_1 7 rfl rfl)
theorem dX13_compare_2_34 : decode cX13_compare_2 34 = .ok (.aload_n 1, 1) := dk_43 (dk_at dksX13_compare_2_1 10 rfl rfl)
theorem dX13_compare_2_35 : decode cX13_compare_2 35 = .ok (.getfield 19, 3) := dk_180 0 19 (dk_at dksX13_compare_2_1 11 rfl rfl)
theorem dX13_compare_2_38 : decode cX13_compare_2 38 = .ok (.aload_n 2, 1) := dk_44 (dk_at dksX13_compare_2_1 14 rfl rfl)
theorem dX13_compare_2_39 : decode cX13_compare_2 39 = .ok (.getfield 19, 3) := dk_180 0 19 (dk_at dksX13_compare_2_1 15 rfl rfl)
theorem dX13_compare_2_42 : decode cX13_compare_2 42 = .ok (.invokestatic 13, 3) := dk_184 0 13 (dk_at dksX13_compare_2_1 18 rfl rfl)
theorem dX13_compare_2_45 : decode cX13_compare_2 45 = .ok (.goto 14, 3) := dk_167 0 14 (dk_at dksX13_compare_2_1 21 rfl rfl)
theorem dX13_compare_2_48 : decode cX13_compare_2 48 = .ok (.aload_n 1, 1) := dk_43 (dk_at dksX13_compare_2_2 0 rfl rfl)
theorem dX13_compare_2_49 : decode cX13_compare_2 49 = .ok (.getfield 22, 3) := dk_180 0 22 (dk_at dksX13_compare_2_2 1 rfl rfl)
theorem dX13_compare_2_52 : decode cX13_compare_2 52 = .ok (.aload_n 2, 1) := dk_44 (dk_at dksX13_compare_2_2 4 rfl rfl)
theorem dX13_compare_2_53 : decode cX13_compare_2 53 = .ok (.getfield 22, 3) := dk_180 0 22 (dk_at dksX13_compare_2_2 5 rfl rfl)
theorem dX13_compare_2_56 : decode cX13_compare_2 56 = .ok (.invokestatic 13, 3) := dk_184 0 13 (dk_at dksX13_compare_2_2 8 rfl rfl)
theorem dX13_compare_2_59 : decode cX13_compare_2 59 = .ok (.ireturn, 1) := dk_172 (dk_at dksX13_compare_2_2 11 rfl rfl)
abbrev cX13_init : ByteArray := prog_2_method_1_code
def yX13_init : MethodName := ⟨RX13, "<init>", "()V"⟩
theorem dX13_init_0 : decode cX13_init 0 = .ok (.aload_n 0, 1) := by decide +kernel
theorem dX13_init_1 : decode cX13_init 1 = .ok (.invokespecial 1, 3) := by decide +kernel
theorem dX13_init_4 : decode cX13_init 4 = .ok (.return_, 1) := by decide +kernel
theorem q145 : (Jvm.Cond.initialized "CourierClash$1") ∈ lw_all := lw_g (lw_at lw_m1 50 rfl) rfl
theorem q464 : (Jvm.Cond.castable "CourierClash$1" "java/util/Comparator") ∈ lw_tbl := lw_at lw_m2 129 rfl
theorem q465 : (Jvm.Cond.selects "CourierClash$1" ({ cls := "java/util/Comparator", name := "compare", desc := "(Ljava/lang/Object;Ljava/lang/Object;)I" } : Jvm.MethodName) ({ cls := "CourierClash$1", name := "compare", desc := "(Ljava/lang/Object;Ljava/lang/Object;)I" } : Jvm.MethodName)) ∈ lw_all := lw_g (lw_at lw_m2 130 rfl) rfl
theorem q466 : (Jvm.Cond.unhidden "CourierClash$1" "compare" "(Ljava/lang/Object;Ljava/lang/Object;)I") ∈ lw_tbl := lw_at lw_m2 131 rfl
theorem q467 : (Jvm.Cond.instanceMethod ({ cls := "CourierClash$1", name := "compare", desc := "(Ljava/lang/Object;Ljava/lang/Object;)I" } : Jvm.MethodName)) ∈ lw_all := lw_g (lw_at lw_m2 132 rfl) rfl
theorem q468 : (Jvm.Cond.publicMethod ({ cls := "CourierClash$1", name := "compare", desc := "(Ljava/lang/Object;Ljava/lang/Object;)I" } : Jvm.MethodName)) ∈ lw_tbl := lw_at lw_m2 133 rfl
theorem q469 : (Jvm.Cond.code ({ cls := "CourierClash$1", name := "compare", desc := "(Ljava/lang/Object;Ljava/lang/Object;)I" } : Jvm.MethodName) prog_2_method_3_code (3 : Nat) (Option.some Jvm.ClassFile.FieldType.int)) ∈ lw_all := lw_g (lw_at lw_m2 134 rfl) rfl
theorem q470 : (Jvm.Cond.classLink "CourierClash$1" (8 : Nat) "CourierClash$Parcel") ∈ lw_all := lw_g (lw_at lw_m2 135 rfl) rfl
theorem q471 : (Jvm.Cond.methodLink "CourierClash$1" (25 : Nat) ({ cls := "CourierClash$1", name := "compare", desc := "(LCourierClash$Parcel;LCourierClash$Parcel;)I" } : Jvm.MethodName)) ∈ lw_all := lw_g (lw_at lw_m2 136 rfl) rfl
theorem q472 : (Jvm.Cond.instanceMethod ({ cls := "CourierClash$1", name := "compare", desc := "(LCourierClash$Parcel;LCourierClash$Parcel;)I" } : Jvm.MethodName)) ∈ lw_all := lw_g (lw_at lw_m2 137 rfl) rfl
theorem q473 : (Jvm.Cond.selects "CourierClash$1" ({ cls := "CourierClash$1", name := "compare", desc := "(LCourierClash$Parcel;LCourierClash$Parcel;)I" } : Jvm.MethodName) ({ cls := "CourierClash$1", name := "compare", desc := "(LCourierClash$Parcel;LCourierClash$Parcel;)I" } : Jvm.MethodName)) ∈ lw_all := lw_g (lw_at lw_m2 138 rfl) rfl
theorem q474 : (Jvm.Cond.code ({ cls := "CourierClash$1", name := "compare", desc := "(LCourierClash$Parcel;LCourierClash$Parcel;)I" } : Jvm.MethodName) prog_2_method_2_code (3 : Nat) (Option.some Jvm.ClassFile.FieldType.int)) ∈ lw_all := lw_g (lw_at lw_m2 139 rfl) rfl
theorem q475 : (Jvm.Cond.methodLink "CourierClash$1" (13 : Nat) ({ cls := "java/lang/Integer", name := "compare", desc := "(II)I" } : Jvm.MethodName)) ∈ lw_all := lw_g (lw_at lw_m2 140 rfl) rfl
theorem q1314 : (Jvm.Cond.selects "CourierClash$1" ({ cls := "java/lang/Object", name := "getClass", desc := "()Ljava/lang/Class;" } : Jvm.MethodName) ({ cls := "java/lang/Object", name := "getClass", desc := "()Ljava/lang/Class;" } : Jvm.MethodName)) ∈ lw_all := lw_g (lw_at lw_m6 19 rfl) rfl
theorem q1368 : (Jvm.Cond.fieldLinkNest "CourierClash$1" (22 : Nat) "CourierClash$Parcel" "number" "I" "CourierClash") ∈ lw_tbl := lw_at lw_m6 73 rfl
theorem q1375 : (Jvm.Cond.fieldLinkNest "CourierClash$1" (19 : Nat) "CourierClash$Parcel" "weight" "I" "CourierClash") ∈ lw_tbl := lw_at lw_m6 80 rfl
theorem q1379 : (Jvm.Cond.fieldLinkNest "CourierClash$1" (7 : Nat) "CourierClash$Parcel" "value" "I" "CourierClash") ∈ lw_tbl := lw_at lw_m6 84 rfl
theorem q1972 : (Jvm.Cond.instantiable "CourierClash$1" (0 : Nat)) ∈ lw_all := lw_g (lw_at lw_m8 197 rfl) rfl
theorem q1974 : (Jvm.Cond.instanceMethod ({ cls := "CourierClash$1", name := "<init>", desc := "()V" } : Jvm.MethodName)) ∈ lw_all := lw_g (lw_at lw_m8 199 rfl) rfl
theorem q1975 : (Jvm.Cond.code ({ cls := "CourierClash$1", name := "<init>", desc := "()V" } : Jvm.MethodName) prog_2_method_1_code (1 : Nat) (Option.none : Option Jvm.ClassFile.FieldType)) ∈ lw_all := lw_g (lw_at lw_m8 200 rfl) rfl
theorem q1976 : (Jvm.Cond.methodLink "CourierClash$1" (1 : Nat) ({ cls := "java/lang/Object", name := "<init>", desc := "()V" } : Jvm.MethodName)) ∈ lw_all := lw_g (lw_at lw_m8 201 rfl) rfl
theorem q1977 : (Jvm.Cond.superclass "CourierClash$1" "java/lang/Object") ∈ lw_all := lw_g (lw_at lw_m8 202 rfl) rfl
theorem q2842 : (Jvm.Cond.castable "CourierClash$1" "java/lang/Object") ∈ lw_tbl := lw_at lw_m12 107 rfl

/-! CourierClash$2 -/
set_option maxRecDepth 100000
def RX15 : String := "CourierClash$2"
abbrev cX15_compare : ByteArray := prog_3_method_3_code
def yX15_compare : MethodName := ⟨RX15, "compare", "(Ljava/lang/Object;Ljava/lang/Object;)I"⟩
def dkwX15_compare_0 : List UInt8 := [42, 43, 192, 0, 8, 44, 192, 0, 8, 182, 0, 31, 172]
abbrev dktX15_compare_0 : List UInt8 := dkwX15_compare_0 ++ []
theorem dksX15_compare_0 : cX15_compare.data.toList.drop 0 = dktX15_compare_0 := by decide +kernel
theorem dX15_compare_0 : decode cX15_compare 0 = .ok (.aload_n 0, 1) := dk_42 (dk_at dksX15_compare_0 0 rfl rfl)
theorem dX15_compare_1 : decode cX15_compare 1 = .ok (.aload_n 1, 1) := dk_43 (dk_at dksX15_compare_0 1 rfl rfl)
theorem dX15_compare_2 : decode cX15_compare 2 = .ok (.checkcast 8, 3) := dk_192 0 8 (dk_at dksX15_compare_0 2 rfl rfl)
theorem dX15_compare_5 : decode cX15_compare 5 = .ok (.aload_n 2, 1) := dk_44 (dk_at dksX15_compare_0 5 rfl rfl)
theorem dX15_compare_6 : decode cX15_compare 6 = .ok (.checkcast 8, 3) := dk_192 0 8 (dk_at dksX15_compare_0 6 rfl rfl)
theorem dX15_compare_9 : decode cX15_compare 9 = .ok (.invokevirtual 31, 3) := dk_182 0 31 (dk_at dksX15_compare_0 9 rfl rfl)
theorem dX15_compare_12 : decode cX15_compare 12 = .ok (.ireturn, 1) := dk_172 (dk_at dksX15_compare_0 12 rfl rfl)
abbrev cX15_compare_2 : ByteArray := prog_3_method_2_code
def yX15_compare_2 : MethodName := ⟨RX15, "compare", "(LCourierClash$Choice;LCourierClash$Choice;)I"⟩
def dkwX15_compare_2_3 : List UInt8 := [180, 0, 28, 184, 0, 13, 172]
abbrev dktX15_compare_2_3 : List UInt8 := dkwX15_compare_2_3 ++ []
def dkwX15_compare_2_2 : List UInt8 := [180, 0, 19, 180, 0, 23, 184, 0, 13, 167, 0, 20, 43, 180, 0, 19, 180, 0, 28, 44, 180, 0, 19]
abbrev dktX15_compare_2_2 : List UInt8 := dkwX15_compare_2_2 ++ dktX15_compare_2_3
def dkwX15_compare_2_1 : List UInt8 := [180, 0, 19, 180, 0, 23, 44, 180, 0, 19, 180, 0, 23, 159, 0, 23, 44, 180, 0, 19, 180, 0, 23, 43]
abbrev dktX15_compare_2_1 : List UInt8 := dkwX15_compare_2_1 ++ dktX15_compare_2_2
def dkwX15_compare_2_0 : List UInt8 := [43, 180, 0, 7, 44, 180, 0, 7, 159, 0, 15, 43, 180, 0, 7, 44, 180, 0, 7, 184, 0, 13, 172, 43]
abbrev dktX15_compare_2_0 : List UInt8 := dkwX15_compare_2_0 ++ dktX15_compare_2_1
theorem dksX15_compare_2_0 : cX15_compare_2.data.toList.drop 0 = dktX15_compare_2_0 := by decide +kernel
theorem dksX15_compare_2_1 : cX15_compare_2.data.toList.drop 24 = dktX15_compare_2_1 := dk_seg dksX15_compare_2_0 24 rfl rfl
theorem dksX15_compare_2_2 : cX15_compare_2.data.toList.drop 48 = dktX15_compare_2_2 := dk_seg dksX15_compare_2_1 24 rfl rfl
theorem dksX15_compare_2_3 : cX15_compare_2.data.toList.drop 71 = dktX15_compare_2_3 := dk_seg dksX15_compare_2_2 23 rfl rfl
theorem dX15_compare_2_0 : decode cX15_compare_2 0 = .ok (.aload_n 1, 1) := dk_43 (dk_at dksX15_compare_2_0 0 rfl rfl)
theorem dX15_compare_2_1 : decode cX15_compare_2 1 = .ok (.getfield 7, 3) := dk_180 0 7 (dk_at dksX15_compare_2_0 1 rfl rfl)
theorem dX15_compare_2_4 : decode cX15_compare_2 4 = .ok (.aload_n 2, 1) := dk_44 (dk_at dksX15_compare_2_0 4 rfl rfl)
theorem dX15_compare_2_5 : decode cX15_compare_2 5 = .ok (.getfield 7, 3) := dk_180 0 7 (dk_at dksX15_compare_2_0 5 rfl rfl)
theorem dX15_compare_2_8 : decode cX15_compare_2 8 = .ok (.if_icmp .eq 15, 3) := dk_159 0 15 (dk_at dksX15_compare_2_0 8 rfl rfl)
theorem dX15_compare_2_11 : decode cX15_compare_2 11 = .ok (.aload_n 1, 1) := dk_43 (dk_at dksX15_compare_2_0 11 rfl rfl)
theorem dX15_compare_2_12 : decode cX15_compare_2 12 = .ok (.getfield 7, 3) := dk_180 0 7 (dk_at dksX15_compare_2_0 12 rfl rfl)
theorem dX15_compare_2_15 : decode cX15_compare_2 15 = .ok (.aload_n 2, 1) := dk_44 (dk_at dksX15_compare_2_0 15 rfl rfl)
theorem dX15_compare_2_16 : decode cX15_compare_2 16 = .ok (.getfield 7, 3) := dk_180 0 7 (dk_at dksX15_compare_2_0 16 rfl rfl)
theorem dX15_compare_2_19 : decode cX15_compare_2 19 = .ok (.invokestatic 13, 3) := dk_184 0 13 (dk_at dksX15_compare_2_0 19 rfl rfl)
theorem dX15_compare_2_22 : decode cX15_compare_2 22 = .ok (.ireturn, 1) := dk_172 (dk_at dksX15_compare_2_0 22 rfl rfl)
theorem dX15_compare_2_23 : decode cX15_compare_2 23 = .ok (.aload_n 1, 1) := dk_43 (dk_at dksX15_compare_2_0 23 rfl rfl)
theorem dX15_compare_2_24 : decode cX15_compare_2 24 = .ok (.getfield 19, 3) := dk_180 0 19 (dk_at dksX15_compare_2_1 0 rfl rfl)
theorem dX15_compare_2_27 : decode cX15_compare_2 27 = .ok (.getfield 23, 3) := dk_180 0 23 (dk_at dksX15_compare_2_1 3 rfl rfl)
theorem dX15_compare_2_30 : decode cX15_compare_2 30 = .ok (.aload_n 2, 1) := dk_44 (dk_at dksX15_compare_2_1 6 rfl rfl)
theorem dX15_compare_2_31 : decode cX15_compare_2 31 = .ok (.getfield 19, 3) := dk_180 0 19 (dk_at dksX15_compare_2_1 7 rfl rfl)
theorem dX15_compare_2_34 : decode cX15_compare_2 34 = .ok (.getfield 23, 3) := dk_180 0 23 (dk_at dksX15_compare_2_1 10 rfl rfl)
theorem dX15_compare_2_37 : decode cX15_compare_2 37 = .ok (.if_icmp .eq 23, 3) := dk_159 0 23 (dk_at dksX15_compare_2_1 13 rfl rfl)
theorem dX15_compare_2_40 : decode cX15_compare_2 40 = .ok (.aload_n 2, 1) := dk_44 (dk_at dksX15_compare_2_1 16 rfl rfl)
theorem dX15_compare_2_41 : decode cX15_compare_2 41 = .ok (.getfield 19, 3) := dk_180 0 19 (dk_at dksX15_compare_2_1 17 rfl rfl)
theorem dX15_compare_2_44 : decode cX15_compare_2 44 = .ok (.getfield 23, 3) := dk_180 0 23 (dk_at dksX15_compare_2_1 20 rfl rfl)
theorem dX15_compare_2_47 : decode cX15_compare_2 47 = .ok (.aload_n 1, 1) := dk_43 (dk_at dksX15_compare_2_1 23 rfl rfl)
theorem dX15_compare_2_48 : decode cX15_compare_2 48 = .ok (.getfield 19, 3) := dk_180 0 19 (dk_at dksX15_compare_2_2 0 rfl rfl)
theorem dX15_compare_2_51 : decode cX15_compare_2 51 = .ok (.getfield 23, 3) := dk_180 0 23 (dk_at dksX15_compare_2_2 3 rfl rfl)
theorem dX15_compare_2_54 : decode cX15_compare_2 54 = .ok (.invokestatic 13, 3) := dk_184 0 13 (dk_at dksX15_compare_2_2 6 rfl rfl)
theorem dX15_compare_2_57 : decode cX15_compare_2 57 = .ok (.goto 20, 3) := dk_167 0 20 (dk_at dksX15_compare_2_2 9 rfl rfl)
theorem dX15_compare_2_60 : decode cX15_compare_2 60 = .ok (.aload_n 1, 1) := dk_43 (dk_at dksX15_compare_2_2 12 rfl rfl)
theorem dX15_compare_2_61 : decode cX15_compare_2 61 = .ok (.getfield 19, 3) := dk_180 0 19 (dk_at dksX15_compare_2_2 13 rfl rfl)
theorem dX15_compare_2_64 : decode cX15_compare_2 64 = .ok (.getfield 28, 3) := dk_180 0 28 (dk_at dksX15_compare_2_2 16 rfl rfl)
theorem dX15_compare_2_67 : decode cX15_compare_2 67 = .ok (.aload_n 2, 1) := dk_44 (dk_at dksX15_compare_2_2 19 rfl rfl)
theorem dX15_compare_2_68 : decode cX15_compare_2 68 = .ok (.getfield 19, 3) := dk_180 0 19 (dk_at dksX15_compare_2_2 20 rfl rfl)
theorem dX15_compare_2_71 : decode cX15_compare_2 71 = .ok (.getfield 28, 3) := dk_180 0 28 (dk_at dksX15_compare_2_3 0 rfl rfl)
theorem dX15_compare_2_74 : decode cX15_compare_2 74 = .ok (.invokestatic 13, 3) := dk_184 0 13 (dk_at dksX15_compare_2_3 3 rfl rfl)
theorem dX15_compare_2_77 : decode cX15_compare_2 77 = .ok (.ireturn, 1) := dk_172 (dk_at dksX15_compare_2_3 6 rfl rfl)
abbrev cX15_init : ByteArray := prog_3_method_1_code
def yX15_init : MethodName := ⟨RX15, "<init>", "()V"⟩
theorem dX15_init_0 : decode cX15_init 0 = .ok (.aload_n 0, 1) := by decide +kernel
theorem dX15_init_1 : decode cX15_init 1 = .ok (.invokespecial 1, 3) := by decide +kernel
theorem dX15_init_4 : decode cX15_init 4 = .ok (.return_, 1) := by decide +kernel
theorem q148 : (Jvm.Cond.initialized "CourierClash$2") ∈ lw_all := lw_g (lw_at lw_m1 53 rfl) rfl
theorem q478 : (Jvm.Cond.castable "CourierClash$2" "java/util/Comparator") ∈ lw_tbl := lw_at lw_m2 143 rfl
theorem q479 : (Jvm.Cond.selects "CourierClash$2" ({ cls := "java/util/Comparator", name := "compare", desc := "(Ljava/lang/Object;Ljava/lang/Object;)I" } : Jvm.MethodName) ({ cls := "CourierClash$2", name := "compare", desc := "(Ljava/lang/Object;Ljava/lang/Object;)I" } : Jvm.MethodName)) ∈ lw_all := lw_g (lw_at lw_m2 144 rfl) rfl
theorem q480 : (Jvm.Cond.unhidden "CourierClash$2" "compare" "(Ljava/lang/Object;Ljava/lang/Object;)I") ∈ lw_tbl := lw_at lw_m2 145 rfl
theorem q481 : (Jvm.Cond.instanceMethod ({ cls := "CourierClash$2", name := "compare", desc := "(Ljava/lang/Object;Ljava/lang/Object;)I" } : Jvm.MethodName)) ∈ lw_all := lw_g (lw_at lw_m2 146 rfl) rfl
theorem q482 : (Jvm.Cond.publicMethod ({ cls := "CourierClash$2", name := "compare", desc := "(Ljava/lang/Object;Ljava/lang/Object;)I" } : Jvm.MethodName)) ∈ lw_tbl := lw_at lw_m2 147 rfl
theorem q483 : (Jvm.Cond.code ({ cls := "CourierClash$2", name := "compare", desc := "(Ljava/lang/Object;Ljava/lang/Object;)I" } : Jvm.MethodName) prog_3_method_3_code (3 : Nat) (Option.some Jvm.ClassFile.FieldType.int)) ∈ lw_all := lw_g (lw_at lw_m2 148 rfl) rfl
theorem q484 : (Jvm.Cond.classLink "CourierClash$2" (8 : Nat) "CourierClash$Choice") ∈ lw_all := lw_g (lw_at lw_m2 149 rfl) rfl
theorem q485 : (Jvm.Cond.methodLink "CourierClash$2" (31 : Nat) ({ cls := "CourierClash$2", name := "compare", desc := "(LCourierClash$Choice;LCourierClash$Choice;)I" } : Jvm.MethodName)) ∈ lw_all := lw_g (lw_at lw_m2 150 rfl) rfl
theorem q486 : (Jvm.Cond.instanceMethod ({ cls := "CourierClash$2", name := "compare", desc := "(LCourierClash$Choice;LCourierClash$Choice;)I" } : Jvm.MethodName)) ∈ lw_all := lw_g (lw_at lw_m2 151 rfl) rfl
theorem q487 : (Jvm.Cond.selects "CourierClash$2" ({ cls := "CourierClash$2", name := "compare", desc := "(LCourierClash$Choice;LCourierClash$Choice;)I" } : Jvm.MethodName) ({ cls := "CourierClash$2", name := "compare", desc := "(LCourierClash$Choice;LCourierClash$Choice;)I" } : Jvm.MethodName)) ∈ lw_all := lw_g (lw_at lw_m2 152 rfl) rfl
theorem q488 : (Jvm.Cond.code ({ cls := "CourierClash$2", name := "compare", desc := "(LCourierClash$Choice;LCourierClash$Choice;)I" } : Jvm.MethodName) prog_3_method_2_code (3 : Nat) (Option.some Jvm.ClassFile.FieldType.int)) ∈ lw_all := lw_g (lw_at lw_m2 153 rfl) rfl
theorem q489 : (Jvm.Cond.methodLink "CourierClash$2" (13 : Nat) ({ cls := "java/lang/Integer", name := "compare", desc := "(II)I" } : Jvm.MethodName)) ∈ lw_all := lw_g (lw_at lw_m2 154 rfl) rfl
theorem q1315 : (Jvm.Cond.selects "CourierClash$2" ({ cls := "java/lang/Object", name := "getClass", desc := "()Ljava/lang/Class;" } : Jvm.MethodName) ({ cls := "java/lang/Object", name := "getClass", desc := "()Ljava/lang/Class;" } : Jvm.MethodName)) ∈ lw_all := lw_g (lw_at lw_m6 20 rfl) rfl
theorem q1369 : (Jvm.Cond.fieldLinkNest "CourierClash$2" (28 : Nat) "CourierClash$Parcel" "number" "I" "CourierClash") ∈ lw_tbl := lw_at lw_m6 74 rfl
theorem q1380 : (Jvm.Cond.fieldLinkNest "CourierClash$2" (23 : Nat) "CourierClash$Parcel" "value" "I" "CourierClash") ∈ lw_tbl := lw_at lw_m6 85 rfl
theorem q2268 : (Jvm.Cond.instantiable "CourierClash$2" (0 : Nat)) ∈ lw_all := lw_g (lw_at lw_m10 13 rfl) rfl
theorem q2270 : (Jvm.Cond.instanceMethod ({ cls := "CourierClash$2", name := "<init>", desc := "()V" } : Jvm.MethodName)) ∈ lw_all := lw_g (lw_at lw_m10 15 rfl) rfl
theorem q2271 : (Jvm.Cond.code ({ cls := "CourierClash$2", name := "<init>", desc := "()V" } : Jvm.MethodName) prog_3_method_1_code (1 : Nat) (Option.none : Option Jvm.ClassFile.FieldType)) ∈ lw_all := lw_g (lw_at lw_m10 16 rfl) rfl
theorem q2272 : (Jvm.Cond.methodLink "CourierClash$2" (1 : Nat) ({ cls := "java/lang/Object", name := "<init>", desc := "()V" } : Jvm.MethodName)) ∈ lw_all := lw_g (lw_at lw_m10 17 rfl) rfl
theorem q2273 : (Jvm.Cond.superclass "CourierClash$2" "java/lang/Object") ∈ lw_all := lw_g (lw_at lw_m10 18 rfl) rfl
theorem q2287 : (Jvm.Cond.fieldLinkNest "CourierClash$2" (19 : Nat) "CourierClash$Choice" "parcel" "LCourierClash$Parcel;" "CourierClash") ∈ lw_tbl := lw_at lw_m10 32 rfl
theorem q2290 : (Jvm.Cond.fieldLinkNest "CourierClash$2" (7 : Nat) "CourierClash$Choice" "way" "I" "CourierClash") ∈ lw_tbl := lw_at lw_m10 35 rfl
theorem q2846 : (Jvm.Cond.castable "CourierClash$2" "java/lang/Object") ∈ lw_tbl := lw_at lw_m12 111 rfl

/-! CourierClash$3 -/
set_option maxRecDepth 100000
def RX6 : String := "CourierClash$3"
abbrev cX6_init : ByteArray := prog_4_method_1_code
def yX6_init : MethodName := ⟨RX6, "<init>", "()V"⟩
theorem dX6_init_0 : decode cX6_init 0 = .ok (.aload_n 0, 1) := by decide +kernel
theorem dX6_init_1 : decode cX6_init 1 = .ok (.invokespecial 1, 3) := by decide +kernel
theorem dX6_init_4 : decode cX6_init 4 = .ok (.return_, 1) := by decide +kernel
abbrev cX6_compare : ByteArray := prog_4_method_3_code
def yX6_compare : MethodName := ⟨RX6, "compare", "(Ljava/lang/Object;Ljava/lang/Object;)I"⟩
def dkwX6_compare_0 : List UInt8 := [42, 43, 192, 0, 8, 44, 192, 0, 8, 182, 0, 19, 172]
abbrev dktX6_compare_0 : List UInt8 := dkwX6_compare_0 ++ []
theorem dksX6_compare_0 : cX6_compare.data.toList.drop 0 = dktX6_compare_0 := by decide +kernel
theorem dX6_compare_0 : decode cX6_compare 0 = .ok (.aload_n 0, 1) := dk_42 (dk_at dksX6_compare_0 0 rfl rfl)
theorem dX6_compare_1 : decode cX6_compare 1 = .ok (.aload_n 1, 1) := dk_43 (dk_at dksX6_compare_0 1 rfl rfl)
theorem dX6_compare_2 : decode cX6_compare 2 = .ok (.checkcast 8, 3) := dk_192 0 8 (dk_at dksX6_compare_0 2 rfl rfl)
theorem dX6_compare_5 : decode cX6_compare 5 = .ok (.aload_n 2, 1) := dk_44 (dk_at dksX6_compare_0 5 rfl rfl)
theorem dX6_compare_6 : decode cX6_compare 6 = .ok (.checkcast 8, 3) := dk_192 0 8 (dk_at dksX6_compare_0 6 rfl rfl)
theorem dX6_compare_9 : decode cX6_compare 9 = .ok (.invokevirtual 19, 3) := dk_182 0 19 (dk_at dksX6_compare_0 9 rfl rfl)
theorem dX6_compare_12 : decode cX6_compare 12 = .ok (.ireturn, 1) := dk_172 (dk_at dksX6_compare_0 12 rfl rfl)
abbrev cX6_compare_2 : ByteArray := prog_4_method_2_code
def yX6_compare_2 : MethodName := ⟨RX6, "compare", "(LCourierClash$Position;LCourierClash$Position;)I"⟩
def dkwX6_compare_2_2 : List UInt8 := [184, 0, 13, 172]
abbrev dktX6_compare_2_2 : List UInt8 := dkwX6_compare_2_2 ++ []
def dkwX6_compare_2_1 : List UInt8 := [46, 160, 0, 9, 132, 3, 1, 167, 255, 227, 43, 180, 0, 7, 29, 46, 44, 180, 0, 7, 29, 46]
abbrev dktX6_compare_2_1 : List UInt8 := dkwX6_compare_2_1 ++ dktX6_compare_2_2
def dkwX6_compare_2_0 : List UInt8 := [3, 62, 29, 43, 180, 0, 7, 190, 4, 100, 162, 0, 24, 43, 180, 0, 7, 29, 46, 44, 180, 0, 7, 29]
abbrev dktX6_compare_2_0 : List UInt8 := dkwX6_compare_2_0 ++ dktX6_compare_2_1
theorem dksX6_compare_2_0 : cX6_compare_2.data.toList.drop 0 = dktX6_compare_2_0 := by decide +kernel
theorem dksX6_compare_2_1 : cX6_compare_2.data.toList.drop 24 = dktX6_compare_2_1 := dk_seg dksX6_compare_2_0 24 rfl rfl
theorem dksX6_compare_2_2 : cX6_compare_2.data.toList.drop 46 = dktX6_compare_2_2 := dk_seg dksX6_compare_2_1 22 rfl rfl
theorem dX6_compare_2_0 : decode cX6_compare_2 0 = .ok (.iconst 0, 1) := dk_3 (dk_at dksX6_compare_2_0 0 rfl rfl)
theorem dX6_compare_2_1 : decode cX6_compare_2 1 = .ok (.istore_n 3, 1) := dk_62 (dk_at dksX6_compare_2_0 1 rfl rfl)
theorem dX6_compare_2_2 : decode cX6_compare_2 2 = .ok (.iload_n 3, 1) := dk_29 (dk_at dksX6_compare_2_0 2 rfl rfl)
theorem dX6_compare_2_3 : decode cX6_compare_2 3 = .ok (.aload_n 1, 1) := dk_43 (dk_at dksX6_compare_2_0 3 rfl rfl)
theorem dX6_compare_2_4 : decode cX6_compare_2 4 = .ok (.getfield 7, 3) := dk_180 0 7 (dk_at dksX6_compare_2_0 4 rfl rfl)
theorem dX6_compare_2_7 : decode cX6_compare_2 7 = .ok (.arraylength, 1) := dk_190 (dk_at dksX6_compare_2_0 7 rfl rfl)
theorem dX6_compare_2_8 : decode cX6_compare_2 8 = .ok (.iconst 1, 1) := dk_4 (dk_at dksX6_compare_2_0 8 rfl rfl)
theorem dX6_compare_2_9 : decode cX6_compare_2 9 = .ok (.isub, 1) := dk_100 (dk_at dksX6_compare_2_0 9 rfl rfl)
theorem dX6_compare_2_10 : decode cX6_compare_2 10 = .ok (.if_icmp .ge 24, 3) := dk_162 0 24 (dk_at dksX6_compare_2_0 10 rfl rfl)
theorem dX6_compare_2_13 : decode cX6_compare_2 13 = .ok (.aload_n 1, 1) := dk_43 (dk_at dksX6_compare_2_0 13 rfl rfl)
theorem dX6_compare_2_14 : decode cX6_compare_2 14 = .ok (.getfield 7, 3) := dk_180 0 7 (dk_at dksX6_compare_2_0 14 rfl rfl)
theorem dX6_compare_2_17 : decode cX6_compare_2 17 = .ok (.iload_n 3, 1) := dk_29 (dk_at dksX6_compare_2_0 17 rfl rfl)
theorem dX6_compare_2_18 : decode cX6_compare_2 18 = .ok (.iaload, 1) := dk_46 (dk_at dksX6_compare_2_0 18 rfl rfl)
theorem dX6_compare_2_19 : decode cX6_compare_2 19 = .ok (.aload_n 2, 1) := dk_44 (dk_at dksX6_compare_2_0 19 rfl rfl)
theorem dX6_compare_2_20 : decode cX6_compare_2 20 = .ok (.getfield 7, 3) := dk_180 0 7 (dk_at dksX6_compare_2_0 20 rfl rfl)
theorem dX6_compare_2_23 : decode cX6_compare_2 23 = .ok (.iload_n 3, 1) := dk_29 (dk_at dksX6_compare_2_0 23 rfl rfl)
theorem dX6_compare_2_24 : decode cX6_compare_2 24 = .ok (.iaload, 1) := dk_46 (dk_at dksX6_compare_2_1 0 rfl rfl)
theorem dX6_compare_2_25 : decode cX6_compare_2 25 = .ok (.if_icmp .ne 9, 3) := dk_160 0 9 (dk_at dksX6_compare_2_1 1 rfl rfl)
theorem dX6_compare_2_28 : decode cX6_compare_2 28 = .ok (.iinc 3 1, 3) := dk_132 3 1 (dk_at dksX6_compare_2_1 4 rfl rfl)
theorem dX6_compare_2_31 : decode cX6_compare_2 31 = .ok (.goto (-29), 3) := dk_167 255 227 (dk_at dksX6_compare_2_1 7 rfl rfl)
theorem dX6_compare_2_34 : decode cX6_compare_2 34 = .ok (.aload_n 1, 1) := dk_43 (dk_at dksX6_compare_2_1 10 rfl rfl)
theorem dX6_compare_2_35 : decode cX6_compare_2 35 = .ok (.getfield 7, 3) := dk_180 0 7 (dk_at dksX6_compare_2_1 11 rfl rfl)
theorem dX6_compare_2_38 : decode cX6_compare_2 38 = .ok (.iload_n 3, 1) := dk_29 (dk_at dksX6_compare_2_1 14 rfl rfl)
theorem dX6_compare_2_39 : decode cX6_compare_2 39 = .ok (.iaload, 1) := dk_46 (dk_at dksX6_compare_2_1 15 rfl rfl)
theorem dX6_compare_2_40 : decode cX6_compare_2 40 = .ok (.aload_n 2, 1) := dk_44 (dk_at dksX6_compare_2_1 16 rfl rfl)
theorem dX6_compare_2_41 : decode cX6_compare_2 41 = .ok (.getfield 7, 3) := dk_180 0 7 (dk_at dksX6_compare_2_1 17 rfl rfl)
theorem dX6_compare_2_44 : decode cX6_compare_2 44 = .ok (.iload_n 3, 1) := dk_29 (dk_at dksX6_compare_2_1 20 rfl rfl)
theorem dX6_compare_2_45 : decode cX6_compare_2 45 = .ok (.iaload, 1) := dk_46 (dk_at dksX6_compare_2_1 21 rfl rfl)
theorem dX6_compare_2_46 : decode cX6_compare_2 46 = .ok (.invokestatic 13, 3) := dk_184 0 13 (dk_at dksX6_compare_2_2 0 rfl rfl)
theorem dX6_compare_2_49 : decode cX6_compare_2 49 = .ok (.ireturn, 1) := dk_172 (dk_at dksX6_compare_2_2 3 rfl rfl)
theorem q106 : (Jvm.Cond.initialized "CourierClash$3") ∈ lw_all := lw_g (lw_at lw_m1 11 rfl) rfl
theorem q241 : (Jvm.Cond.instantiable "CourierClash$3" (0 : Nat)) ∈ lw_all := lw_g (lw_at lw_m1 146 rfl) rfl
theorem q243 : (Jvm.Cond.instanceMethod ({ cls := "CourierClash$3", name := "<init>", desc := "()V" } : Jvm.MethodName)) ∈ lw_all := lw_g (lw_at lw_m1 148 rfl) rfl
theorem q244 : (Jvm.Cond.code ({ cls := "CourierClash$3", name := "<init>", desc := "()V" } : Jvm.MethodName) prog_4_method_1_code (1 : Nat) (Option.none : Option Jvm.ClassFile.FieldType)) ∈ lw_all := lw_g (lw_at lw_m1 149 rfl) rfl
theorem q245 : (Jvm.Cond.methodLink "CourierClash$3" (1 : Nat) ({ cls := "java/lang/Object", name := "<init>", desc := "()V" } : Jvm.MethodName)) ∈ lw_all := lw_g (lw_at lw_m1 150 rfl) rfl
theorem q246 : (Jvm.Cond.superclass "CourierClash$3" "java/lang/Object") ∈ lw_all := lw_g (lw_at lw_m1 151 rfl) rfl
theorem q440 : (Jvm.Cond.fieldLinkNest "CourierClash$3" (7 : Nat) "CourierClash$Position" "row" "[I" "CourierClash") ∈ lw_tbl := lw_at lw_m2 105 rfl
theorem q490 : (Jvm.Cond.castable "CourierClash$3" "java/util/Comparator") ∈ lw_tbl := lw_at lw_m2 155 rfl
theorem q491 : (Jvm.Cond.selects "CourierClash$3" ({ cls := "java/util/Comparator", name := "compare", desc := "(Ljava/lang/Object;Ljava/lang/Object;)I" } : Jvm.MethodName) ({ cls := "CourierClash$3", name := "compare", desc := "(Ljava/lang/Object;Ljava/lang/Object;)I" } : Jvm.MethodName)) ∈ lw_all := lw_g (lw_at lw_m2 156 rfl) rfl
theorem q492 : (Jvm.Cond.unhidden "CourierClash$3" "compare" "(Ljava/lang/Object;Ljava/lang/Object;)I") ∈ lw_tbl := lw_at lw_m2 157 rfl
theorem q493 : (Jvm.Cond.instanceMethod ({ cls := "CourierClash$3", name := "compare", desc := "(Ljava/lang/Object;Ljava/lang/Object;)I" } : Jvm.MethodName)) ∈ lw_all := lw_g (lw_at lw_m2 158 rfl) rfl
theorem q494 : (Jvm.Cond.publicMethod ({ cls := "CourierClash$3", name := "compare", desc := "(Ljava/lang/Object;Ljava/lang/Object;)I" } : Jvm.MethodName)) ∈ lw_tbl := lw_at lw_m2 159 rfl
theorem q495 : (Jvm.Cond.code ({ cls := "CourierClash$3", name := "compare", desc := "(Ljava/lang/Object;Ljava/lang/Object;)I" } : Jvm.MethodName) prog_4_method_3_code (3 : Nat) (Option.some Jvm.ClassFile.FieldType.int)) ∈ lw_all := lw_g (lw_at lw_m2 160 rfl) rfl
theorem q496 : (Jvm.Cond.classLink "CourierClash$3" (8 : Nat) "CourierClash$Position") ∈ lw_all := lw_g (lw_at lw_m2 161 rfl) rfl
theorem q497 : (Jvm.Cond.methodLink "CourierClash$3" (19 : Nat) ({ cls := "CourierClash$3", name := "compare", desc := "(LCourierClash$Position;LCourierClash$Position;)I" } : Jvm.MethodName)) ∈ lw_all := lw_g (lw_at lw_m2 162 rfl) rfl
theorem q498 : (Jvm.Cond.instanceMethod ({ cls := "CourierClash$3", name := "compare", desc := "(LCourierClash$Position;LCourierClash$Position;)I" } : Jvm.MethodName)) ∈ lw_all := lw_g (lw_at lw_m2 163 rfl) rfl
theorem q499 : (Jvm.Cond.selects "CourierClash$3" ({ cls := "CourierClash$3", name := "compare", desc := "(LCourierClash$Position;LCourierClash$Position;)I" } : Jvm.MethodName) ({ cls := "CourierClash$3", name := "compare", desc := "(LCourierClash$Position;LCourierClash$Position;)I" } : Jvm.MethodName)) ∈ lw_all := lw_g (lw_at lw_m2 164 rfl) rfl
theorem q500 : (Jvm.Cond.code ({ cls := "CourierClash$3", name := "compare", desc := "(LCourierClash$Position;LCourierClash$Position;)I" } : Jvm.MethodName) prog_4_method_2_code (4 : Nat) (Option.some Jvm.ClassFile.FieldType.int)) ∈ lw_all := lw_g (lw_at lw_m2 165 rfl) rfl
theorem q501 : (Jvm.Cond.methodLink "CourierClash$3" (13 : Nat) ({ cls := "java/lang/Integer", name := "compare", desc := "(II)I" } : Jvm.MethodName)) ∈ lw_all := lw_g (lw_at lw_m2 166 rfl) rfl
theorem q1316 : (Jvm.Cond.selects "CourierClash$3" ({ cls := "java/lang/Object", name := "getClass", desc := "()Ljava/lang/Class;" } : Jvm.MethodName) ({ cls := "java/lang/Object", name := "getClass", desc := "()Ljava/lang/Class;" } : Jvm.MethodName)) ∈ lw_all := lw_g (lw_at lw_m6 21 rfl) rfl
theorem q2823 : (Jvm.Cond.castable "CourierClash$3" "java/lang/Object") ∈ lw_tbl := lw_at lw_m12 88 rfl

/-! CourierClash$Choice -/
set_option maxRecDepth 100000
def RX16 : String := "CourierClash$Choice"
def TX16 : u_T := fun k => match k with
  | 0 => ("CourierClash$Choice", "parcel", "LCourierClash$Parcel;", true)
  | _ => ("CourierClash$Choice", "way", "I", true)
def tyX16 : Nat → FieldType := fun k => match k with
  | 0 => .object "CourierClash$Parcel"
  | _ => .int
abbrev wsX160 : List Cond := u_ws RX16 TX16 2
theorem nmX16 : ∀ a, a < 2 → ∀ b, b < 2 → a ≠ b → (TX16 a).2.1 ≠ (TX16 b).2.1 := by decide +kernel
theorem tyX16_ok : ∀ k, k < 2 → parseFieldDescriptor (TX16 k).2.2.1 = some (tyX16 k) := by decide +kernel
abbrev cX16_init : ByteArray := prog_6_method_1_code
def yX16_init : MethodName := ⟨RX16, "<init>", "(LCourierClash$Parcel;I)V"⟩
def dkwX16_init_0 : List UInt8 := [42, 183, 0, 1, 42, 43, 181, 0, 7, 42, 28, 181, 0, 13, 177]
abbrev dktX16_init_0 : List UInt8 := dkwX16_init_0 ++ []
theorem dksX16_init_0 : cX16_init.data.toList.drop 0 = dktX16_init_0 := by decide +kernel
theorem dX16_init_0 : decode cX16_init 0 = .ok (.aload_n 0, 1) := dk_42 (dk_at dksX16_init_0 0 rfl rfl)
theorem dX16_init_1 : decode cX16_init 1 = .ok (.invokespecial 1, 3) := dk_183 0 1 (dk_at dksX16_init_0 1 rfl rfl)
theorem dX16_init_4 : decode cX16_init 4 = .ok (.aload_n 0, 1) := dk_42 (dk_at dksX16_init_0 4 rfl rfl)
theorem dX16_init_5 : decode cX16_init 5 = .ok (.aload_n 1, 1) := dk_43 (dk_at dksX16_init_0 5 rfl rfl)
theorem dX16_init_6 : decode cX16_init 6 = .ok (.putfield 7, 3) := dk_181 0 7 (dk_at dksX16_init_0 6 rfl rfl)
theorem dX16_init_9 : decode cX16_init 9 = .ok (.aload_n 0, 1) := dk_42 (dk_at dksX16_init_0 9 rfl rfl)
theorem dX16_init_10 : decode cX16_init 10 = .ok (.iload_n 2, 1) := dk_28 (dk_at dksX16_init_0 10 rfl rfl)
theorem dX16_init_11 : decode cX16_init 11 = .ok (.putfield 13, 3) := dk_181 0 13 (dk_at dksX16_init_0 11 rfl rfl)
theorem dX16_init_14 : decode cX16_init 14 = .ok (.return_, 1) := dk_177 (dk_at dksX16_init_0 14 rfl rfl)
theorem q149 : (Jvm.Cond.initialized "CourierClash$Choice") ∈ lw_all := lw_g (lw_at lw_m1 54 rfl) rfl
theorem q1318 : (Jvm.Cond.selects "CourierClash$Choice" ({ cls := "java/lang/Object", name := "getClass", desc := "()Ljava/lang/Class;" } : Jvm.MethodName) ({ cls := "java/lang/Object", name := "getClass", desc := "()Ljava/lang/Class;" } : Jvm.MethodName)) ∈ lw_all := lw_g (lw_at lw_m6 23 rfl) rfl
theorem q2281 : (Jvm.Cond.instantiable "CourierClash$Choice" (2 : Nat)) ∈ lw_all := lw_g (lw_at lw_m10 26 rfl) rfl
theorem q2283 : (Jvm.Cond.instanceMethod ({ cls := "CourierClash$Choice", name := "<init>", desc := "(LCourierClash$Parcel;I)V" } : Jvm.MethodName)) ∈ lw_all := lw_g (lw_at lw_m10 28 rfl) rfl
theorem q2284 : (Jvm.Cond.code ({ cls := "CourierClash$Choice", name := "<init>", desc := "(LCourierClash$Parcel;I)V" } : Jvm.MethodName) prog_6_method_1_code (3 : Nat) (Option.none : Option Jvm.ClassFile.FieldType)) ∈ lw_all := lw_g (lw_at lw_m10 29 rfl) rfl
theorem q2285 : (Jvm.Cond.methodLink "CourierClash$Choice" (1 : Nat) ({ cls := "java/lang/Object", name := "<init>", desc := "()V" } : Jvm.MethodName)) ∈ lw_all := lw_g (lw_at lw_m10 30 rfl) rfl
theorem q2286 : (Jvm.Cond.fieldLink "CourierClash$Choice" (7 : Nat) "CourierClash$Choice" "parcel" "LCourierClash$Parcel;") ∈ lw_all := lw_g (lw_at lw_m10 31 rfl) rfl
theorem q2289 : (Jvm.Cond.fieldLink "CourierClash$Choice" (13 : Nat) "CourierClash$Choice" "way" "I") ∈ lw_all := lw_g (lw_at lw_m10 34 rfl) rfl
theorem q2291 : (Jvm.Cond.laysFinal "CourierClash$Choice" "CourierClash$Choice" "parcel" "LCourierClash$Parcel;") ∈ lw_all := lw_g (lw_at lw_m10 36 rfl) rfl
theorem q2292 : (Jvm.Cond.soleField "CourierClash$Choice" "parcel") ∈ lw_all := lw_g (lw_at lw_m10 37 rfl) rfl
theorem q2293 : (Jvm.Cond.laysFinal "CourierClash$Choice" "CourierClash$Choice" "way" "I") ∈ lw_all := lw_g (lw_at lw_m10 38 rfl) rfl
theorem q2294 : (Jvm.Cond.soleField "CourierClash$Choice" "way") ∈ lw_all := lw_g (lw_at lw_m10 39 rfl) rfl
theorem q2295 : (Jvm.Cond.superclass "CourierClash$Choice" "java/lang/Object") ∈ lw_all := lw_g (lw_at lw_m10 40 rfl) rfl
theorem q2847 : (Jvm.Cond.castable "CourierClash$Choice" "java/lang/Object") ∈ lw_tbl := lw_at lw_m12 112 rfl
theorem in_X16 : ∀ w ∈ wsX160, w ∈ lw_all := lw_in wsX160 [2291, 2293] (by decide +kernel) (by decide +kernel)

/-! CourierClash$Position -/
set_option maxRecDepth 100000
def RX8 : String := "CourierClash$Position"
def TX8 : u_T := fun k => match k with
  | _ => ("CourierClash$Position", "row", "[I", true)
def tyX8 : Nat → FieldType := fun k => match k with
  | _ => .array .int
abbrev wsX80 : List Cond := u_ws RX8 TX8 1
theorem nmX8 : ∀ a, a < 1 → ∀ b, b < 1 → a ≠ b → (TX8 a).2.1 ≠ (TX8 b).2.1 := by decide +kernel
theorem tyX8_ok : ∀ k, k < 1 → parseFieldDescriptor (TX8 k).2.2.1 = some (tyX8 k) := by decide +kernel
abbrev cX8_init : ByteArray := prog_10_method_1_code
def yX8_init : MethodName := ⟨RX8, "<init>", "([I)V"⟩
def dkwX8_init_0 : List UInt8 := [42, 183, 0, 1, 42, 43, 182, 0, 7, 192, 0, 8, 181, 0, 13, 177]
abbrev dktX8_init_0 : List UInt8 := dkwX8_init_0 ++ []
theorem dksX8_init_0 : cX8_init.data.toList.drop 0 = dktX8_init_0 := by decide +kernel
theorem dX8_init_0 : decode cX8_init 0 = .ok (.aload_n 0, 1) := dk_42 (dk_at dksX8_init_0 0 rfl rfl)
theorem dX8_init_1 : decode cX8_init 1 = .ok (.invokespecial 1, 3) := dk_183 0 1 (dk_at dksX8_init_0 1 rfl rfl)
theorem dX8_init_4 : decode cX8_init 4 = .ok (.aload_n 0, 1) := dk_42 (dk_at dksX8_init_0 4 rfl rfl)
theorem dX8_init_5 : decode cX8_init 5 = .ok (.aload_n 1, 1) := dk_43 (dk_at dksX8_init_0 5 rfl rfl)
theorem dX8_init_6 : decode cX8_init 6 = .ok (.invokevirtual 7, 3) := dk_182 0 7 (dk_at dksX8_init_0 6 rfl rfl)
theorem dX8_init_9 : decode cX8_init 9 = .ok (.checkcast 8, 3) := dk_192 0 8 (dk_at dksX8_init_0 9 rfl rfl)
theorem dX8_init_12 : decode cX8_init 12 = .ok (.putfield 13, 3) := dk_181 0 13 (dk_at dksX8_init_0 12 rfl rfl)
theorem dX8_init_15 : decode cX8_init 15 = .ok (.return_, 1) := dk_177 (dk_at dksX8_init_0 15 rfl rfl)
theorem q114 : (Jvm.Cond.initialized "CourierClash$Position") ∈ lw_all := lw_g (lw_at lw_m1 19 rfl) rfl
theorem q427 : (Jvm.Cond.instantiable "CourierClash$Position" (1 : Nat)) ∈ lw_all := lw_g (lw_at lw_m2 92 rfl) rfl
theorem q429 : (Jvm.Cond.instanceMethod ({ cls := "CourierClash$Position", name := "<init>", desc := "([I)V" } : Jvm.MethodName)) ∈ lw_all := lw_g (lw_at lw_m2 94 rfl) rfl
theorem q430 : (Jvm.Cond.code ({ cls := "CourierClash$Position", name := "<init>", desc := "([I)V" } : Jvm.MethodName) prog_10_method_1_code (2 : Nat) (Option.none : Option Jvm.ClassFile.FieldType)) ∈ lw_all := lw_g (lw_at lw_m2 95 rfl) rfl
theorem q431 : (Jvm.Cond.methodLink "CourierClash$Position" (1 : Nat) ({ cls := "java/lang/Object", name := "<init>", desc := "()V" } : Jvm.MethodName)) ∈ lw_all := lw_g (lw_at lw_m2 96 rfl) rfl
theorem q432 : (Jvm.Cond.methodLink "CourierClash$Position" (7 : Nat) ({ cls := "[I", name := "clone", desc := "()Ljava/lang/Object;" } : Jvm.MethodName)) ∈ lw_all := lw_g (lw_at lw_m2 97 rfl) rfl
theorem q438 : (Jvm.Cond.classLink "CourierClash$Position" (8 : Nat) "[I") ∈ lw_all := lw_g (lw_at lw_m2 103 rfl) rfl
theorem q439 : (Jvm.Cond.fieldLink "CourierClash$Position" (13 : Nat) "CourierClash$Position" "row" "[I") ∈ lw_all := lw_g (lw_at lw_m2 104 rfl) rfl
theorem q441 : (Jvm.Cond.laysFinal "CourierClash$Position" "CourierClash$Position" "row" "[I") ∈ lw_all := lw_g (lw_at lw_m2 106 rfl) rfl
theorem q442 : (Jvm.Cond.soleField "CourierClash$Position" "row") ∈ lw_all := lw_g (lw_at lw_m2 107 rfl) rfl
theorem q443 : (Jvm.Cond.superclass "CourierClash$Position" "java/lang/Object") ∈ lw_all := lw_g (lw_at lw_m2 108 rfl) rfl
theorem q1322 : (Jvm.Cond.selects "CourierClash$Position" ({ cls := "java/lang/Object", name := "getClass", desc := "()Ljava/lang/Class;" } : Jvm.MethodName) ({ cls := "java/lang/Object", name := "getClass", desc := "()Ljava/lang/Class;" } : Jvm.MethodName)) ∈ lw_all := lw_g (lw_at lw_m6 27 rfl) rfl
theorem q2826 : (Jvm.Cond.castable "CourierClash$Position" "java/lang/Object") ∈ lw_tbl := lw_at lw_m12 91 rfl
theorem in_X8 : ∀ w ∈ wsX80, w ∈ lw_all := lw_in wsX80 [441] (by decide +kernel) (by decide +kernel)

/-! CourierClash$Ways -/
set_option maxRecDepth 100000
def RX7 : String := "CourierClash$Ways"
def TX7 : u_T := fun k => match k with
  | 0 => ("CourierClash$Ways", "far", "[I", true)
  | 1 => ("CourierClash$Ways", "order", "[I", true)
  | _ => ("CourierClash$Ways", "many", "I", false)
def tyX7 : Nat → FieldType := fun k => match k with
  | 0 => .array .int
  | 1 => .array .int
  | _ => .int
abbrev wsX70 : List Cond := u_ws RX7 TX7 3
theorem nmX7 : ∀ a, a < 3 → ∀ b, b < 3 → a ≠ b → (TX7 a).2.1 ≠ (TX7 b).2.1 := by decide +kernel
theorem tyX7_ok : ∀ k, k < 3 → parseFieldDescriptor (TX7 k).2.2.1 = some (tyX7 k) := by decide +kernel
abbrev cX7_init : ByteArray := prog_15_method_1_code
def yX7_init : MethodName := ⟨RX7, "<init>", "()V"⟩
def dkwX7_init_0 : List UInt8 := [42, 183, 0, 3, 42, 16, 10, 188, 10, 181, 0, 9, 42, 16, 10, 188, 10, 181, 0, 15, 177]
abbrev dktX7_init_0 : List UInt8 := dkwX7_init_0 ++ []
theorem dksX7_init_0 : cX7_init.data.toList.drop 0 = dktX7_init_0 := by decide +kernel
theorem dX7_init_0 : decode cX7_init 0 = .ok (.aload_n 0, 1) := dk_42 (dk_at dksX7_init_0 0 rfl rfl)
theorem dX7_init_1 : decode cX7_init 1 = .ok (.invokespecial 3, 3) := dk_183 0 3 (dk_at dksX7_init_0 1 rfl rfl)
theorem dX7_init_4 : decode cX7_init 4 = .ok (.aload_n 0, 1) := dk_42 (dk_at dksX7_init_0 4 rfl rfl)
theorem dX7_init_5 : decode cX7_init 5 = .ok (.bipush 10, 2) := dk_16 10 (dk_at dksX7_init_0 5 rfl rfl)
theorem dX7_init_7 : decode cX7_init 7 = .ok (.newarray .int, 2) := dk_188_10 (dk_at dksX7_init_0 7 rfl rfl)
theorem dX7_init_9 : decode cX7_init 9 = .ok (.putfield 9, 3) := dk_181 0 9 (dk_at dksX7_init_0 9 rfl rfl)
theorem dX7_init_12 : decode cX7_init 12 = .ok (.aload_n 0, 1) := dk_42 (dk_at dksX7_init_0 12 rfl rfl)
theorem dX7_init_13 : decode cX7_init 13 = .ok (.bipush 10, 2) := dk_16 10 (dk_at dksX7_init_0 13 rfl rfl)
theorem dX7_init_15 : decode cX7_init 15 = .ok (.newarray .int, 2) := dk_188_10 (dk_at dksX7_init_0 15 rfl rfl)
theorem dX7_init_17 : decode cX7_init 17 = .ok (.putfield 15, 3) := dk_181 0 15 (dk_at dksX7_init_0 17 rfl rfl)
theorem dX7_init_20 : decode cX7_init 20 = .ok (.return_, 1) := dk_177 (dk_at dksX7_init_0 20 rfl rfl)
abbrev cX7_go : ByteArray := prog_15_method_2_code
def yX7_go : MethodName := ⟨RX7, "go", "(LCourierClash$Game;LCourierClash$Vehicle;I)LCourierClash$Ways;"⟩
def dkwX7_go_2 : List UInt8 := [43, 44, 42, 180, 0, 15, 21, 4, 46, 182, 0, 26, 132, 4, 1, 167, 255, 231, 42, 176]
abbrev dktX7_go_2 : List UInt8 := dkwX7_go_2 ++ []
def dkwX7_go_1 : List UInt8 := [42, 3, 181, 0, 18, 42, 29, 3, 182, 0, 22, 3, 54, 4, 21, 4, 42, 180, 0, 18, 162, 0, 22, 42]
abbrev dktX7_go_1 : List UInt8 := dkwX7_go_1 ++ dktX7_go_2
def dkwX7_go_0 : List UInt8 := [3, 54, 4, 21, 4, 16, 10, 162, 0, 17, 42, 180, 0, 9, 21, 4, 2, 79, 132, 4, 1, 167, 255, 238]
abbrev dktX7_go_0 : List UInt8 := dkwX7_go_0 ++ dktX7_go_1
theorem dksX7_go_0 : cX7_go.data.toList.drop 0 = dktX7_go_0 := by decide +kernel
theorem dksX7_go_1 : cX7_go.data.toList.drop 24 = dktX7_go_1 := dk_seg dksX7_go_0 24 rfl rfl
theorem dksX7_go_2 : cX7_go.data.toList.drop 48 = dktX7_go_2 := dk_seg dksX7_go_1 24 rfl rfl
theorem dX7_go_0 : decode cX7_go 0 = .ok (.iconst 0, 1) := dk_3 (dk_at dksX7_go_0 0 rfl rfl)
theorem dX7_go_1 : decode cX7_go 1 = .ok (.istore 4, 2) := dk_54 4 (dk_at dksX7_go_0 1 rfl rfl)
theorem dX7_go_3 : decode cX7_go 3 = .ok (.iload 4, 2) := dk_21 4 (dk_at dksX7_go_0 3 rfl rfl)
theorem dX7_go_5 : decode cX7_go 5 = .ok (.bipush 10, 2) := dk_16 10 (dk_at dksX7_go_0 5 rfl rfl)
theorem dX7_go_7 : decode cX7_go 7 = .ok (.if_icmp .ge 17, 3) := dk_162 0 17 (dk_at dksX7_go_0 7 rfl rfl)
theorem dX7_go_10 : decode cX7_go 10 = .ok (.aload_n 0, 1) := dk_42 (dk_at dksX7_go_0 10 rfl rfl)
theorem dX7_go_11 : decode cX7_go 11 = .ok (.getfield 9, 3) := dk_180 0 9 (dk_at dksX7_go_0 11 rfl rfl)
theorem dX7_go_14 : decode cX7_go 14 = .ok (.iload 4, 2) := dk_21 4 (dk_at dksX7_go_0 14 rfl rfl)
theorem dX7_go_16 : decode cX7_go 16 = .ok (.iconst (-1), 1) := dk_2 (dk_at dksX7_go_0 16 rfl rfl)
theorem dX7_go_17 : decode cX7_go 17 = .ok (.iastore, 1) := dk_79 (dk_at dksX7_go_0 17 rfl rfl)
theorem dX7_go_18 : decode cX7_go 18 = .ok (.iinc 4 1, 3) := dk_132 4 1 (dk_at dksX7_go_0 18 rfl rfl)
theorem dX7_go_21 : decode cX7_go 21 = .ok (.goto (-18), 3) := dk_167 255 238 (dk_at dksX7_go_0 21 rfl rfl)
theorem dX7_go_24 : decode cX7_go 24 = .ok (.aload_n 0, 1) := dk_42 (dk_at dksX7_go_1 0 rfl rfl)
theorem dX7_go_25 : decode cX7_go 25 = .ok (.iconst 0, 1) := dk_3 (dk_at dksX7_go_1 1 rfl rfl)
theorem dX7_go_26 : decode cX7_go 26 = .ok (.putfield 18, 3) := dk_181 0 18 (dk_at dksX7_go_1 2 rfl rfl)
theorem dX7_go_29 : decode cX7_go 29 = .ok (.aload_n 0, 1) := dk_42 (dk_at dksX7_go_1 5 rfl rfl)
theorem dX7_go_30 : decode cX7_go 30 = .ok (.iload_n 3, 1) := dk_29 (dk_at dksX7_go_1 6 rfl rfl)
theorem dX7_go_31 : decode cX7_go 31 = .ok (.iconst 0, 1) := dk_3 (dk_at dksX7_go_1 7 rfl rfl)
theorem dX7_go_32 : decode cX7_go 32 = .ok (.invokevirtual 22, 3) := dk_182 0 22 (dk_at dksX7_go_1 8 rfl rfl)
theorem dX7_go_35 : decode cX7_go 35 = .ok (.iconst 0, 1) := dk_3 (dk_at dksX7_go_1 11 rfl rfl)
theorem dX7_go_36 : decode cX7_go 36 = .ok (.istore 4, 2) := dk_54 4 (dk_at dksX7_go_1 12 rfl rfl)
theorem dX7_go_38 : decode cX7_go 38 = .ok (.iload 4, 2) := dk_21 4 (dk_at dksX7_go_1 14 rfl rfl)
theorem dX7_go_40 : decode cX7_go 40 = .ok (.aload_n 0, 1) := dk_42 (dk_at dksX7_go_1 16 rfl rfl)
theorem dX7_go_41 : decode cX7_go 41 = .ok (.getfield 18, 3) := dk_180 0 18 (dk_at dksX7_go_1 17 rfl rfl)
theorem dX7_go_44 : decode cX7_go 44 = .ok (.if_icmp .ge 22, 3) := dk_162 0 22 (dk_at dksX7_go_1 20 rfl rfl)
theorem dX7_go_47 : decode cX7_go 47 = .ok (.aload_n 0, 1) := dk_42 (dk_at dksX7_go_1 23 rfl rfl)
theorem dX7_go_48 : decode cX7_go 48 = .ok (.aload_n 1, 1) := dk_43 (dk_at dksX7_go_2 0 rfl rfl)
theorem dX7_go_49 : decode cX7_go 49 = .ok (.aload_n 2, 1) := dk_44 (dk_at dksX7_go_2 1 rfl rfl)
theorem dX7_go_50 : decode cX7_go 50 = .ok (.aload_n 0, 1) := dk_42 (dk_at dksX7_go_2 2 rfl rfl)
theorem dX7_go_51 : decode cX7_go 51 = .ok (.getfield 15, 3) := dk_180 0 15 (dk_at dksX7_go_2 3 rfl rfl)
theorem dX7_go_54 : decode cX7_go 54 = .ok (.iload 4, 2) := dk_21 4 (dk_at dksX7_go_2 6 rfl rfl)
theorem dX7_go_56 : decode cX7_go 56 = .ok (.iaload, 1) := dk_46 (dk_at dksX7_go_2 8 rfl rfl)
theorem dX7_go_57 : decode cX7_go 57 = .ok (.invokevirtual 26, 3) := dk_182 0 26 (dk_at dksX7_go_2 9 rfl rfl)
theorem dX7_go_60 : decode cX7_go 60 = .ok (.iinc 4 1, 3) := dk_132 4 1 (dk_at dksX7_go_2 12 rfl rfl)
theorem dX7_go_63 : decode cX7_go 63 = .ok (.goto (-25), 3) := dk_167 255 231 (dk_at dksX7_go_2 15 rfl rfl)
theorem dX7_go_66 : decode cX7_go 66 = .ok (.aload_n 0, 1) := dk_42 (dk_at dksX7_go_2 18 rfl rfl)
theorem dX7_go_67 : decode cX7_go 67 = .ok (.areturn, 1) := dk_176 (dk_at dksX7_go_2 19 rfl rfl)
abbrev cX7_come : ByteArray := prog_15_method_3_code
def yX7_come : MethodName := ⟨RX7, "come", "(II)V"⟩
def dkwX7_come_1 : List UInt8 := [181, 0, 18, 177]
abbrev dktX7_come_1 : List UInt8 := dkwX7_come_1 ++ []
def dkwX7_come_0 : List UInt8 := [42, 180, 0, 9, 27, 28, 79, 42, 180, 0, 15, 42, 180, 0, 18, 27, 79, 42, 89, 180, 0, 18, 4, 96]
abbrev dktX7_come_0 : List UInt8 := dkwX7_come_0 ++ dktX7_come_1
theorem dksX7_come_0 : cX7_come.data.toList.drop 0 = dktX7_come_0 := by decide +kernel
theorem dksX7_come_1 : cX7_come.data.toList.drop 24 = dktX7_come_1 := dk_seg dksX7_come_0 24 rfl rfl
theorem dX7_come_0 : decode cX7_come 0 = .ok (.aload_n 0, 1) := dk_42 (dk_at dksX7_come_0 0 rfl rfl)
theorem dX7_come_1 : decode cX7_come 1 = .ok (.getfield 9, 3) := dk_180 0 9 (dk_at dksX7_come_0 1 rfl rfl)
theorem dX7_come_4 : decode cX7_come 4 = .ok (.iload_n 1, 1) := dk_27 (dk_at dksX7_come_0 4 rfl rfl)
theorem dX7_come_5 : decode cX7_come 5 = .ok (.iload_n 2, 1) := dk_28 (dk_at dksX7_come_0 5 rfl rfl)
theorem dX7_come_6 : decode cX7_come 6 = .ok (.iastore, 1) := dk_79 (dk_at dksX7_come_0 6 rfl rfl)
theorem dX7_come_7 : decode cX7_come 7 = .ok (.aload_n 0, 1) := dk_42 (dk_at dksX7_come_0 7 rfl rfl)
theorem dX7_come_8 : decode cX7_come 8 = .ok (.getfield 15, 3) := dk_180 0 15 (dk_at dksX7_come_0 8 rfl rfl)
theorem dX7_come_11 : decode cX7_come 11 = .ok (.aload_n 0, 1) := dk_42 (dk_at dksX7_come_0 11 rfl rfl)
theorem dX7_come_12 : decode cX7_come 12 = .ok (.getfield 18, 3) := dk_180 0 18 (dk_at dksX7_come_0 12 rfl rfl)
theorem dX7_come_15 : decode cX7_come 15 = .ok (.iload_n 1, 1) := dk_27 (dk_at dksX7_come_0 15 rfl rfl)
theorem dX7_come_16 : decode cX7_come 16 = .ok (.iastore, 1) := dk_79 (dk_at dksX7_come_0 16 rfl rfl)
theorem dX7_come_17 : decode cX7_come 17 = .ok (.aload_n 0, 1) := dk_42 (dk_at dksX7_come_0 17 rfl rfl)
theorem dX7_come_18 : decode cX7_come 18 = .ok (.dup, 1) := dk_89 (dk_at dksX7_come_0 18 rfl rfl)
theorem dX7_come_19 : decode cX7_come 19 = .ok (.getfield 18, 3) := dk_180 0 18 (dk_at dksX7_come_0 19 rfl rfl)
theorem dX7_come_22 : decode cX7_come 22 = .ok (.iconst 1, 1) := dk_4 (dk_at dksX7_come_0 22 rfl rfl)
theorem dX7_come_23 : decode cX7_come 23 = .ok (.iadd, 1) := dk_96 (dk_at dksX7_come_0 23 rfl rfl)
theorem dX7_come_24 : decode cX7_come 24 = .ok (.putfield 18, 3) := dk_181 0 18 (dk_at dksX7_come_1 0 rfl rfl)
theorem dX7_come_27 : decode cX7_come 27 = .ok (.return_, 1) := dk_177 (dk_at dksX7_come_1 3 rfl rfl)
abbrev cX7_goOn : ByteArray := prog_15_method_4_code
def yX7_goOn : MethodName := ⟨RX7, "goOn", "(LCourierClash$Game;LCourierClash$Vehicle;I)V"⟩
def dkwX7_goOn_3 : List UInt8 := [46, 4, 96, 182, 0, 22, 132, 4, 1, 167, 255, 178, 177]
abbrev dktX7_goOn_3 : List UInt8 := dkwX7_goOn_3 ++ []
def dkwX7_goOn_2 : List UInt8 := [180, 0, 9, 25, 5, 180, 0, 55, 46, 2, 160, 0, 20, 42, 25, 5, 180, 0, 55, 42, 180, 0, 9, 29]
abbrev dktX7_goOn_2 : List UInt8 := dkwX7_goOn_2 ++ dktX7_goOn_3
def dkwX7_goOn_1 : List UInt8 := [192, 0, 46, 58, 5, 25, 5, 180, 0, 48, 29, 160, 0, 43, 25, 5, 44, 182, 0, 51, 153, 0, 34, 42]
abbrev dktX7_goOn_1 : List UInt8 := dkwX7_goOn_1 ++ dktX7_goOn_2
def dkwX7_goOn_0 : List UInt8 := [3, 54, 4, 21, 4, 43, 180, 0, 30, 182, 0, 36, 162, 0, 72, 43, 180, 0, 30, 21, 4, 182, 0, 42]
abbrev dktX7_goOn_0 : List UInt8 := dkwX7_goOn_0 ++ dktX7_goOn_1
theorem dksX7_goOn_0 : cX7_goOn.data.toList.drop 0 = dktX7_goOn_0 := by decide +kernel
theorem dksX7_goOn_1 : cX7_goOn.data.toList.drop 24 = dktX7_goOn_1 := dk_seg dksX7_goOn_0 24 rfl rfl
theorem dksX7_goOn_2 : cX7_goOn.data.toList.drop 48 = dktX7_goOn_2 := dk_seg dksX7_goOn_1 24 rfl rfl
theorem dksX7_goOn_3 : cX7_goOn.data.toList.drop 72 = dktX7_goOn_3 := dk_seg dksX7_goOn_2 24 rfl rfl
theorem dX7_goOn_0 : decode cX7_goOn 0 = .ok (.iconst 0, 1) := dk_3 (dk_at dksX7_goOn_0 0 rfl rfl)
theorem dX7_goOn_1 : decode cX7_goOn 1 = .ok (.istore 4, 2) := dk_54 4 (dk_at dksX7_goOn_0 1 rfl rfl)
theorem dX7_goOn_3 : decode cX7_goOn 3 = .ok (.iload 4, 2) := dk_21 4 (dk_at dksX7_goOn_0 3 rfl rfl)
theorem dX7_goOn_5 : decode cX7_goOn 5 = .ok (.aload_n 1, 1) := dk_43 (dk_at dksX7_goOn_0 5 rfl rfl)
theorem dX7_goOn_6 : decode cX7_goOn 6 = .ok (.getfield 30, 3) := dk_180 0 30 (dk_at dksX7_goOn_0 6 rfl rfl)
theorem dX7_goOn_9 : decode cX7_goOn 9 = .ok (.invokevirtual 36, 3) := dk_182 0 36 (dk_at dksX7_goOn_0 9 rfl rfl)
theorem dX7_goOn_12 : decode cX7_goOn 12 = .ok (.if_icmp .ge 72, 3) := dk_162 0 72 (dk_at dksX7_goOn_0 12 rfl rfl)
theorem dX7_goOn_15 : decode cX7_goOn 15 = .ok (.aload_n 1, 1) := dk_43 (dk_at dksX7_goOn_0 15 rfl rfl)
theorem dX7_goOn_16 : decode cX7_goOn 16 = .ok (.getfield 30, 3) := dk_180 0 30 (dk_at dksX7_goOn_0 16 rfl rfl)
theorem dX7_goOn_19 : decode cX7_goOn 19 = .ok (.iload 4, 2) := dk_21 4 (dk_at dksX7_goOn_0 19 rfl rfl)
theorem dX7_goOn_21 : decode cX7_goOn 21 = .ok (.invokevirtual 42, 3) := dk_182 0 42 (dk_at dksX7_goOn_0 21 rfl rfl)
theorem dX7_goOn_24 : decode cX7_goOn 24 = .ok (.checkcast 46, 3) := dk_192 0 46 (dk_at dksX7_goOn_1 0 rfl rfl)
theorem dX7_goOn_27 : decode cX7_goOn 27 = .ok (.astore 5, 2) := dk_58 5 (dk_at dksX7_goOn_1 3 rfl rfl)
theorem dX7_goOn_29 : decode cX7_goOn 29 = .ok (.aload 5, 2) := dk_25 5 (dk_at dksX7_goOn_1 5 rfl rfl)
theorem dX7_goOn_31 : decode cX7_goOn 31 = .ok (.getfield 48, 3) := dk_180 0 48 (dk_at dksX7_goOn_1 7 rfl rfl)
theorem dX7_goOn_34 : decode cX7_goOn 34 = .ok (.iload_n 3, 1) := dk_29 (dk_at dksX7_goOn_1 10 rfl rfl)
theorem dX7_goOn_35 : decode cX7_goOn 35 = .ok (.if_icmp .ne 43, 3) := dk_160 0 43 (dk_at dksX7_goOn_1 11 rfl rfl)
theorem dX7_goOn_38 : decode cX7_goOn 38 = .ok (.aload 5, 2) := dk_25 5 (dk_at dksX7_goOn_1 14 rfl rfl)
theorem dX7_goOn_40 : decode cX7_goOn 40 = .ok (.aload_n 2, 1) := dk_44 (dk_at dksX7_goOn_1 16 rfl rfl)
theorem dX7_goOn_41 : decode cX7_goOn 41 = .ok (.invokevirtual 51, 3) := dk_182 0 51 (dk_at dksX7_goOn_1 17 rfl rfl)
theorem dX7_goOn_44 : decode cX7_goOn 44 = .ok (.ifCond .eq 34, 3) := dk_153 0 34 (dk_at dksX7_goOn_1 20 rfl rfl)
theorem dX7_goOn_47 : decode cX7_goOn 47 = .ok (.aload_n 0, 1) := dk_42 (dk_at dksX7_goOn_1 23 rfl rfl)
theorem dX7_goOn_48 : decode cX7_goOn 48 = .ok (.getfield 9, 3) := dk_180 0 9 (dk_at dksX7_goOn_2 0 rfl rfl)
theorem dX7_goOn_51 : decode cX7_goOn 51 = .ok (.aload 5, 2) := dk_25 5 (dk_at dksX7_goOn_2 3 rfl rfl)
theorem dX7_goOn_53 : decode cX7_goOn 53 = .ok (.getfield 55, 3) := dk_180 0 55 (dk_at dksX7_goOn_2 5 rfl rfl)
theorem dX7_goOn_56 : decode cX7_goOn 56 = .ok (.iaload, 1) := dk_46 (dk_at dksX7_goOn_2 8 rfl rfl)
theorem dX7_goOn_57 : decode cX7_goOn 57 = .ok (.iconst (-1), 1) := dk_2 (dk_at dksX7_goOn_2 9 rfl rfl)
theorem dX7_goOn_58 : decode cX7_goOn 58 = .ok (.if_icmp .ne 20, 3) := dk_160 0 20 (dk_at dksX7_goOn_2 10 rfl rfl)
theorem dX7_goOn_61 : decode cX7_goOn 61 = .ok (.aload_n 0, 1) := dk_42 (dk_at dksX7_goOn_2 13 rfl rfl)
theorem dX7_goOn_62 : decode cX7_goOn 62 = .ok (.aload 5, 2) := dk_25 5 (dk_at dksX7_goOn_2 14 rfl rfl)
theorem dX7_goOn_64 : decode cX7_goOn 64 = .ok (.getfield 55, 3) := dk_180 0 55 (dk_at dksX7_goOn_2 16 rfl rfl)
theorem dX7_goOn_67 : decode cX7_goOn 67 = .ok (.aload_n 0, 1) := dk_42 (dk_at dksX7_goOn_2 19 rfl rfl)
theorem dX7_goOn_68 : decode cX7_goOn 68 = .ok (.getfield 9, 3) := dk_180 0 9 (dk_at dksX7_goOn_2 20 rfl rfl)
theorem dX7_goOn_71 : decode cX7_goOn 71 = .ok (.iload_n 3, 1) := dk_29 (dk_at dksX7_goOn_2 23 rfl rfl)
theorem dX7_goOn_72 : decode cX7_goOn 72 = .ok (.iaload, 1) := dk_46 (dk_at dksX7_goOn_3 0 rfl rfl)
theorem dX7_goOn_73 : decode cX7_goOn 73 = .ok (.iconst 1, 1) := dk_4 (dk_at dksX7_goOn_3 1 rfl rfl)
theorem dX7_goOn_74 : decode cX7_goOn 74 = .ok (.iadd, 1) := dk_96 (dk_at dksX7_goOn_3 2 rfl rfl)
theorem dX7_goOn_75 : decode cX7_goOn 75 = .ok (.invokevirtual 22, 3) := dk_182 0 22 (dk_at dksX7_goOn_3 3 rfl rfl)
theorem dX7_goOn_78 : decode cX7_goOn 78 = .ok (.iinc 4 1, 3) := dk_132 4 1 (dk_at dksX7_goOn_3 6 rfl rfl)
theorem dX7_goOn_81 : decode cX7_goOn 81 = .ok (.goto (-78), 3) := dk_167 255 178 (dk_at dksX7_goOn_3 9 rfl rfl)
theorem dX7_goOn_84 : decode cX7_goOn 84 = .ok (.return_, 1) := dk_177 (dk_at dksX7_goOn_3 12 rfl rfl)
abbrev cX7_mask : ByteArray := prog_15_method_5_code
def yX7_mask : MethodName := ⟨RX7, "mask", "()I"⟩
def dkwX7_mask_1 : List UInt8 := [167, 0, 6, 4, 28, 120, 128, 60, 132, 2, 1, 167, 255, 227, 27, 172]
abbrev dktX7_mask_1 : List UInt8 := dkwX7_mask_1 ++ []
def dkwX7_mask_0 : List UInt8 := [3, 60, 3, 61, 28, 16, 10, 162, 0, 29, 27, 42, 180, 0, 9, 28, 46, 2, 160, 0, 7, 3]
abbrev dktX7_mask_0 : List UInt8 := dkwX7_mask_0 ++ dktX7_mask_1
theorem dksX7_mask_0 : cX7_mask.data.toList.drop 0 = dktX7_mask_0 := by decide +kernel
theorem dksX7_mask_1 : cX7_mask.data.toList.drop 22 = dktX7_mask_1 := dk_seg dksX7_mask_0 22 rfl rfl
theorem dX7_mask_0 : decode cX7_mask 0 = .ok (.iconst 0, 1) := dk_3 (dk_at dksX7_mask_0 0 rfl rfl)
theorem dX7_mask_1 : decode cX7_mask 1 = .ok (.istore_n 1, 1) := dk_60 (dk_at dksX7_mask_0 1 rfl rfl)
theorem dX7_mask_2 : decode cX7_mask 2 = .ok (.iconst 0, 1) := dk_3 (dk_at dksX7_mask_0 2 rfl rfl)
theorem dX7_mask_3 : decode cX7_mask 3 = .ok (.istore_n 2, 1) := dk_61 (dk_at dksX7_mask_0 3 rfl rfl)
theorem dX7_mask_4 : decode cX7_mask 4 = .ok (.iload_n 2, 1) := dk_28 (dk_at dksX7_mask_0 4 rfl rfl)
theorem dX7_mask_5 : decode cX7_mask 5 = .ok (.bipush 10, 2) := dk_16 10 (dk_at dksX7_mask_0 5 rfl rfl)
theorem dX7_mask_7 : decode cX7_mask 7 = .ok (.if_icmp .ge 29, 3) := dk_162 0 29 (dk_at dksX7_mask_0 7 rfl rfl)
theorem dX7_mask_10 : decode cX7_mask 10 = .ok (.iload_n 1, 1) := dk_27 (dk_at dksX7_mask_0 10 rfl rfl)
theorem dX7_mask_11 : decode cX7_mask 11 = .ok (.aload_n 0, 1) := dk_42 (dk_at dksX7_mask_0 11 rfl rfl)
theorem dX7_mask_12 : decode cX7_mask 12 = .ok (.getfield 9, 3) := dk_180 0 9 (dk_at dksX7_mask_0 12 rfl rfl)
theorem dX7_mask_15 : decode cX7_mask 15 = .ok (.iload_n 2, 1) := dk_28 (dk_at dksX7_mask_0 15 rfl rfl)
theorem dX7_mask_16 : decode cX7_mask 16 = .ok (.iaload, 1) := dk_46 (dk_at dksX7_mask_0 16 rfl rfl)
theorem dX7_mask_17 : decode cX7_mask 17 = .ok (.iconst (-1), 1) := dk_2 (dk_at dksX7_mask_0 17 rfl rfl)
theorem dX7_mask_18 : decode cX7_mask 18 = .ok (.if_icmp .ne 7, 3) := dk_160 0 7 (dk_at dksX7_mask_0 18 rfl rfl)
theorem dX7_mask_21 : decode cX7_mask 21 = .ok (.iconst 0, 1) := dk_3 (dk_at dksX7_mask_0 21 rfl rfl)
theorem dX7_mask_22 : decode cX7_mask 22 = .ok (.goto 6, 3) := dk_167 0 6 (dk_at dksX7_mask_1 0 rfl rfl)
theorem dX7_mask_25 : decode cX7_mask 25 = .ok (.iconst 1, 1) := dk_4 (dk_at dksX7_mask_1 3 rfl rfl)
theorem dX7_mask_26 : decode cX7_mask 26 = .ok (.iload_n 2, 1) := dk_28 (dk_at dksX7_mask_1 4 rfl rfl)
theorem dX7_mask_27 : decode cX7_mask 27 = .ok (.ishl, 1) := dk_120 (dk_at dksX7_mask_1 5 rfl rfl)
theorem dX7_mask_28 : decode cX7_mask 28 = .ok (.ior, 1) := dk_128 (dk_at dksX7_mask_1 6 rfl rfl)
theorem dX7_mask_29 : decode cX7_mask 29 = .ok (.istore_n 1, 1) := dk_60 (dk_at dksX7_mask_1 7 rfl rfl)
theorem dX7_mask_30 : decode cX7_mask 30 = .ok (.iinc 2 1, 3) := dk_132 2 1 (dk_at dksX7_mask_1 8 rfl rfl)
theorem dX7_mask_33 : decode cX7_mask 33 = .ok (.goto (-29), 3) := dk_167 255 227 (dk_at dksX7_mask_1 11 rfl rfl)
theorem dX7_mask_36 : decode cX7_mask 36 = .ok (.iload_n 1, 1) := dk_27 (dk_at dksX7_mask_1 14 rfl rfl)
theorem dX7_mask_37 : decode cX7_mask 37 = .ok (.ireturn, 1) := dk_172 (dk_at dksX7_mask_1 15 rfl rfl)
theorem q107 : (Jvm.Cond.initialized "CourierClash$Ways") ∈ lw_all := lw_g (lw_at lw_m1 12 rfl) rfl
theorem q280 : (Jvm.Cond.fieldLinkNest "CourierClash$Ways" (30 : Nat) "CourierClash$Game" "streets" "Ljava/util/ArrayList;" "CourierClash") ∈ lw_tbl := lw_at lw_m1 185 rfl
theorem q332 : (Jvm.Cond.instantiable "CourierClash$Ways" (3 : Nat)) ∈ lw_all := lw_g (lw_at lw_m1 237 rfl) rfl
theorem q334 : (Jvm.Cond.instanceMethod ({ cls := "CourierClash$Ways", name := "<init>", desc := "()V" } : Jvm.MethodName)) ∈ lw_all := lw_g (lw_at lw_m1 239 rfl) rfl
theorem q335 : (Jvm.Cond.code ({ cls := "CourierClash$Ways", name := "<init>", desc := "()V" } : Jvm.MethodName) prog_15_method_1_code (1 : Nat) (Option.none : Option Jvm.ClassFile.FieldType)) ∈ lw_all := lw_g (lw_at lw_m2 0 rfl) rfl
theorem q336 : (Jvm.Cond.methodLink "CourierClash$Ways" (3 : Nat) ({ cls := "java/lang/Object", name := "<init>", desc := "()V" } : Jvm.MethodName)) ∈ lw_all := lw_g (lw_at lw_m2 1 rfl) rfl
theorem q337 : (Jvm.Cond.fieldLink "CourierClash$Ways" (9 : Nat) "CourierClash$Ways" "far" "[I") ∈ lw_all := lw_g (lw_at lw_m2 2 rfl) rfl
theorem q339 : (Jvm.Cond.fieldLink "CourierClash$Ways" (15 : Nat) "CourierClash$Ways" "order" "[I") ∈ lw_all := lw_g (lw_at lw_m2 4 rfl) rfl
theorem q340 : (Jvm.Cond.fieldLink "CourierClash$Ways" (18 : Nat) "CourierClash$Ways" "many" "I") ∈ lw_all := lw_g (lw_at lw_m2 5 rfl) rfl
theorem q341 : (Jvm.Cond.laysFinal "CourierClash$Ways" "CourierClash$Ways" "far" "[I") ∈ lw_all := lw_g (lw_at lw_m2 6 rfl) rfl
theorem q342 : (Jvm.Cond.soleField "CourierClash$Ways" "far") ∈ lw_all := lw_g (lw_at lw_m2 7 rfl) rfl
theorem q343 : (Jvm.Cond.laysFinal "CourierClash$Ways" "CourierClash$Ways" "order" "[I") ∈ lw_all := lw_g (lw_at lw_m2 8 rfl) rfl
theorem q344 : (Jvm.Cond.soleField "CourierClash$Ways" "order") ∈ lw_all := lw_g (lw_at lw_m2 9 rfl) rfl
theorem q345 : (Jvm.Cond.lays "CourierClash$Ways" "CourierClash$Ways" "many" "I") ∈ lw_all := lw_g (lw_at lw_m2 10 rfl) rfl
theorem q346 : (Jvm.Cond.soleField "CourierClash$Ways" "many") ∈ lw_all := lw_g (lw_at lw_m2 11 rfl) rfl
theorem q347 : (Jvm.Cond.superclass "CourierClash$Ways" "java/lang/Object") ∈ lw_all := lw_g (lw_at lw_m2 12 rfl) rfl
theorem q1270 : (Jvm.Cond.fieldLinkNest "CourierClash$Ways" (48 : Nat) "CourierClash$Street" "from" "I" "CourierClash") ∈ lw_tbl := lw_at lw_m5 215 rfl
theorem q1274 : (Jvm.Cond.fieldLinkNest "CourierClash$Ways" (55 : Nat) "CourierClash$Street" "to" "I" "CourierClash") ∈ lw_tbl := lw_at lw_m5 219 rfl
theorem q1326 : (Jvm.Cond.selects "CourierClash$Ways" ({ cls := "java/lang/Object", name := "getClass", desc := "()Ljava/lang/Class;" } : Jvm.MethodName) ({ cls := "java/lang/Object", name := "getClass", desc := "()Ljava/lang/Class;" } : Jvm.MethodName)) ∈ lw_all := lw_g (lw_at lw_m6 31 rfl) rfl
theorem q1633 : (Jvm.Cond.instanceMethod ({ cls := "CourierClash$Ways", name := "go", desc := "(LCourierClash$Game;LCourierClash$Vehicle;I)LCourierClash$Ways;" } : Jvm.MethodName)) ∈ lw_all := lw_g (lw_at lw_m7 98 rfl) rfl
theorem q1634 : (Jvm.Cond.selects "CourierClash$Ways" ({ cls := "CourierClash$Ways", name := "go", desc := "(LCourierClash$Game;LCourierClash$Vehicle;I)LCourierClash$Ways;" } : Jvm.MethodName) ({ cls := "CourierClash$Ways", name := "go", desc := "(LCourierClash$Game;LCourierClash$Vehicle;I)LCourierClash$Ways;" } : Jvm.MethodName)) ∈ lw_all := lw_g (lw_at lw_m7 99 rfl) rfl
theorem q1635 : (Jvm.Cond.code ({ cls := "CourierClash$Ways", name := "go", desc := "(LCourierClash$Game;LCourierClash$Vehicle;I)LCourierClash$Ways;" } : Jvm.MethodName) prog_15_method_2_code (5 : Nat) (Option.some (Jvm.ClassFile.FieldType.object "CourierClash$Ways"))) ∈ lw_all := lw_g (lw_at lw_m7 100 rfl) rfl
theorem q1636 : (Jvm.Cond.methodLink "CourierClash$Ways" (22 : Nat) ({ cls := "CourierClash$Ways", name := "come", desc := "(II)V" } : Jvm.MethodName)) ∈ lw_all := lw_g (lw_at lw_m7 101 rfl) rfl
theorem q1637 : (Jvm.Cond.privateMethod ({ cls := "CourierClash$Ways", name := "come", desc := "(II)V" } : Jvm.MethodName)) ∈ lw_tbl := lw_at lw_m7 102 rfl
theorem q1638 : (Jvm.Cond.instanceMethod ({ cls := "CourierClash$Ways", name := "come", desc := "(II)V" } : Jvm.MethodName)) ∈ lw_all := lw_g (lw_at lw_m7 103 rfl) rfl
theorem q1639 : (Jvm.Cond.code ({ cls := "CourierClash$Ways", name := "come", desc := "(II)V" } : Jvm.MethodName) prog_15_method_3_code (3 : Nat) (Option.none : Option Jvm.ClassFile.FieldType)) ∈ lw_all := lw_g (lw_at lw_m7 104 rfl) rfl
theorem q1640 : (Jvm.Cond.methodLink "CourierClash$Ways" (26 : Nat) ({ cls := "CourierClash$Ways", name := "goOn", desc := "(LCourierClash$Game;LCourierClash$Vehicle;I)V" } : Jvm.MethodName)) ∈ lw_all := lw_g (lw_at lw_m7 105 rfl) rfl
theorem q1641 : (Jvm.Cond.privateMethod ({ cls := "CourierClash$Ways", name := "goOn", desc := "(LCourierClash$Game;LCourierClash$Vehicle;I)V" } : Jvm.MethodName)) ∈ lw_tbl := lw_at lw_m7 106 rfl
theorem q1642 : (Jvm.Cond.instanceMethod ({ cls := "CourierClash$Ways", name := "goOn", desc := "(LCourierClash$Game;LCourierClash$Vehicle;I)V" } : Jvm.MethodName)) ∈ lw_all := lw_g (lw_at lw_m7 107 rfl) rfl
theorem q1643 : (Jvm.Cond.code ({ cls := "CourierClash$Ways", name := "goOn", desc := "(LCourierClash$Game;LCourierClash$Vehicle;I)V" } : Jvm.MethodName) prog_15_method_4_code (6 : Nat) (Option.none : Option Jvm.ClassFile.FieldType)) ∈ lw_all := lw_g (lw_at lw_m7 108 rfl) rfl
theorem q1644 : (Jvm.Cond.methodLink "CourierClash$Ways" (36 : Nat) ({ cls := "java/util/ArrayList", name := "size", desc := "()I" } : Jvm.MethodName)) ∈ lw_all := lw_g (lw_at lw_m7 109 rfl) rfl
theorem q1645 : (Jvm.Cond.methodLink "CourierClash$Ways" (42 : Nat) ({ cls := "java/util/ArrayList", name := "get", desc := "(I)Ljava/lang/Object;" } : Jvm.MethodName)) ∈ lw_all := lw_g (lw_at lw_m7 110 rfl) rfl
theorem q1646 : (Jvm.Cond.classLink "CourierClash$Ways" (46 : Nat) "CourierClash$Street") ∈ lw_all := lw_g (lw_at lw_m7 111 rfl) rfl
theorem q1647 : (Jvm.Cond.methodLink "CourierClash$Ways" (51 : Nat) ({ cls := "CourierClash$Street", name := "leads", desc := "(LCourierClash$Vehicle;)Z" } : Jvm.MethodName)) ∈ lw_all := lw_g (lw_at lw_m7 112 rfl) rfl
theorem q1653 : (Jvm.Cond.instanceMethod ({ cls := "CourierClash$Ways", name := "mask", desc := "()I" } : Jvm.MethodName)) ∈ lw_all := lw_g (lw_at lw_m7 118 rfl) rfl
theorem q1654 : (Jvm.Cond.selects "CourierClash$Ways" ({ cls := "CourierClash$Ways", name := "mask", desc := "()I" } : Jvm.MethodName) ({ cls := "CourierClash$Ways", name := "mask", desc := "()I" } : Jvm.MethodName)) ∈ lw_all := lw_g (lw_at lw_m7 119 rfl) rfl
theorem q1655 : (Jvm.Cond.code ({ cls := "CourierClash$Ways", name := "mask", desc := "()I" } : Jvm.MethodName) prog_15_method_5_code (3 : Nat) (Option.some Jvm.ClassFile.FieldType.int)) ∈ lw_all := lw_g (lw_at lw_m7 120 rfl) rfl
theorem q2824 : (Jvm.Cond.castable "CourierClash$Ways" "java/lang/Object") ∈ lw_tbl := lw_at lw_m12 89 rfl
theorem in_X7 : ∀ w ∈ wsX70, w ∈ lw_all := lw_in wsX70 [341, 343, 345] (by decide +kernel) (by decide +kernel)

/-! CourierClash$Reader -/
set_option maxRecDepth 100000
def RX14 : String := "CourierClash$Reader"
def TX14 : u_T := fun k => match k with
  | 0 => ("CourierClash$Reader", "parts", "[I", true)
  | 1 => ("CourierClash$Reader", "many", "I", false)
  | 2 => ("CourierClash$Reader", "place", "I", false)
  | _ => ("CourierClash$Reader", "this$0", "LCourierClash;", true)
def tyX14 : Nat → FieldType := fun k => match k with
  | 0 => .array .int
  | 1 => .int
  | 2 => .int
  | _ => .object "CourierClash"
abbrev wsX140 : List Cond := u_ws RX14 TX14 4
theorem nmX14 : ∀ a, a < 4 → ∀ b, b < 4 → a ≠ b → (TX14 a).2.1 ≠ (TX14 b).2.1 := by decide +kernel
theorem tyX14_ok : ∀ k, k < 4 → parseFieldDescriptor (TX14 k).2.2.1 = some (tyX14 k) := by decide +kernel
abbrev cX14_init : ByteArray := prog_11_method_1_code
def yX14_init : MethodName := ⟨RX14, "<init>", "(LCourierClash;)V"⟩
def dkwX14_init_0 : List UInt8 := [42, 43, 181, 0, 3, 42, 183, 0, 9, 42, 17, 0, 180, 188, 10, 181, 0, 15, 177]
abbrev dktX14_init_0 : List UInt8 := dkwX14_init_0 ++ []
theorem dksX14_init_0 : cX14_init.data.toList.drop 0 = dktX14_init_0 := by decide +kernel
theorem dX14_init_0 : decode cX14_init 0 = .ok (.aload_n 0, 1) := dk_42 (dk_at dksX14_init_0 0 rfl rfl)
theorem dX14_init_1 : decode cX14_init 1 = .ok (.aload_n 1, 1) := dk_43 (dk_at dksX14_init_0 1 rfl rfl)
theorem dX14_init_2 : decode cX14_init 2 = .ok (.putfield 3, 3) := dk_181 0 3 (dk_at dksX14_init_0 2 rfl rfl)
theorem dX14_init_5 : decode cX14_init 5 = .ok (.aload_n 0, 1) := dk_42 (dk_at dksX14_init_0 5 rfl rfl)
theorem dX14_init_6 : decode cX14_init 6 = .ok (.invokespecial 9, 3) := dk_183 0 9 (dk_at dksX14_init_0 6 rfl rfl)
theorem dX14_init_9 : decode cX14_init 9 = .ok (.aload_n 0, 1) := dk_42 (dk_at dksX14_init_0 9 rfl rfl)
theorem dX14_init_10 : decode cX14_init 10 = .ok (.sipush 180, 3) := dk_17 0 180 (dk_at dksX14_init_0 10 rfl rfl)
theorem dX14_init_13 : decode cX14_init 13 = .ok (.newarray .int, 2) := dk_188_10 (dk_at dksX14_init_0 13 rfl rfl)
theorem dX14_init_15 : decode cX14_init 15 = .ok (.putfield 15, 3) := dk_181 0 15 (dk_at dksX14_init_0 15 rfl rfl)
theorem dX14_init_18 : decode cX14_init 18 = .ok (.return_, 1) := dk_177 (dk_at dksX14_init_0 18 rfl rfl)
abbrev cX14_isGame : ByteArray := prog_11_method_7_code
def yX14_isGame : MethodName := ⟨RX14, "isGame", "()Z"⟩
def dkwX14_isGame_2 : List UInt8 := [4, 167, 0, 4, 3, 172]
abbrev dktX14_isGame_2 : List UInt8 := dkwX14_isGame_2 ++ []
def dkwX14_isGame_1 : List UInt8 := [167, 255, 238, 27, 153, 0, 24, 42, 180, 0, 19, 42, 180, 0, 3, 180, 0, 23, 182, 0, 27, 160, 0, 7]
abbrev dktX14_isGame_1 : List UInt8 := dkwX14_isGame_1 ++ dktX14_isGame_2
def dkwX14_isGame_0 : List UInt8 := [42, 182, 0, 64, 60, 27, 153, 0, 20, 42, 16, 59, 182, 0, 57, 153, 0, 11, 42, 182, 0, 64, 60]
abbrev dktX14_isGame_0 : List UInt8 := dkwX14_isGame_0 ++ dktX14_isGame_1
theorem dksX14_isGame_0 : cX14_isGame.data.toList.drop 0 = dktX14_isGame_0 := by decide +kernel
theorem dksX14_isGame_1 : cX14_isGame.data.toList.drop 23 = dktX14_isGame_1 := dk_seg dksX14_isGame_0 23 rfl rfl
theorem dksX14_isGame_2 : cX14_isGame.data.toList.drop 47 = dktX14_isGame_2 := dk_seg dksX14_isGame_1 24 rfl rfl
theorem dX14_isGame_0 : decode cX14_isGame 0 = .ok (.aload_n 0, 1) := dk_42 (dk_at dksX14_isGame_0 0 rfl rfl)
theorem dX14_isGame_1 : decode cX14_isGame 1 = .ok (.invokevirtual 64, 3) := dk_182 0 64 (dk_at dksX14_isGame_0 1 rfl rfl)
theorem dX14_isGame_4 : decode cX14_isGame 4 = .ok (.istore_n 1, 1) := dk_60 (dk_at dksX14_isGame_0 4 rfl rfl)
theorem dX14_isGame_5 : decode cX14_isGame 5 = .ok (.iload_n 1, 1) := dk_27 (dk_at dksX14_isGame_0 5 rfl rfl)
theorem dX14_isGame_6 : decode cX14_isGame 6 = .ok (.ifCond .eq 20, 3) := dk_153 0 20 (dk_at dksX14_isGame_0 6 rfl rfl)
theorem dX14_isGame_9 : decode cX14_isGame 9 = .ok (.aload_n 0, 1) := dk_42 (dk_at dksX14_isGame_0 9 rfl rfl)
theorem dX14_isGame_10 : decode cX14_isGame 10 = .ok (.bipush 59, 2) := dk_16 59 (dk_at dksX14_isGame_0 10 rfl rfl)
theorem dX14_isGame_12 : decode cX14_isGame 12 = .ok (.invokevirtual 57, 3) := dk_182 0 57 (dk_at dksX14_isGame_0 12 rfl rfl)
theorem dX14_isGame_15 : decode cX14_isGame 15 = .ok (.ifCond .eq 11, 3) := dk_153 0 11 (dk_at dksX14_isGame_0 15 rfl rfl)
theorem dX14_isGame_18 : decode cX14_isGame 18 = .ok (.aload_n 0, 1) := dk_42 (dk_at dksX14_isGame_0 18 rfl rfl)
theorem dX14_isGame_19 : decode cX14_isGame 19 = .ok (.invokevirtual 64, 3) := dk_182 0 64 (dk_at dksX14_isGame_0 19 rfl rfl)
theorem dX14_isGame_22 : decode cX14_isGame 22 = .ok (.istore_n 1, 1) := dk_60 (dk_at dksX14_isGame_0 22 rfl rfl)
theorem dX14_isGame_23 : decode cX14_isGame 23 = .ok (.goto (-18), 3) := dk_167 255 238 (dk_at dksX14_isGame_1 0 rfl rfl)
theorem dX14_isGame_26 : decode cX14_isGame 26 = .ok (.iload_n 1, 1) := dk_27 (dk_at dksX14_isGame_1 3 rfl rfl)
theorem dX14_isGame_27 : decode cX14_isGame 27 = .ok (.ifCond .eq 24, 3) := dk_153 0 24 (dk_at dksX14_isGame_1 4 rfl rfl)
theorem dX14_isGame_30 : decode cX14_isGame 30 = .ok (.aload_n 0, 1) := dk_42 (dk_at dksX14_isGame_1 7 rfl rfl)
theorem dX14_isGame_31 : decode cX14_isGame 31 = .ok (.getfield 19, 3) := dk_180 0 19 (dk_at dksX14_isGame_1 8 rfl rfl)
theorem dX14_isGame_34 : decode cX14_isGame 34 = .ok (.aload_n 0, 1) := dk_42 (dk_at dksX14_isGame_1 11 rfl rfl)
theorem dX14_isGame_35 : decode cX14_isGame 35 = .ok (.getfield 3, 3) := dk_180 0 3 (dk_at dksX14_isGame_1 12 rfl rfl)
theorem dX14_isGame_38 : decode cX14_isGame 38 = .ok (.getfield 23, 3) := dk_180 0 23 (dk_at dksX14_isGame_1 15 rfl rfl)
theorem dX14_isGame_41 : decode cX14_isGame 41 = .ok (.invokevirtual 27, 3) := dk_182 0 27 (dk_at dksX14_isGame_1 18 rfl rfl)
theorem dX14_isGame_44 : decode cX14_isGame 44 = .ok (.if_icmp .ne 7, 3) := dk_160 0 7 (dk_at dksX14_isGame_1 21 rfl rfl)
theorem dX14_isGame_47 : decode cX14_isGame 47 = .ok (.iconst 1, 1) := dk_4 (dk_at dksX14_isGame_2 0 rfl rfl)
theorem dX14_isGame_48 : decode cX14_isGame 48 = .ok (.goto 4, 3) := dk_167 0 4 (dk_at dksX14_isGame_2 1 rfl rfl)
theorem dX14_isGame_51 : decode cX14_isGame 51 = .ok (.iconst 0, 1) := dk_3 (dk_at dksX14_isGame_2 4 rfl rfl)
theorem dX14_isGame_52 : decode cX14_isGame 52 = .ok (.ireturn, 1) := dk_172 (dk_at dksX14_isGame_2 5 rfl rfl)
abbrev cX14_part : ByteArray := prog_11_method_6_code
def yX14_part : MethodName := ⟨RX14, "part", "()Z"⟩
def dkwX14_part_3 : List UInt8 := [182, 0, 61, 153, 0, 7, 4, 167, 0, 4, 3, 62, 42, 89, 180, 0, 50, 4, 96, 181, 0, 50, 29, 172]
abbrev dktX14_part_3 : List UInt8 := dkwX14_part_3 ++ []
def dkwX14_part_2 : List UInt8 := [3, 96, 181, 0, 19, 42, 180, 0, 15, 6, 42, 180, 0, 50, 104, 27, 79, 28, 153, 0, 15, 42, 27]
abbrev dktX14_part_2 : List UInt8 := dkwX14_part_2 ++ dktX14_part_3
def dkwX14_part_1 : List UInt8 := [16, 114, 160, 0, 7, 4, 167, 0, 4, 3, 61, 42, 89, 180, 0, 19, 28, 153, 0, 7, 4, 167, 0, 4]
abbrev dktX14_part_1 : List UInt8 := dkwX14_part_1 ++ dktX14_part_2
def dkwX14_part_0 : List UInt8 := [42, 182, 0, 37, 60, 27, 16, 111, 159, 0, 21, 27, 16, 115, 159, 0, 15, 27, 16, 116, 159, 0, 9, 27]
abbrev dktX14_part_0 : List UInt8 := dkwX14_part_0 ++ dktX14_part_1
theorem dksX14_part_0 : cX14_part.data.toList.drop 0 = dktX14_part_0 := by decide +kernel
theorem dksX14_part_1 : cX14_part.data.toList.drop 24 = dktX14_part_1 := dk_seg dksX14_part_0 24 rfl rfl
theorem dksX14_part_2 : cX14_part.data.toList.drop 48 = dktX14_part_2 := dk_seg dksX14_part_1 24 rfl rfl
theorem dksX14_part_3 : cX14_part.data.toList.drop 71 = dktX14_part_3 := dk_seg dksX14_part_2 23 rfl rfl
theorem dX14_part_0 : decode cX14_part 0 = .ok (.aload_n 0, 1) := dk_42 (dk_at dksX14_part_0 0 rfl rfl)
theorem dX14_part_1 : decode cX14_part 1 = .ok (.invokevirtual 37, 3) := dk_182 0 37 (dk_at dksX14_part_0 1 rfl rfl)
theorem dX14_part_4 : decode cX14_part 4 = .ok (.istore_n 1, 1) := dk_60 (dk_at dksX14_part_0 4 rfl rfl)
theorem dX14_part_5 : decode cX14_part 5 = .ok (.iload_n 1, 1) := dk_27 (dk_at dksX14_part_0 5 rfl rfl)
theorem dX14_part_6 : decode cX14_part 6 = .ok (.bipush 111, 2) := dk_16 111 (dk_at dksX14_part_0 6 rfl rfl)
theorem dX14_part_8 : decode cX14_part 8 = .ok (.if_icmp .eq 21, 3) := dk_159 0 21 (dk_at dksX14_part_0 8 rfl rfl)
theorem dX14_part_11 : decode cX14_part 11 = .ok (.iload_n 1, 1) := dk_27 (dk_at dksX14_part_0 11 rfl rfl)
theorem dX14_part_12 : decode cX14_part 12 = .ok (.bipush 115, 2) := dk_16 115 (dk_at dksX14_part_0 12 rfl rfl)
theorem dX14_part_14 : decode cX14_part 14 = .ok (.if_icmp .eq 15, 3) := dk_159 0 15 (dk_at dksX14_part_0 14 rfl rfl)
theorem dX14_part_17 : decode cX14_part 17 = .ok (.iload_n 1, 1) := dk_27 (dk_at dksX14_part_0 17 rfl rfl)
theorem dX14_part_18 : decode cX14_part 18 = .ok (.bipush 116, 2) := dk_16 116 (dk_at dksX14_part_0 18 rfl rfl)
theorem dX14_part_20 : decode cX14_part 20 = .ok (.if_icmp .eq 9, 3) := dk_159 0 9 (dk_at dksX14_part_0 20 rfl rfl)
theorem dX14_part_23 : decode cX14_part 23 = .ok (.iload_n 1, 1) := dk_27 (dk_at dksX14_part_0 23 rfl rfl)
theorem dX14_part_24 : decode cX14_part 24 = .ok (.bipush 114, 2) := dk_16 114 (dk_at dksX14_part_1 0 rfl rfl)
theorem dX14_part_26 : decode cX14_part 26 = .ok (.if_icmp .ne 7, 3) := dk_160 0 7 (dk_at dksX14_part_1 2 rfl rfl)
theorem dX14_part_29 : decode cX14_part 29 = .ok (.iconst 1, 1) := dk_4 (dk_at dksX14_part_1 5 rfl rfl)
theorem dX14_part_30 : decode cX14_part 30 = .ok (.goto 4, 3) := dk_167 0 4 (dk_at dksX14_part_1 6 rfl rfl)
theorem dX14_part_33 : decode cX14_part 33 = .ok (.iconst 0, 1) := dk_3 (dk_at dksX14_part_1 9 rfl rfl)
theorem dX14_part_34 : decode cX14_part 34 = .ok (.istore_n 2, 1) := dk_61 (dk_at dksX14_part_1 10 rfl rfl)
theorem dX14_part_35 : decode cX14_part 35 = .ok (.aload_n 0, 1) := dk_42 (dk_at dksX14_part_1 11 rfl rfl)
theorem dX14_part_36 : decode cX14_part 36 = .ok (.dup, 1) := dk_89 (dk_at dksX14_part_1 12 rfl rfl)
theorem dX14_part_37 : decode cX14_part 37 = .ok (.getfield 19, 3) := dk_180 0 19 (dk_at dksX14_part_1 13 rfl rfl)
theorem dX14_part_40 : decode cX14_part 40 = .ok (.iload_n 2, 1) := dk_28 (dk_at dksX14_part_1 16 rfl rfl)
theorem dX14_part_41 : decode cX14_part 41 = .ok (.ifCond .eq 7, 3) := dk_153 0 7 (dk_at dksX14_part_1 17 rfl rfl)
theorem dX14_part_44 : decode cX14_part 44 = .ok (.iconst 1, 1) := dk_4 (dk_at dksX14_part_1 20 rfl rfl)
theorem dX14_part_45 : decode cX14_part 45 = .ok (.goto 4, 3) := dk_167 0 4 (dk_at dksX14_part_1 21 rfl rfl)
theorem dX14_part_48 : decode cX14_part 48 = .ok (.iconst 0, 1) := dk_3 (dk_at dksX14_part_2 0 rfl rfl)
theorem dX14_part_49 : decode cX14_part 49 = .ok (.iadd, 1) := dk_96 (dk_at dksX14_part_2 1 rfl rfl)
theorem dX14_part_50 : decode cX14_part 50 = .ok (.putfield 19, 3) := dk_181 0 19 (dk_at dksX14_part_2 2 rfl rfl)
theorem dX14_part_53 : decode cX14_part 53 = .ok (.aload_n 0, 1) := dk_42 (dk_at dksX14_part_2 5 rfl rfl)
theorem dX14_part_54 : decode cX14_part 54 = .ok (.getfield 15, 3) := dk_180 0 15 (dk_at dksX14_part_2 6 rfl rfl)
theorem dX14_part_57 : decode cX14_part 57 = .ok (.iconst 3, 1) := dk_6 (dk_at dksX14_part_2 9 rfl rfl)
theorem dX14_part_58 : decode cX14_part 58 = .ok (.aload_n 0, 1) := dk_42 (dk_at dksX14_part_2 10 rfl rfl)
theorem dX14_part_59 : decode cX14_part 59 = .ok (.getfield 50, 3) := dk_180 0 50 (dk_at dksX14_part_2 11 rfl rfl)
theorem dX14_part_62 : decode cX14_part 62 = .ok (.imul, 1) := dk_104 (dk_at dksX14_part_2 14 rfl rfl)
theorem dX14_part_63 : decode cX14_part 63 = .ok (.iload_n 1, 1) := dk_27 (dk_at dksX14_part_2 15 rfl rfl)
theorem dX14_part_64 : decode cX14_part 64 = .ok (.iastore, 1) := dk_79 (dk_at dksX14_part_2 16 rfl rfl)
theorem dX14_part_65 : decode cX14_part 65 = .ok (.iload_n 2, 1) := dk_28 (dk_at dksX14_part_2 17 rfl rfl)
theorem dX14_part_66 : decode cX14_part 66 = .ok (.ifCond .eq 15, 3) := dk_153 0 15 (dk_at dksX14_part_2 18 rfl rfl)
theorem dX14_part_69 : decode cX14_part 69 = .ok (.aload_n 0, 1) := dk_42 (dk_at dksX14_part_2 21 rfl rfl)
theorem dX14_part_70 : decode cX14_part 70 = .ok (.iload_n 1, 1) := dk_27 (dk_at dksX14_part_2 22 rfl rfl)
theorem dX14_part_71 : decode cX14_part 71 = .ok (.invokevirtual 61, 3) := dk_182 0 61 (dk_at dksX14_part_3 0 rfl rfl)
theorem dX14_part_74 : decode cX14_part 74 = .ok (.ifCond .eq 7, 3) := dk_153 0 7 (dk_at dksX14_part_3 3 rfl rfl)
theorem dX14_part_77 : decode cX14_part 77 = .ok (.iconst 1, 1) := dk_4 (dk_at dksX14_part_3 6 rfl rfl)
theorem dX14_part_78 : decode cX14_part 78 = .ok (.goto 4, 3) := dk_167 0 4 (dk_at dksX14_part_3 7 rfl rfl)
theorem dX14_part_81 : decode cX14_part 81 = .ok (.iconst 0, 1) := dk_3 (dk_at dksX14_part_3 10 rfl rfl)
theorem dX14_part_82 : decode cX14_part 82 = .ok (.istore_n 3, 1) := dk_62 (dk_at dksX14_part_3 11 rfl rfl)
theorem dX14_part_83 : decode cX14_part 83 = .ok (.aload_n 0, 1) := dk_42 (dk_at dksX14_part_3 12 rfl rfl)
theorem dX14_part_84 : decode cX14_part 84 = .ok (.dup, 1) := dk_89 (dk_at dksX14_part_3 13 rfl rfl)
theorem dX14_part_85 : decode cX14_part 85 = .ok (.getfield 50, 3) := dk_180 0 50 (dk_at dksX14_part_3 14 rfl rfl)
theorem dX14_part_88 : decode cX14_part 88 = .ok (.iconst 1, 1) := dk_4 (dk_at dksX14_part_3 17 rfl rfl)
theorem dX14_part_89 : decode cX14_part 89 = .ok (.iadd, 1) := dk_96 (dk_at dksX14_part_3 18 rfl rfl)
theorem dX14_part_90 : decode cX14_part 90 = .ok (.putfield 50, 3) := dk_181 0 50 (dk_at dksX14_part_3 19 rfl rfl)
theorem dX14_part_93 : decode cX14_part 93 = .ok (.iload_n 3, 1) := dk_29 (dk_at dksX14_part_3 22 rfl rfl)
theorem dX14_part_94 : decode cX14_part 94 = .ok (.ireturn, 1) := dk_172 (dk_at dksX14_part_3 23 rfl rfl)
abbrev cX14_next : ByteArray := prog_11_method_2_code
def yX14_next : MethodName := ⟨RX14, "next", "()I"⟩
def dkwX14_next_1 : List UInt8 := [42, 180, 0, 19, 182, 0, 33, 167, 0, 4, 3, 172]
abbrev dktX14_next_1 : List UInt8 := dkwX14_next_1 ++ []
def dkwX14_next_0 : List UInt8 := [42, 180, 0, 19, 42, 180, 0, 3, 180, 0, 23, 182, 0, 27, 162, 0, 20, 42, 180, 0, 3, 180, 0, 23]
abbrev dktX14_next_0 : List UInt8 := dkwX14_next_0 ++ dktX14_next_1
theorem dksX14_next_0 : cX14_next.data.toList.drop 0 = dktX14_next_0 := by decide +kernel
theorem dksX14_next_1 : cX14_next.data.toList.drop 24 = dktX14_next_1 := dk_seg dksX14_next_0 24 rfl rfl
theorem dX14_next_0 : decode cX14_next 0 = .ok (.aload_n 0, 1) := dk_42 (dk_at dksX14_next_0 0 rfl rfl)
theorem dX14_next_1 : decode cX14_next 1 = .ok (.getfield 19, 3) := dk_180 0 19 (dk_at dksX14_next_0 1 rfl rfl)
theorem dX14_next_4 : decode cX14_next 4 = .ok (.aload_n 0, 1) := dk_42 (dk_at dksX14_next_0 4 rfl rfl)
theorem dX14_next_5 : decode cX14_next 5 = .ok (.getfield 3, 3) := dk_180 0 3 (dk_at dksX14_next_0 5 rfl rfl)
theorem dX14_next_8 : decode cX14_next 8 = .ok (.getfield 23, 3) := dk_180 0 23 (dk_at dksX14_next_0 8 rfl rfl)
theorem dX14_next_11 : decode cX14_next 11 = .ok (.invokevirtual 27, 3) := dk_182 0 27 (dk_at dksX14_next_0 11 rfl rfl)
theorem dX14_next_14 : decode cX14_next 14 = .ok (.if_icmp .ge 20, 3) := dk_162 0 20 (dk_at dksX14_next_0 14 rfl rfl)
theorem dX14_next_17 : decode cX14_next 17 = .ok (.aload_n 0, 1) := dk_42 (dk_at dksX14_next_0 17 rfl rfl)
theorem dX14_next_18 : decode cX14_next 18 = .ok (.getfield 3, 3) := dk_180 0 3 (dk_at dksX14_next_0 18 rfl rfl)
theorem dX14_next_21 : decode cX14_next 21 = .ok (.getfield 23, 3) := dk_180 0 23 (dk_at dksX14_next_0 21 rfl rfl)
theorem dX14_next_24 : decode cX14_next 24 = .ok (.aload_n 0, 1) := dk_42 (dk_at dksX14_next_1 0 rfl rfl)
theorem dX14_next_25 : decode cX14_next 25 = .ok (.getfield 19, 3) := dk_180 0 19 (dk_at dksX14_next_1 1 rfl rfl)
theorem dX14_next_28 : decode cX14_next 28 = .ok (.invokevirtual 33, 3) := dk_182 0 33 (dk_at dksX14_next_1 4 rfl rfl)
theorem dX14_next_31 : decode cX14_next 31 = .ok (.goto 4, 3) := dk_167 0 4 (dk_at dksX14_next_1 7 rfl rfl)
theorem dX14_next_34 : decode cX14_next 34 = .ok (.iconst 0, 1) := dk_3 (dk_at dksX14_next_1 10 rfl rfl)
theorem dX14_next_35 : decode cX14_next 35 = .ok (.ireturn, 1) := dk_172 (dk_at dksX14_next_1 11 rfl rfl)
abbrev cX14_rest : ByteArray := prog_11_method_5_code
def yX14_rest : MethodName := ⟨RX14, "rest", "(I)Z"⟩
def dkwX14_rest_4 : List UInt8 := [182, 0, 53, 172, 4, 172]
abbrev dktX14_rest_4 : List UInt8 := dkwX14_rest_4 ++ []
def dkwX14_rest_3 : List UInt8 := [182, 0, 53, 153, 0, 7, 4, 167, 0, 4, 3, 172, 42, 4, 6, 182, 0, 53, 172, 42, 4, 16, 23]
abbrev dktX14_rest_3 : List UInt8 := dkwX14_rest_3 ++ dktX14_rest_4
def dkwX14_rest_2 : List UInt8 := [42, 4, 6, 182, 0, 53, 153, 0, 26, 42, 16, 62, 182, 0, 57, 153, 0, 17, 42, 5, 16, 23]
abbrev dktX14_rest_2 : List UInt8 := dkwX14_rest_2 ++ dktX14_rest_3
def dkwX14_rest_1 : List UInt8 := [171, 0, 0, 0, 0, 0, 84, 0, 0, 0, 3, 0, 0, 0, 111, 0, 0, 0, 35, 0, 0, 0, 115, 0, 0, 0, 69, 0, 0, 0, 116, 0, 0, 0, 76]
abbrev dktX14_rest_1 : List UInt8 := dkwX14_rest_1 ++ dktX14_rest_2
def dkwX14_rest_0 : List UInt8 := [27]
abbrev dktX14_rest_0 : List UInt8 := dkwX14_rest_0 ++ dktX14_rest_1
theorem dksX14_rest_0 : cX14_rest.data.toList.drop 0 = dktX14_rest_0 := by decide +kernel
theorem dksX14_rest_1 : cX14_rest.data.toList.drop 1 = dktX14_rest_1 := dk_seg dksX14_rest_0 1 rfl rfl
theorem dksX14_rest_2 : cX14_rest.data.toList.drop 36 = dktX14_rest_2 := dk_seg dksX14_rest_1 35 rfl rfl
theorem dksX14_rest_3 : cX14_rest.data.toList.drop 58 = dktX14_rest_3 := dk_seg dksX14_rest_2 22 rfl rfl
theorem dksX14_rest_4 : cX14_rest.data.toList.drop 81 = dktX14_rest_4 := dk_seg dksX14_rest_3 23 rfl rfl
theorem dX14_rest_0 : decode cX14_rest 0 = .ok (.iload_n 1, 1) := dk_27 (dk_at dksX14_rest_0 0 rfl rfl)
theorem dX14_rest_1 : decode cX14_rest 1 = .ok (.lookupswitch 84 #[(111, 35), (115, 69), (116, 76)], 35) := by decide +kernel
theorem dX14_rest_36 : decode cX14_rest 36 = .ok (.aload_n 0, 1) := dk_42 (dk_at dksX14_rest_2 0 rfl rfl)
theorem dX14_rest_37 : decode cX14_rest 37 = .ok (.iconst 1, 1) := dk_4 (dk_at dksX14_rest_2 1 rfl rfl)
theorem dX14_rest_38 : decode cX14_rest 38 = .ok (.iconst 3, 1) := dk_6 (dk_at dksX14_rest_2 2 rfl rfl)
theorem dX14_rest_39 : decode cX14_rest 39 = .ok (.invokevirtual 53, 3) := dk_182 0 53 (dk_at dksX14_rest_2 3 rfl rfl)
theorem dX14_rest_42 : decode cX14_rest 42 = .ok (.ifCond .eq 26, 3) := dk_153 0 26 (dk_at dksX14_rest_2 6 rfl rfl)
theorem dX14_rest_45 : decode cX14_rest 45 = .ok (.aload_n 0, 1) := dk_42 (dk_at dksX14_rest_2 9 rfl rfl)
theorem dX14_rest_46 : decode cX14_rest 46 = .ok (.bipush 62, 2) := dk_16 62 (dk_at dksX14_rest_2 10 rfl rfl)
theorem dX14_rest_48 : decode cX14_rest 48 = .ok (.invokevirtual 57, 3) := dk_182 0 57 (dk_at dksX14_rest_2 12 rfl rfl)
theorem dX14_rest_51 : decode cX14_rest 51 = .ok (.ifCond .eq 17, 3) := dk_153 0 17 (dk_at dksX14_rest_2 15 rfl rfl)
theorem dX14_rest_54 : decode cX14_rest 54 = .ok (.aload_n 0, 1) := dk_42 (dk_at dksX14_rest_2 18 rfl rfl)
theorem dX14_rest_55 : decode cX14_rest 55 = .ok (.iconst 2, 1) := dk_5 (dk_at dksX14_rest_2 19 rfl rfl)
theorem dX14_rest_56 : decode cX14_rest 56 = .ok (.bipush 23, 2) := dk_16 23 (dk_at dksX14_rest_2 20 rfl rfl)
theorem dX14_rest_58 : decode cX14_rest 58 = .ok (.invokevirtual 53, 3) := dk_182 0 53 (dk_at dksX14_rest_3 0 rfl rfl)
theorem dX14_rest_61 : decode cX14_rest 61 = .ok (.ifCond .eq 7, 3) := dk_153 0 7 (dk_at dksX14_rest_3 3 rfl rfl)
theorem dX14_rest_64 : decode cX14_rest 64 = .ok (.iconst 1, 1) := dk_4 (dk_at dksX14_rest_3 6 rfl rfl)
theorem dX14_rest_65 : decode cX14_rest 65 = .ok (.goto 4, 3) := dk_167 0 4 (dk_at dksX14_rest_3 7 rfl rfl)
theorem dX14_rest_68 : decode cX14_rest 68 = .ok (.iconst 0, 1) := dk_3 (dk_at dksX14_rest_3 10 rfl rfl)
theorem dX14_rest_69 : decode cX14_rest 69 = .ok (.ireturn, 1) := dk_172 (dk_at dksX14_rest_3 11 rfl rfl)
theorem dX14_rest_70 : decode cX14_rest 70 = .ok (.aload_n 0, 1) := dk_42 (dk_at dksX14_rest_3 12 rfl rfl)
theorem dX14_rest_71 : decode cX14_rest 71 = .ok (.iconst 1, 1) := dk_4 (dk_at dksX14_rest_3 13 rfl rfl)
theorem dX14_rest_72 : decode cX14_rest 72 = .ok (.iconst 3, 1) := dk_6 (dk_at dksX14_rest_3 14 rfl rfl)
theorem dX14_rest_73 : decode cX14_rest 73 = .ok (.invokevirtual 53, 3) := dk_182 0 53 (dk_at dksX14_rest_3 15 rfl rfl)
theorem dX14_rest_76 : decode cX14_rest 76 = .ok (.ireturn, 1) := dk_172 (dk_at dksX14_rest_3 18 rfl rfl)
theorem dX14_rest_77 : decode cX14_rest 77 = .ok (.aload_n 0, 1) := dk_42 (dk_at dksX14_rest_3 19 rfl rfl)
theorem dX14_rest_78 : decode cX14_rest 78 = .ok (.iconst 1, 1) := dk_4 (dk_at dksX14_rest_3 20 rfl rfl)
theorem dX14_rest_79 : decode cX14_rest 79 = .ok (.bipush 23, 2) := dk_16 23 (dk_at dksX14_rest_3 21 rfl rfl)
theorem dX14_rest_81 : decode cX14_rest 81 = .ok (.invokevirtual 53, 3) := dk_182 0 53 (dk_at dksX14_rest_4 0 rfl rfl)
theorem dX14_rest_84 : decode cX14_rest 84 = .ok (.ireturn, 1) := dk_172 (dk_at dksX14_rest_4 3 rfl rfl)
theorem dX14_rest_85 : decode cX14_rest 85 = .ok (.iconst 1, 1) := dk_4 (dk_at dksX14_rest_4 4 rfl rfl)
theorem dX14_rest_86 : decode cX14_rest 86 = .ok (.ireturn, 1) := dk_172 (dk_at dksX14_rest_4 5 rfl rfl)
abbrev cX14_number : ByteArray := prog_11_method_4_code
def yX14_number : MethodName := ⟨RX14, "number", "(II)Z"⟩
def dkwX14_number_3 : List UInt8 := [180, 0, 15, 6, 42, 180, 0, 50, 104, 27, 96, 29, 79, 29, 2, 159, 0, 7, 4, 167, 0, 4, 3, 172]
abbrev dktX14_number_3 : List UInt8 := dkwX14_number_3 ++ []
def dkwX14_number_2 : List UInt8 := [42, 182, 0, 37, 96, 16, 48, 100, 62, 42, 89, 180, 0, 19, 4, 96, 181, 0, 19, 167, 255, 191, 42]
abbrev dktX14_number_2 : List UInt8 := dkwX14_number_2 ++ dktX14_number_3
def dkwX14_number_1 : List UInt8 := [184, 0, 44, 104, 42, 182, 0, 37, 96, 16, 48, 100, 28, 163, 0, 33, 16, 10, 3, 29, 184, 0, 44, 104]
abbrev dktX14_number_1 : List UInt8 := dkwX14_number_1 ++ dktX14_number_2
def dkwX14_number_0 : List UInt8 := [2, 62, 42, 182, 0, 37, 16, 48, 16, 57, 184, 0, 40, 153, 0, 57, 29, 153, 0, 53, 16, 10, 3, 29]
abbrev dktX14_number_0 : List UInt8 := dkwX14_number_0 ++ dktX14_number_1
theorem dksX14_number_0 : cX14_number.data.toList.drop 0 = dktX14_number_0 := by decide +kernel
theorem dksX14_number_1 : cX14_number.data.toList.drop 24 = dktX14_number_1 := dk_seg dksX14_number_0 24 rfl rfl
theorem dksX14_number_2 : cX14_number.data.toList.drop 48 = dktX14_number_2 := dk_seg dksX14_number_1 24 rfl rfl
theorem dksX14_number_3 : cX14_number.data.toList.drop 71 = dktX14_number_3 := dk_seg dksX14_number_2 23 rfl rfl
theorem dX14_number_0 : decode cX14_number 0 = .ok (.iconst (-1), 1) := dk_2 (dk_at dksX14_number_0 0 rfl rfl)
theorem dX14_number_1 : decode cX14_number 1 = .ok (.istore_n 3, 1) := dk_62 (dk_at dksX14_number_0 1 rfl rfl)
theorem dX14_number_2 : decode cX14_number 2 = .ok (.aload_n 0, 1) := dk_42 (dk_at dksX14_number_0 2 rfl rfl)
theorem dX14_number_3 : decode cX14_number 3 = .ok (.invokevirtual 37, 3) := dk_182 0 37 (dk_at dksX14_number_0 3 rfl rfl)
theorem dX14_number_6 : decode cX14_number 6 = .ok (.bipush 48, 2) := dk_16 48 (dk_at dksX14_number_0 6 rfl rfl)
theorem dX14_number_8 : decode cX14_number 8 = .ok (.bipush 57, 2) := dk_16 57 (dk_at dksX14_number_0 8 rfl rfl)
theorem dX14_number_10 : decode cX14_number 10 = .ok (.invokestatic 40, 3) := dk_184 0 40 (dk_at dksX14_number_0 10 rfl rfl)
theorem dX14_number_13 : decode cX14_number 13 = .ok (.ifCond .eq 57, 3) := dk_153 0 57 (dk_at dksX14_number_0 13 rfl rfl)
theorem dX14_number_16 : decode cX14_number 16 = .ok (.iload_n 3, 1) := dk_29 (dk_at dksX14_number_0 16 rfl rfl)
theorem dX14_number_17 : decode cX14_number 17 = .ok (.ifCond .eq 53, 3) := dk_153 0 53 (dk_at dksX14_number_0 17 rfl rfl)
theorem dX14_number_20 : decode cX14_number 20 = .ok (.bipush 10, 2) := dk_16 10 (dk_at dksX14_number_0 20 rfl rfl)
theorem dX14_number_22 : decode cX14_number 22 = .ok (.iconst 0, 1) := dk_3 (dk_at dksX14_number_0 22 rfl rfl)
theorem dX14_number_23 : decode cX14_number 23 = .ok (.iload_n 3, 1) := dk_29 (dk_at dksX14_number_0 23 rfl rfl)
theorem dX14_number_24 : decode cX14_number 24 = .ok (.invokestatic 44, 3) := dk_184 0 44 (dk_at dksX14_number_1 0 rfl rfl)
theorem dX14_number_27 : decode cX14_number 27 = .ok (.imul, 1) := dk_104 (dk_at dksX14_number_1 3 rfl rfl)
theorem dX14_number_28 : decode cX14_number 28 = .ok (.aload_n 0, 1) := dk_42 (dk_at dksX14_number_1 4 rfl rfl)
theorem dX14_number_29 : decode cX14_number 29 = .ok (.invokevirtual 37, 3) := dk_182 0 37 (dk_at dksX14_number_1 5 rfl rfl)
theorem dX14_number_32 : decode cX14_number 32 = .ok (.iadd, 1) := dk_96 (dk_at dksX14_number_1 8 rfl rfl)
theorem dX14_number_33 : decode cX14_number 33 = .ok (.bipush 48, 2) := dk_16 48 (dk_at dksX14_number_1 9 rfl rfl)
theorem dX14_number_35 : decode cX14_number 35 = .ok (.isub, 1) := dk_100 (dk_at dksX14_number_1 11 rfl rfl)
theorem dX14_number_36 : decode cX14_number 36 = .ok (.iload_n 2, 1) := dk_28 (dk_at dksX14_number_1 12 rfl rfl)
theorem dX14_number_37 : decode cX14_number 37 = .ok (.if_icmp .gt 33, 3) := dk_163 0 33 (dk_at dksX14_number_1 13 rfl rfl)
theorem dX14_number_40 : decode cX14_number 40 = .ok (.bipush 10, 2) := dk_16 10 (dk_at dksX14_number_1 16 rfl rfl)
theorem dX14_number_42 : decode cX14_number 42 = .ok (.iconst 0, 1) := dk_3 (dk_at dksX14_number_1 18 rfl rfl)
theorem dX14_number_43 : decode cX14_number 43 = .ok (.iload_n 3, 1) := dk_29 (dk_at dksX14_number_1 19 rfl rfl)
theorem dX14_number_44 : decode cX14_number 44 = .ok (.invokestatic 44, 3) := dk_184 0 44 (dk_at dksX14_number_1 20 rfl rfl)
theorem dX14_number_47 : decode cX14_number 47 = .ok (.imul, 1) := dk_104 (dk_at dksX14_number_1 23 rfl rfl)
theorem dX14_number_48 : decode cX14_number 48 = .ok (.aload_n 0, 1) := dk_42 (dk_at dksX14_number_2 0 rfl rfl)
theorem dX14_number_49 : decode cX14_number 49 = .ok (.invokevirtual 37, 3) := dk_182 0 37 (dk_at dksX14_number_2 1 rfl rfl)
theorem dX14_number_52 : decode cX14_number 52 = .ok (.iadd, 1) := dk_96 (dk_at dksX14_number_2 4 rfl rfl)
theorem dX14_number_53 : decode cX14_number 53 = .ok (.bipush 48, 2) := dk_16 48 (dk_at dksX14_number_2 5 rfl rfl)
theorem dX14_number_55 : decode cX14_number 55 = .ok (.isub, 1) := dk_100 (dk_at dksX14_number_2 7 rfl rfl)
theorem dX14_number_56 : decode cX14_number 56 = .ok (.istore_n 3, 1) := dk_62 (dk_at dksX14_number_2 8 rfl rfl)
theorem dX14_number_57 : decode cX14_number 57 = .ok (.aload_n 0, 1) := dk_42 (dk_at dksX14_number_2 9 rfl rfl)
theorem dX14_number_58 : decode cX14_number 58 = .ok (.dup, 1) := dk_89 (dk_at dksX14_number_2 10 rfl rfl)
theorem dX14_number_59 : decode cX14_number 59 = .ok (.getfield 19, 3) := dk_180 0 19 (dk_at dksX14_number_2 11 rfl rfl)
theorem dX14_number_62 : decode cX14_number 62 = .ok (.iconst 1, 1) := dk_4 (dk_at dksX14_number_2 14 rfl rfl)
theorem dX14_number_63 : decode cX14_number 63 = .ok (.iadd, 1) := dk_96 (dk_at dksX14_number_2 15 rfl rfl)
theorem dX14_number_64 : decode cX14_number 64 = .ok (.putfield 19, 3) := dk_181 0 19 (dk_at dksX14_number_2 16 rfl rfl)
theorem dX14_number_67 : decode cX14_number 67 = .ok (.goto (-65), 3) := dk_167 255 191 (dk_at dksX14_number_2 19 rfl rfl)
theorem dX14_number_70 : decode cX14_number 70 = .ok (.aload_n 0, 1) := dk_42 (dk_at dksX14_number_2 22 rfl rfl)
theorem dX14_number_71 : decode cX14_number 71 = .ok (.getfield 15, 3) := dk_180 0 15 (dk_at dksX14_number_3 0 rfl rfl)
theorem dX14_number_74 : decode cX14_number 74 = .ok (.iconst 3, 1) := dk_6 (dk_at dksX14_number_3 3 rfl rfl)
theorem dX14_number_75 : decode cX14_number 75 = .ok (.aload_n 0, 1) := dk_42 (dk_at dksX14_number_3 4 rfl rfl)
theorem dX14_number_76 : decode cX14_number 76 = .ok (.getfield 50, 3) := dk_180 0 50 (dk_at dksX14_number_3 5 rfl rfl)
theorem dX14_number_79 : decode cX14_number 79 = .ok (.imul, 1) := dk_104 (dk_at dksX14_number_3 8 rfl rfl)
theorem dX14_number_80 : decode cX14_number 80 = .ok (.iload_n 1, 1) := dk_27 (dk_at dksX14_number_3 9 rfl rfl)
theorem dX14_number_81 : decode cX14_number 81 = .ok (.iadd, 1) := dk_96 (dk_at dksX14_number_3 10 rfl rfl)
theorem dX14_number_82 : decode cX14_number 82 = .ok (.iload_n 3, 1) := dk_29 (dk_at dksX14_number_3 11 rfl rfl)
theorem dX14_number_83 : decode cX14_number 83 = .ok (.iastore, 1) := dk_79 (dk_at dksX14_number_3 12 rfl rfl)
theorem dX14_number_84 : decode cX14_number 84 = .ok (.iload_n 3, 1) := dk_29 (dk_at dksX14_number_3 13 rfl rfl)
theorem dX14_number_85 : decode cX14_number 85 = .ok (.iconst (-1), 1) := dk_2 (dk_at dksX14_number_3 14 rfl rfl)
theorem dX14_number_86 : decode cX14_number 86 = .ok (.if_icmp .eq 7, 3) := dk_159 0 7 (dk_at dksX14_number_3 15 rfl rfl)
theorem dX14_number_89 : decode cX14_number 89 = .ok (.iconst 1, 1) := dk_4 (dk_at dksX14_number_3 18 rfl rfl)
theorem dX14_number_90 : decode cX14_number 90 = .ok (.goto 4, 3) := dk_167 0 4 (dk_at dksX14_number_3 19 rfl rfl)
theorem dX14_number_93 : decode cX14_number 93 = .ok (.iconst 0, 1) := dk_3 (dk_at dksX14_number_3 22 rfl rfl)
theorem dX14_number_94 : decode cX14_number 94 = .ok (.ireturn, 1) := dk_172 (dk_at dksX14_number_3 23 rfl rfl)
abbrev cX14_takes : ByteArray := prog_11_method_3_code
def yX14_takes : MethodName := ⟨RX14, "takes", "(I)Z"⟩
def dkwX14_takes_1 : List UInt8 := [167, 0, 4, 3, 96, 181, 0, 19, 28, 172]
abbrev dktX14_takes_1 : List UInt8 := dkwX14_takes_1 ++ []
def dkwX14_takes_0 : List UInt8 := [42, 182, 0, 37, 27, 160, 0, 7, 4, 167, 0, 4, 3, 61, 42, 89, 180, 0, 19, 28, 153, 0, 7, 4]
abbrev dktX14_takes_0 : List UInt8 := dkwX14_takes_0 ++ dktX14_takes_1
theorem dksX14_takes_0 : cX14_takes.data.toList.drop 0 = dktX14_takes_0 := by decide +kernel
theorem dksX14_takes_1 : cX14_takes.data.toList.drop 24 = dktX14_takes_1 := dk_seg dksX14_takes_0 24 rfl rfl
theorem dX14_takes_0 : decode cX14_takes 0 = .ok (.aload_n 0, 1) := dk_42 (dk_at dksX14_takes_0 0 rfl rfl)
theorem dX14_takes_1 : decode cX14_takes 1 = .ok (.invokevirtual 37, 3) := dk_182 0 37 (dk_at dksX14_takes_0 1 rfl rfl)
theorem dX14_takes_4 : decode cX14_takes 4 = .ok (.iload_n 1, 1) := dk_27 (dk_at dksX14_takes_0 4 rfl rfl)
theorem dX14_takes_5 : decode cX14_takes 5 = .ok (.if_icmp .ne 7, 3) := dk_160 0 7 (dk_at dksX14_takes_0 5 rfl rfl)
theorem dX14_takes_8 : decode cX14_takes 8 = .ok (.iconst 1, 1) := dk_4 (dk_at dksX14_takes_0 8 rfl rfl)
theorem dX14_takes_9 : decode cX14_takes 9 = .ok (.goto 4, 3) := dk_167 0 4 (dk_at dksX14_takes_0 9 rfl rfl)
theorem dX14_takes_12 : decode cX14_takes 12 = .ok (.iconst 0, 1) := dk_3 (dk_at dksX14_takes_0 12 rfl rfl)
theorem dX14_takes_13 : decode cX14_takes 13 = .ok (.istore_n 2, 1) := dk_61 (dk_at dksX14_takes_0 13 rfl rfl)
theorem dX14_takes_14 : decode cX14_takes 14 = .ok (.aload_n 0, 1) := dk_42 (dk_at dksX14_takes_0 14 rfl rfl)
theorem dX14_takes_15 : decode cX14_takes 15 = .ok (.dup, 1) := dk_89 (dk_at dksX14_takes_0 15 rfl rfl)
theorem dX14_takes_16 : decode cX14_takes 16 = .ok (.getfield 19, 3) := dk_180 0 19 (dk_at dksX14_takes_0 16 rfl rfl)
theorem dX14_takes_19 : decode cX14_takes 19 = .ok (.iload_n 2, 1) := dk_28 (dk_at dksX14_takes_0 19 rfl rfl)
theorem dX14_takes_20 : decode cX14_takes 20 = .ok (.ifCond .eq 7, 3) := dk_153 0 7 (dk_at dksX14_takes_0 20 rfl rfl)
theorem dX14_takes_23 : decode cX14_takes 23 = .ok (.iconst 1, 1) := dk_4 (dk_at dksX14_takes_0 23 rfl rfl)
theorem dX14_takes_24 : decode cX14_takes 24 = .ok (.goto 4, 3) := dk_167 0 4 (dk_at dksX14_takes_1 0 rfl rfl)
theorem dX14_takes_27 : decode cX14_takes 27 = .ok (.iconst 0, 1) := dk_3 (dk_at dksX14_takes_1 3 rfl rfl)
theorem dX14_takes_28 : decode cX14_takes 28 = .ok (.iadd, 1) := dk_96 (dk_at dksX14_takes_1 4 rfl rfl)
theorem dX14_takes_29 : decode cX14_takes 29 = .ok (.putfield 19, 3) := dk_181 0 19 (dk_at dksX14_takes_1 5 rfl rfl)
theorem dX14_takes_32 : decode cX14_takes 32 = .ok (.iload_n 2, 1) := dk_28 (dk_at dksX14_takes_1 8 rfl rfl)
theorem dX14_takes_33 : decode cX14_takes 33 = .ok (.ireturn, 1) := dk_172 (dk_at dksX14_takes_1 9 rfl rfl)
theorem q147 : (Jvm.Cond.initialized "CourierClash$Reader") ∈ lw_all := lw_g (lw_at lw_m1 52 rfl) rfl
theorem q836 : (Jvm.Cond.fieldLinkNest "CourierClash$Reader" (23 : Nat) "CourierClash" "text" "Ljava/lang/StringBuilder;" "CourierClash") ∈ lw_tbl := lw_at lw_m4 21 rfl
theorem q1179 : (Jvm.Cond.instantiable "CourierClash$Reader" (4 : Nat)) ∈ lw_all := lw_g (lw_at lw_m5 124 rfl) rfl
theorem q1181 : (Jvm.Cond.instanceMethod ({ cls := "CourierClash$Reader", name := "<init>", desc := "(LCourierClash;)V" } : Jvm.MethodName)) ∈ lw_all := lw_g (lw_at lw_m5 126 rfl) rfl
theorem q1182 : (Jvm.Cond.code ({ cls := "CourierClash$Reader", name := "<init>", desc := "(LCourierClash;)V" } : Jvm.MethodName) prog_11_method_1_code (2 : Nat) (Option.none : Option Jvm.ClassFile.FieldType)) ∈ lw_all := lw_g (lw_at lw_m5 127 rfl) rfl
theorem q1183 : (Jvm.Cond.methodLink "CourierClash$Reader" (9 : Nat) ({ cls := "java/lang/Object", name := "<init>", desc := "()V" } : Jvm.MethodName)) ∈ lw_all := lw_g (lw_at lw_m5 128 rfl) rfl
theorem q1184 : (Jvm.Cond.fieldLink "CourierClash$Reader" (15 : Nat) "CourierClash$Reader" "parts" "[I") ∈ lw_all := lw_g (lw_at lw_m5 129 rfl) rfl
theorem q1186 : (Jvm.Cond.fieldLink "CourierClash$Reader" (50 : Nat) "CourierClash$Reader" "many" "I") ∈ lw_all := lw_g (lw_at lw_m5 131 rfl) rfl
theorem q1188 : (Jvm.Cond.fieldLink "CourierClash$Reader" (19 : Nat) "CourierClash$Reader" "place" "I") ∈ lw_all := lw_g (lw_at lw_m5 133 rfl) rfl
theorem q1190 : (Jvm.Cond.fieldLink "CourierClash$Reader" (3 : Nat) "CourierClash$Reader" "this$0" "LCourierClash;") ∈ lw_all := lw_g (lw_at lw_m5 135 rfl) rfl
theorem q1191 : (Jvm.Cond.laysFinal "CourierClash$Reader" "CourierClash$Reader" "parts" "[I") ∈ lw_all := lw_g (lw_at lw_m5 136 rfl) rfl
theorem q1192 : (Jvm.Cond.soleField "CourierClash$Reader" "parts") ∈ lw_all := lw_g (lw_at lw_m5 137 rfl) rfl
theorem q1193 : (Jvm.Cond.lays "CourierClash$Reader" "CourierClash$Reader" "many" "I") ∈ lw_all := lw_g (lw_at lw_m5 138 rfl) rfl
theorem q1194 : (Jvm.Cond.soleField "CourierClash$Reader" "many") ∈ lw_all := lw_g (lw_at lw_m5 139 rfl) rfl
theorem q1195 : (Jvm.Cond.lays "CourierClash$Reader" "CourierClash$Reader" "place" "I") ∈ lw_all := lw_g (lw_at lw_m5 140 rfl) rfl
theorem q1196 : (Jvm.Cond.soleField "CourierClash$Reader" "place") ∈ lw_all := lw_g (lw_at lw_m5 141 rfl) rfl
theorem q1197 : (Jvm.Cond.laysFinal "CourierClash$Reader" "CourierClash$Reader" "this$0" "LCourierClash;") ∈ lw_all := lw_g (lw_at lw_m5 142 rfl) rfl
theorem q1198 : (Jvm.Cond.soleField "CourierClash$Reader" "this$0") ∈ lw_all := lw_g (lw_at lw_m5 143 rfl) rfl
theorem q1199 : (Jvm.Cond.superclass "CourierClash$Reader" "java/lang/Object") ∈ lw_all := lw_g (lw_at lw_m5 144 rfl) rfl
theorem q1201 : (Jvm.Cond.instanceMethod ({ cls := "CourierClash$Reader", name := "isGame", desc := "()Z" } : Jvm.MethodName)) ∈ lw_all := lw_g (lw_at lw_m5 146 rfl) rfl
theorem q1202 : (Jvm.Cond.selects "CourierClash$Reader" ({ cls := "CourierClash$Reader", name := "isGame", desc := "()Z" } : Jvm.MethodName) ({ cls := "CourierClash$Reader", name := "isGame", desc := "()Z" } : Jvm.MethodName)) ∈ lw_all := lw_g (lw_at lw_m5 147 rfl) rfl
theorem q1203 : (Jvm.Cond.code ({ cls := "CourierClash$Reader", name := "isGame", desc := "()Z" } : Jvm.MethodName) prog_11_method_7_code (2 : Nat) (Option.some Jvm.ClassFile.FieldType.boolean)) ∈ lw_all := lw_g (lw_at lw_m5 148 rfl) rfl
theorem q1204 : (Jvm.Cond.methodLink "CourierClash$Reader" (64 : Nat) ({ cls := "CourierClash$Reader", name := "part", desc := "()Z" } : Jvm.MethodName)) ∈ lw_all := lw_g (lw_at lw_m5 149 rfl) rfl
theorem q1205 : (Jvm.Cond.privateMethod ({ cls := "CourierClash$Reader", name := "part", desc := "()Z" } : Jvm.MethodName)) ∈ lw_tbl := lw_at lw_m5 150 rfl
theorem q1206 : (Jvm.Cond.instanceMethod ({ cls := "CourierClash$Reader", name := "part", desc := "()Z" } : Jvm.MethodName)) ∈ lw_all := lw_g (lw_at lw_m5 151 rfl) rfl
theorem q1207 : (Jvm.Cond.code ({ cls := "CourierClash$Reader", name := "part", desc := "()Z" } : Jvm.MethodName) prog_11_method_6_code (4 : Nat) (Option.some Jvm.ClassFile.FieldType.boolean)) ∈ lw_all := lw_g (lw_at lw_m5 152 rfl) rfl
theorem q1208 : (Jvm.Cond.methodLink "CourierClash$Reader" (37 : Nat) ({ cls := "CourierClash$Reader", name := "next", desc := "()I" } : Jvm.MethodName)) ∈ lw_all := lw_g (lw_at lw_m5 153 rfl) rfl
theorem q1209 : (Jvm.Cond.privateMethod ({ cls := "CourierClash$Reader", name := "next", desc := "()I" } : Jvm.MethodName)) ∈ lw_tbl := lw_at lw_m5 154 rfl
theorem q1210 : (Jvm.Cond.instanceMethod ({ cls := "CourierClash$Reader", name := "next", desc := "()I" } : Jvm.MethodName)) ∈ lw_all := lw_g (lw_at lw_m5 155 rfl) rfl
theorem q1211 : (Jvm.Cond.code ({ cls := "CourierClash$Reader", name := "next", desc := "()I" } : Jvm.MethodName) prog_11_method_2_code (1 : Nat) (Option.some Jvm.ClassFile.FieldType.int)) ∈ lw_all := lw_g (lw_at lw_m5 156 rfl) rfl
theorem q1212 : (Jvm.Cond.methodLink "CourierClash$Reader" (27 : Nat) ({ cls := "java/lang/StringBuilder", name := "length", desc := "()I" } : Jvm.MethodName)) ∈ lw_all := lw_g (lw_at lw_m5 157 rfl) rfl
theorem q1213 : (Jvm.Cond.methodLink "CourierClash$Reader" (33 : Nat) ({ cls := "java/lang/StringBuilder", name := "charAt", desc := "(I)C" } : Jvm.MethodName)) ∈ lw_all := lw_g (lw_at lw_m5 158 rfl) rfl
theorem q1226 : (Jvm.Cond.methodLink "CourierClash$Reader" (61 : Nat) ({ cls := "CourierClash$Reader", name := "rest", desc := "(I)Z" } : Jvm.MethodName)) ∈ lw_all := lw_g (lw_at lw_m5 171 rfl) rfl
theorem q1227 : (Jvm.Cond.privateMethod ({ cls := "CourierClash$Reader", name := "rest", desc := "(I)Z" } : Jvm.MethodName)) ∈ lw_tbl := lw_at lw_m5 172 rfl
theorem q1228 : (Jvm.Cond.instanceMethod ({ cls := "CourierClash$Reader", name := "rest", desc := "(I)Z" } : Jvm.MethodName)) ∈ lw_all := lw_g (lw_at lw_m5 173 rfl) rfl
theorem q1229 : (Jvm.Cond.code ({ cls := "CourierClash$Reader", name := "rest", desc := "(I)Z" } : Jvm.MethodName) prog_11_method_5_code (2 : Nat) (Option.some Jvm.ClassFile.FieldType.boolean)) ∈ lw_all := lw_g (lw_at lw_m5 174 rfl) rfl
theorem q1230 : (Jvm.Cond.methodLink "CourierClash$Reader" (53 : Nat) ({ cls := "CourierClash$Reader", name := "number", desc := "(II)Z" } : Jvm.MethodName)) ∈ lw_all := lw_g (lw_at lw_m5 175 rfl) rfl
theorem q1231 : (Jvm.Cond.privateMethod ({ cls := "CourierClash$Reader", name := "number", desc := "(II)Z" } : Jvm.MethodName)) ∈ lw_tbl := lw_at lw_m5 176 rfl
theorem q1232 : (Jvm.Cond.instanceMethod ({ cls := "CourierClash$Reader", name := "number", desc := "(II)Z" } : Jvm.MethodName)) ∈ lw_all := lw_g (lw_at lw_m5 177 rfl) rfl
theorem q1233 : (Jvm.Cond.code ({ cls := "CourierClash$Reader", name := "number", desc := "(II)Z" } : Jvm.MethodName) prog_11_method_4_code (4 : Nat) (Option.some Jvm.ClassFile.FieldType.boolean)) ∈ lw_all := lw_g (lw_at lw_m5 178 rfl) rfl
theorem q1234 : (Jvm.Cond.methodLinkNest "CourierClash$Reader" (40 : Nat) ({ cls := "CourierClash", name := "in", desc := "(III)Z" } : Jvm.MethodName) "CourierClash") ∈ lw_tbl := lw_at lw_m5 179 rfl
theorem q1237 : (Jvm.Cond.methodLink "CourierClash$Reader" (44 : Nat) ({ cls := "java/lang/Math", name := "max", desc := "(II)I" } : Jvm.MethodName)) ∈ lw_all := lw_g (lw_at lw_m5 182 rfl) rfl
theorem q1238 : (Jvm.Cond.methodLink "CourierClash$Reader" (57 : Nat) ({ cls := "CourierClash$Reader", name := "takes", desc := "(I)Z" } : Jvm.MethodName)) ∈ lw_all := lw_g (lw_at lw_m5 183 rfl) rfl
theorem q1239 : (Jvm.Cond.privateMethod ({ cls := "CourierClash$Reader", name := "takes", desc := "(I)Z" } : Jvm.MethodName)) ∈ lw_tbl := lw_at lw_m5 184 rfl
theorem q1240 : (Jvm.Cond.instanceMethod ({ cls := "CourierClash$Reader", name := "takes", desc := "(I)Z" } : Jvm.MethodName)) ∈ lw_all := lw_g (lw_at lw_m5 185 rfl) rfl
theorem q1241 : (Jvm.Cond.code ({ cls := "CourierClash$Reader", name := "takes", desc := "(I)Z" } : Jvm.MethodName) prog_11_method_3_code (3 : Nat) (Option.some Jvm.ClassFile.FieldType.boolean)) ∈ lw_all := lw_g (lw_at lw_m5 186 rfl) rfl
theorem q1323 : (Jvm.Cond.selects "CourierClash$Reader" ({ cls := "java/lang/Object", name := "getClass", desc := "()Ljava/lang/Class;" } : Jvm.MethodName) ({ cls := "java/lang/Object", name := "getClass", desc := "()Ljava/lang/Class;" } : Jvm.MethodName)) ∈ lw_all := lw_g (lw_at lw_m6 28 rfl) rfl
theorem q2845 : (Jvm.Cond.castable "CourierClash$Reader" "java/lang/Object") ∈ lw_tbl := lw_at lw_m12 110 rfl
theorem in_X14 : ∀ w ∈ wsX140, w ∈ lw_all := lw_in wsX140 [1191, 1193, 1195, 1197] (by decide +kernel) (by decide +kernel)

/-! CourierClash$Game -/
set_option maxRecDepth 100000
def RX2 : String := "CourierClash$Game"
def TX2 : u_T := fun k => match k with
  | 0 => ("CourierClash$Game", "streets", "Ljava/util/ArrayList;", true)
  | 1 => ("CourierClash$Game", "couriers", "[LCourierClash$Courier;", true)
  | 2 => ("CourierClash$Game", "parcels", "Ljava/util/ArrayList;", true)
  | 3 => ("CourierClash$Game", "notes", "Ljava/util/TreeMap;", true)
  | 4 => ("CourierClash$Game", "points", "[I", true)
  | 5 => ("CourierClash$Game", "capacity", "I", false)
  | 6 => ("CourierClash$Game", "limit", "I", false)
  | 7 => ("CourierClash$Game", "turns", "I", false)
  | 8 => ("CourierClash$Game", "failed", "I", false)
  | 9 => ("CourierClash$Game", "stop", "I", false)
  | 10 => ("CourierClash$Game", "row", "[I", true)
  | 11 => ("CourierClash$Game", "why", "[I", true)
  | _ => ("CourierClash$Game", "whyNext", "[I", true)
def tyX2 : Nat → FieldType := fun k => match k with
  | 0 => .object "java/util/ArrayList"
  | 1 => .array (.object "CourierClash$Courier")
  | 2 => .object "java/util/ArrayList"
  | 3 => .object "java/util/TreeMap"
  | 4 => .array .int
  | 5 => .int
  | 6 => .int
  | 7 => .int
  | 8 => .int
  | 9 => .int
  | 10 => .array .int
  | 11 => .array .int
  | _ => .array .int
abbrev wsX20 : List Cond := u_ws RX2 TX2 13
set_option maxRecDepth 100000 in
theorem nmX2 : ∀ a, a < 13 → ∀ b, b < 13 → a ≠ b → (TX2 a).2.1 ≠ (TX2 b).2.1 := by decide +kernel
set_option maxRecDepth 100000 in
theorem tyX2_ok : ∀ k, k < 13 → parseFieldDescriptor (TX2 k).2.2.1 = some (tyX2 k) := by decide +kernel
abbrev cX2_init : ByteArray := prog_8_method_1_code
def yX2_init : MethodName := ⟨RX2, "<init>", "()V"⟩
def dkwX2_init_5 : List UInt8 := [16, 12, 188, 10, 181, 0, 57, 42, 7, 188, 10, 181, 0, 60, 42, 7, 188, 10, 181, 0, 63, 177]
abbrev dktX2_init_5 : List UInt8 := dkwX2_init_5 ++ []
def dkwX2_init_4 : List UInt8 := [42, 5, 188, 10, 181, 0, 43, 42, 8, 181, 0, 47, 42, 16, 40, 181, 0, 51, 42, 2, 181, 0, 54, 42]
abbrev dktX2_init_4 : List UInt8 := dkwX2_init_4 ++ dktX2_init_5
def dkwX2_init_3 : List UInt8 := [187, 0, 9, 89, 183, 0, 11, 181, 0, 27, 42, 187, 0, 30, 89, 184, 0, 32, 183, 0, 36, 181, 0, 39]
abbrev dktX2_init_3 : List UInt8 := dkwX2_init_3 ++ dktX2_init_4
def dkwX2_init_2 : List UInt8 := [187, 0, 18, 89, 5, 183, 0, 20, 83, 89, 6, 187, 0, 18, 89, 6, 183, 0, 20, 83, 181, 0, 23, 42]
abbrev dktX2_init_2 : List UInt8 := dkwX2_init_2 ++ dktX2_init_3
def dkwX2_init_1 : List UInt8 := [187, 0, 18, 89, 3, 183, 0, 20, 83, 89, 4, 187, 0, 18, 89, 4, 183, 0, 20, 83, 89, 5]
abbrev dktX2_init_1 : List UInt8 := dkwX2_init_1 ++ dktX2_init_2
def dkwX2_init_0 : List UInt8 := [42, 183, 0, 3, 42, 187, 0, 9, 89, 183, 0, 11, 181, 0, 12, 42, 7, 189, 0, 18, 89, 3]
abbrev dktX2_init_0 : List UInt8 := dkwX2_init_0 ++ dktX2_init_1
theorem dksX2_init_0 : cX2_init.data.toList.drop 0 = dktX2_init_0 := by decide +kernel
theorem dksX2_init_1 : cX2_init.data.toList.drop 22 = dktX2_init_1 := dk_seg dksX2_init_0 22 rfl rfl
theorem dksX2_init_2 : cX2_init.data.toList.drop 44 = dktX2_init_2 := dk_seg dksX2_init_1 22 rfl rfl
theorem dksX2_init_3 : cX2_init.data.toList.drop 68 = dktX2_init_3 := dk_seg dksX2_init_2 24 rfl rfl
theorem dksX2_init_4 : cX2_init.data.toList.drop 92 = dktX2_init_4 := dk_seg dksX2_init_3 24 rfl rfl
theorem dksX2_init_5 : cX2_init.data.toList.drop 116 = dktX2_init_5 := dk_seg dksX2_init_4 24 rfl rfl
theorem dX2_init_0 : decode cX2_init 0 = .ok (.aload_n 0, 1) := dk_42 (dk_at dksX2_init_0 0 rfl rfl)
theorem dX2_init_1 : decode cX2_init 1 = .ok (.invokespecial 3, 3) := dk_183 0 3 (dk_at dksX2_init_0 1 rfl rfl)
theorem dX2_init_4 : decode cX2_init 4 = .ok (.aload_n 0, 1) := dk_42 (dk_at dksX2_init_0 4 rfl rfl)
theorem dX2_init_5 : decode cX2_init 5 = .ok (.new 9, 3) := dk_187 0 9 (dk_at dksX2_init_0 5 rfl rfl)
theorem dX2_init_8 : decode cX2_init 8 = .ok (.dup, 1) := dk_89 (dk_at dksX2_init_0 8 rfl rfl)
theorem dX2_init_9 : decode cX2_init 9 = .ok (.invokespecial 11, 3) := dk_183 0 11 (dk_at dksX2_init_0 9 rfl rfl)
theorem dX2_init_12 : decode cX2_init 12 = .ok (.putfield 12, 3) := dk_181 0 12 (dk_at dksX2_init_0 12 rfl rfl)
theorem dX2_init_15 : decode cX2_init 15 = .ok (.aload_n 0, 1) := dk_42 (dk_at dksX2_init_0 15 rfl rfl)
theorem dX2_init_16 : decode cX2_init 16 = .ok (.iconst 4, 1) := dk_7 (dk_at dksX2_init_0 16 rfl rfl)
theorem dX2_init_17 : decode cX2_init 17 = .ok (.anewarray 18, 3) := dk_189 0 18 (dk_at dksX2_init_0 17 rfl rfl)
theorem dX2_init_20 : decode cX2_init 20 = .ok (.dup, 1) := dk_89 (dk_at dksX2_init_0 20 rfl rfl)
theorem dX2_init_21 : decode cX2_init 21 = .ok (.iconst 0, 1) := dk_3 (dk_at dksX2_init_0 21 rfl rfl)
theorem dX2_init_22 : decode cX2_init 22 = .ok (.new 18, 3) := dk_187 0 18 (dk_at dksX2_init_1 0 rfl rfl)
theorem dX2_init_25 : decode cX2_init 25 = .ok (.dup, 1) := dk_89 (dk_at dksX2_init_1 3 rfl rfl)
theorem dX2_init_26 : decode cX2_init 26 = .ok (.iconst 0, 1) := dk_3 (dk_at dksX2_init_1 4 rfl rfl)
theorem dX2_init_27 : decode cX2_init 27 = .ok (.invokespecial 20, 3) := dk_183 0 20 (dk_at dksX2_init_1 5 rfl rfl)
theorem dX2_init_30 : decode cX2_init 30 = .ok (.aastore, 1) := dk_83 (dk_at dksX2_init_1 8 rfl rfl)
theorem dX2_init_31 : decode cX2_init 31 = .ok (.dup, 1) := dk_89 (dk_at dksX2_init_1 9 rfl rfl)
theorem dX2_init_32 : decode cX2_init 32 = .ok (.iconst 1, 1) := dk_4 (dk_at dksX2_init_1 10 rfl rfl)
theorem dX2_init_33 : decode cX2_init 33 = .ok (.new 18, 3) := dk_187 0 18 (dk_at dksX2_init_1 11 rfl rfl)
theorem dX2_init_36 : decode cX2_init 36 = .ok (.dup, 1) := dk_89 (dk_at dksX2_init_1 14 rfl rfl)
theorem dX2_init_37 : decode cX2_init 37 = .ok (.iconst 1, 1) := dk_4 (dk_at dksX2_init_1 15 rfl rfl)
theorem dX2_init_38 : decode cX2_init 38 = .ok (.invokespecial 20, 3) := dk_183 0 20 (dk_at dksX2_init_1 16 rfl rfl)
theorem dX2_init_41 : decode cX2_init 41 = .ok (.aastore, 1) := dk_83 (dk_at dksX2_init_1 19 rfl rfl)
theorem dX2_init_42 : decode cX2_init 42 = .ok (.dup, 1) := dk_89 (dk_at dksX2_init_1 20 rfl rfl)
theorem dX2_init_43 : decode cX2_init 43 = .ok (.iconst 2, 1) := dk_5 (dk_at dksX2_init_1 21 rfl rfl)
theorem dX2_init_44 : decode cX2_init 44 = .ok (.new 18, 3) := dk_187 0 18 (dk_at dksX2_init_2 0 rfl rfl)
theorem dX2_init_47 : decode cX2_init 47 = .ok (.dup, 1) := dk_89 (dk_at dksX2_init_2 3 rfl rfl)
theorem dX2_init_48 : decode cX2_init 48 = .ok (.iconst 2, 1) := dk_5 (dk_at dksX2_init_2 4 rfl rfl)
theorem dX2_init_49 : decode cX2_init 49 = .ok (.invokespecial 20, 3) := dk_183 0 20 (dk_at dksX2_init_2 5 rfl rfl)
theorem dX2_init_52 : decode cX2_init 52 = .ok (.aastore, 1) := dk_83 (dk_at dksX2_init_2 8 rfl rfl)
theorem dX2_init_53 : decode cX2_init 53 = .ok (.dup, 1) := dk_89 (dk_at dksX2_init_2 9 rfl rfl)
theorem dX2_init_54 : decode cX2_init 54 = .ok (.iconst 3, 1) := dk_6 (dk_at dksX2_init_2 10 rfl rfl)
theorem dX2_init_55 : decode cX2_init 55 = .ok (.new 18, 3) := dk_187 0 18 (dk_at dksX2_init_2 11 rfl rfl)
theorem dX2_init_58 : decode cX2_init 58 = .ok (.dup, 1) := dk_89 (dk_at dksX2_init_2 14 rfl rfl)
theorem dX2_init_59 : decode cX2_init 59 = .ok (.iconst 3, 1) := dk_6 (dk_at dksX2_init_2 15 rfl rfl)
theorem dX2_init_60 : decode cX2_init 60 = .ok (.invokespecial 20, 3) := dk_183 0 20 (dk_at dksX2_init_2 16 rfl rfl)
theorem dX2_init_63 : decode cX2_init 63 = .ok (.aastore, 1) := dk_83 (dk_at dksX2_init_2 19 rfl rfl)
theorem dX2_init_64 : decode cX2_init 64 = .ok (.putfield 23, 3) := dk_181 0 23 (dk_at dksX2_init_2 20 rfl rfl)
theorem dX2_init_67 : decode cX2_init 67 = .ok (.aload_n 0, 1) := dk_42 (dk_at dksX2_init_2 23 rfl rfl)
theorem dX2_init_68 : decode cX2_init 68 = .ok (.new 9, 3) := dk_187 0 9 (dk_at dksX2_init_3 0 rfl rfl)
theorem dX2_init_71 : decode cX2_init 71 = .ok (.dup, 1) := dk_89 (dk_at dksX2_init_3 3 rfl rfl)
theorem dX2_init_72 : decode cX2_init 72 = .ok (.invokespecial 11, 3) := dk_183 0 11 (dk_at dksX2_init_3 4 rfl rfl)
theorem dX2_init_75 : decode cX2_init 75 = .ok (.putfield 27, 3) := dk_181 0 27 (dk_at dksX2_init_3 7 rfl rfl)
theorem dX2_init_78 : decode cX2_init 78 = .ok (.aload_n 0, 1) := dk_42 (dk_at dksX2_init_3 10 rfl rfl)
theorem dX2_init_79 : decode cX2_init 79 = .ok (.new 30, 3) := dk_187 0 30 (dk_at dksX2_init_3 11 rfl rfl)
theorem dX2_init_82 : decode cX2_init 82 = .ok (.dup, 1) := dk_89 (dk_at dksX2_init_3 14 rfl rfl)
theorem dX2_init_83 : decode cX2_init 83 = .ok (.invokestatic 32, 3) := dk_184 0 32 (dk_at dksX2_init_3 15 rfl rfl)
theorem dX2_init_86 : decode cX2_init 86 = .ok (.invokespecial 36, 3) := dk_183 0 36 (dk_at dksX2_init_3 18 rfl rfl)
theorem dX2_init_89 : decode cX2_init 89 = .ok (.putfield 39, 3) := dk_181 0 39 (dk_at dksX2_init_3 21 rfl rfl)
theorem dX2_init_92 : decode cX2_init 92 = .ok (.aload_n 0, 1) := dk_42 (dk_at dksX2_init_4 0 rfl rfl)
theorem dX2_init_93 : decode cX2_init 93 = .ok (.iconst 2, 1) := dk_5 (dk_at dksX2_init_4 1 rfl rfl)
theorem dX2_init_94 : decode cX2_init 94 = .ok (.newarray .int, 2) := dk_188_10 (dk_at dksX2_init_4 2 rfl rfl)
theorem dX2_init_96 : decode cX2_init 96 = .ok (.putfield 43, 3) := dk_181 0 43 (dk_at dksX2_init_4 4 rfl rfl)
theorem dX2_init_99 : decode cX2_init 99 = .ok (.aload_n 0, 1) := dk_42 (dk_at dksX2_init_4 7 rfl rfl)
theorem dX2_init_100 : decode cX2_init 100 = .ok (.iconst 5, 1) := dk_8 (dk_at dksX2_init_4 8 rfl rfl)
theorem dX2_init_101 : decode cX2_init 101 = .ok (.putfield 47, 3) := dk_181 0 47 (dk_at dksX2_init_4 9 rfl rfl)
theorem dX2_init_104 : decode cX2_init 104 = .ok (.aload_n 0, 1) := dk_42 (dk_at dksX2_init_4 12 rfl rfl)
theorem dX2_init_105 : decode cX2_init 105 = .ok (.bipush 40, 2) := dk_16 40 (dk_at dksX2_init_4 13 rfl rfl)
theorem dX2_init_107 : decode cX2_init 107 = .ok (.putfield 51, 3) := dk_181 0 51 (dk_at dksX2_init_4 15 rfl rfl)
theorem dX2_init_110 : decode cX2_init 110 = .ok (.aload_n 0, 1) := dk_42 (dk_at dksX2_init_4 18 rfl rfl)
theorem dX2_init_111 : decode cX2_init 111 = .ok (.iconst (-1), 1) := dk_2 (dk_at dksX2_init_4 19 rfl rfl)
theorem dX2_init_112 : decode cX2_init 112 = .ok (.putfield 54, 3) := dk_181 0 54 (dk_at dksX2_init_4 20 rfl rfl)
theorem dX2_init_115 : decode cX2_init 115 = .ok (.aload_n 0, 1) := dk_42 (dk_at dksX2_init_4 23 rfl rfl)
theorem dX2_init_116 : decode cX2_init 116 = .ok (.bipush 12, 2) := dk_16 12 (dk_at dksX2_init_5 0 rfl rfl)
theorem dX2_init_118 : decode cX2_init 118 = .ok (.newarray .int, 2) := dk_188_10 (dk_at dksX2_init_5 2 rfl rfl)
theorem dX2_init_120 : decode cX2_init 120 = .ok (.putfield 57, 3) := dk_181 0 57 (dk_at dksX2_init_5 4 rfl rfl)
theorem dX2_init_123 : decode cX2_init 123 = .ok (.aload_n 0, 1) := dk_42 (dk_at dksX2_init_5 7 rfl rfl)
theorem dX2_init_124 : decode cX2_init 124 = .ok (.iconst 4, 1) := dk_7 (dk_at dksX2_init_5 8 rfl rfl)
theorem dX2_init_125 : decode cX2_init 125 = .ok (.newarray .int, 2) := dk_188_10 (dk_at dksX2_init_5 9 rfl rfl)
theorem dX2_init_127 : decode cX2_init 127 = .ok (.putfield 60, 3) := dk_181 0 60 (dk_at dksX2_init_5 11 rfl rfl)
theorem dX2_init_130 : decode cX2_init 130 = .ok (.aload_n 0, 1) := dk_42 (dk_at dksX2_init_5 14 rfl rfl)
theorem dX2_init_131 : decode cX2_init 131 = .ok (.iconst 4, 1) := dk_7 (dk_at dksX2_init_5 15 rfl rfl)
theorem dX2_init_132 : decode cX2_init 132 = .ok (.newarray .int, 2) := dk_188_10 (dk_at dksX2_init_5 16 rfl rfl)
theorem dX2_init_134 : decode cX2_init 134 = .ok (.putfield 63, 3) := dk_181 0 63 (dk_at dksX2_init_5 18 rfl rfl)
theorem dX2_init_137 : decode cX2_init 137 = .ok (.return_, 1) := dk_177 (dk_at dksX2_init_5 21 rfl rfl)
abbrev cX2_noteAnew : ByteArray := prog_8_method_6_code
def yX2_noteAnew : MethodName := ⟨RX2, "noteAnew", "()V"⟩
def dkwX2_noteAnew_0 : List UInt8 := [42, 180, 0, 39, 182, 0, 96, 42, 182, 0, 163, 177]
abbrev dktX2_noteAnew_0 : List UInt8 := dkwX2_noteAnew_0 ++ []
theorem dksX2_noteAnew_0 : cX2_noteAnew.data.toList.drop 0 = dktX2_noteAnew_0 := by decide +kernel
theorem dX2_noteAnew_0 : decode cX2_noteAnew 0 = .ok (.aload_n 0, 1) := dk_42 (dk_at dksX2_noteAnew_0 0 rfl rfl)
theorem dX2_noteAnew_1 : decode cX2_noteAnew 1 = .ok (.getfield 39, 3) := dk_180 0 39 (dk_at dksX2_noteAnew_0 1 rfl rfl)
theorem dX2_noteAnew_4 : decode cX2_noteAnew 4 = .ok (.invokevirtual 96, 3) := dk_182 0 96 (dk_at dksX2_noteAnew_0 4 rfl rfl)
theorem dX2_noteAnew_7 : decode cX2_noteAnew 7 = .ok (.aload_n 0, 1) := dk_42 (dk_at dksX2_noteAnew_0 7 rfl rfl)
theorem dX2_noteAnew_8 : decode cX2_noteAnew 8 = .ok (.invokevirtual 163, 3) := dk_182 0 163 (dk_at dksX2_noteAnew_0 8 rfl rfl)
theorem dX2_noteAnew_11 : decode cX2_noteAnew 11 = .ok (.return_, 1) := dk_177 (dk_at dksX2_noteAnew_0 11 rfl rfl)
abbrev cX2_note : ByteArray := prog_8_method_5_code
def yX2_note : MethodName := ⟨RX2, "note", "()V"⟩
def dkwX2_note_0 : List UInt8 := [42, 180, 0, 39, 42, 182, 0, 149, 42, 182, 0, 156, 4, 96, 184, 0, 159, 182, 0, 124, 87, 177]
abbrev dktX2_note_0 : List UInt8 := dkwX2_note_0 ++ []
theorem dksX2_note_0 : cX2_note.data.toList.drop 0 = dktX2_note_0 := by decide +kernel
theorem dX2_note_0 : decode cX2_note 0 = .ok (.aload_n 0, 1) := dk_42 (dk_at dksX2_note_0 0 rfl rfl)
theorem dX2_note_1 : decode cX2_note 1 = .ok (.getfield 39, 3) := dk_180 0 39 (dk_at dksX2_note_0 1 rfl rfl)
theorem dX2_note_4 : decode cX2_note 4 = .ok (.aload_n 0, 1) := dk_42 (dk_at dksX2_note_0 4 rfl rfl)
theorem dX2_note_5 : decode cX2_note 5 = .ok (.invokevirtual 149, 3) := dk_182 0 149 (dk_at dksX2_note_0 5 rfl rfl)
theorem dX2_note_8 : decode cX2_note 8 = .ok (.aload_n 0, 1) := dk_42 (dk_at dksX2_note_0 8 rfl rfl)
theorem dX2_note_9 : decode cX2_note 9 = .ok (.invokevirtual 156, 3) := dk_182 0 156 (dk_at dksX2_note_0 9 rfl rfl)
theorem dX2_note_12 : decode cX2_note 12 = .ok (.iconst 1, 1) := dk_4 (dk_at dksX2_note_0 12 rfl rfl)
theorem dX2_note_13 : decode cX2_note 13 = .ok (.iadd, 1) := dk_96 (dk_at dksX2_note_0 13 rfl rfl)
theorem dX2_note_14 : decode cX2_note 14 = .ok (.invokestatic 159, 3) := dk_184 0 159 (dk_at dksX2_note_0 14 rfl rfl)
theorem dX2_note_17 : decode cX2_note 17 = .ok (.invokevirtual 124, 3) := dk_182 0 124 (dk_at dksX2_note_0 17 rfl rfl)
theorem dX2_note_20 : decode cX2_note 20 = .ok (.pop, 1) := dk_87 (dk_at dksX2_note_0 20 rfl rfl)
theorem dX2_note_21 : decode cX2_note 21 = .ok (.return_, 1) := dk_177 (dk_at dksX2_note_0 21 rfl rfl)
abbrev cX2_position : ByteArray := prog_8_method_3_code
def yX2_position : MethodName := ⟨RX2, "position", "()LCourierClash$Position;"⟩
def dkwX2_position_3 : List UInt8 := [167, 0, 4, 2, 79, 132, 1, 1, 167, 255, 210, 187, 0, 117, 89, 42, 180, 0, 57, 183, 0, 146, 176]
abbrev dktX2_position_3 : List UInt8 := dkwX2_position_3 ++ []
def dkwX2_position_2 : List UInt8 := [180, 0, 27, 182, 0, 69, 162, 0, 20, 42, 180, 0, 27, 27, 182, 0, 73, 192, 0, 91, 182, 0, 143]
abbrev dktX2_position_2 : List UInt8 := dkwX2_position_2 ++ dktX2_position_3
def dkwX2_position_1 : List UInt8 := [132, 1, 1, 167, 255, 233, 3, 60, 27, 16, 8, 162, 0, 46, 42, 180, 0, 57, 7, 27, 96, 27, 42]
abbrev dktX2_position_1 : List UInt8 := dkwX2_position_1 ++ dktX2_position_2
def dkwX2_position_0 : List UInt8 := [3, 60, 27, 7, 162, 0, 24, 42, 180, 0, 57, 27, 42, 180, 0, 23, 27, 50, 180, 0, 140, 79]
abbrev dktX2_position_0 : List UInt8 := dkwX2_position_0 ++ dktX2_position_1
theorem dksX2_position_0 : cX2_position.data.toList.drop 0 = dktX2_position_0 := by decide +kernel
theorem dksX2_position_1 : cX2_position.data.toList.drop 22 = dktX2_position_1 := dk_seg dksX2_position_0 22 rfl rfl
theorem dksX2_position_2 : cX2_position.data.toList.drop 45 = dktX2_position_2 := dk_seg dksX2_position_1 23 rfl rfl
theorem dksX2_position_3 : cX2_position.data.toList.drop 68 = dktX2_position_3 := dk_seg dksX2_position_2 23 rfl rfl
theorem dX2_position_0 : decode cX2_position 0 = .ok (.iconst 0, 1) := dk_3 (dk_at dksX2_position_0 0 rfl rfl)
theorem dX2_position_1 : decode cX2_position 1 = .ok (.istore_n 1, 1) := dk_60 (dk_at dksX2_position_0 1 rfl rfl)
theorem dX2_position_2 : decode cX2_position 2 = .ok (.iload_n 1, 1) := dk_27 (dk_at dksX2_position_0 2 rfl rfl)
theorem dX2_position_3 : decode cX2_position 3 = .ok (.iconst 4, 1) := dk_7 (dk_at dksX2_position_0 3 rfl rfl)
theorem dX2_position_4 : decode cX2_position 4 = .ok (.if_icmp .ge 24, 3) := dk_162 0 24 (dk_at dksX2_position_0 4 rfl rfl)
theorem dX2_position_7 : decode cX2_position 7 = .ok (.aload_n 0, 1) := dk_42 (dk_at dksX2_position_0 7 rfl rfl)
theorem dX2_position_8 : decode cX2_position 8 = .ok (.getfield 57, 3) := dk_180 0 57 (dk_at dksX2_position_0 8 rfl rfl)
theorem dX2_position_11 : decode cX2_position 11 = .ok (.iload_n 1, 1) := dk_27 (dk_at dksX2_position_0 11 rfl rfl)
theorem dX2_position_12 : decode cX2_position 12 = .ok (.aload_n 0, 1) := dk_42 (dk_at dksX2_position_0 12 rfl rfl)
theorem dX2_position_13 : decode cX2_position 13 = .ok (.getfield 23, 3) := dk_180 0 23 (dk_at dksX2_position_0 13 rfl rfl)
theorem dX2_position_16 : decode cX2_position 16 = .ok (.iload_n 1, 1) := dk_27 (dk_at dksX2_position_0 16 rfl rfl)
theorem dX2_position_17 : decode cX2_position 17 = .ok (.aaload, 1) := dk_50 (dk_at dksX2_position_0 17 rfl rfl)
theorem dX2_position_18 : decode cX2_position 18 = .ok (.getfield 140, 3) := dk_180 0 140 (dk_at dksX2_position_0 18 rfl rfl)
theorem dX2_position_21 : decode cX2_position 21 = .ok (.iastore, 1) := dk_79 (dk_at dksX2_position_0 21 rfl rfl)
theorem dX2_position_22 : decode cX2_position 22 = .ok (.iinc 1 1, 3) := dk_132 1 1 (dk_at dksX2_position_1 0 rfl rfl)
theorem dX2_position_25 : decode cX2_position 25 = .ok (.goto (-23), 3) := dk_167 255 233 (dk_at dksX2_position_1 3 rfl rfl)
theorem dX2_position_28 : decode cX2_position 28 = .ok (.iconst 0, 1) := dk_3 (dk_at dksX2_position_1 6 rfl rfl)
theorem dX2_position_29 : decode cX2_position 29 = .ok (.istore_n 1, 1) := dk_60 (dk_at dksX2_position_1 7 rfl rfl)
theorem dX2_position_30 : decode cX2_position 30 = .ok (.iload_n 1, 1) := dk_27 (dk_at dksX2_position_1 8 rfl rfl)
theorem dX2_position_31 : decode cX2_position 31 = .ok (.bipush 8, 2) := dk_16 8 (dk_at dksX2_position_1 9 rfl rfl)
theorem dX2_position_33 : decode cX2_position 33 = .ok (.if_icmp .ge 46, 3) := dk_162 0 46 (dk_at dksX2_position_1 11 rfl rfl)
theorem dX2_position_36 : decode cX2_position 36 = .ok (.aload_n 0, 1) := dk_42 (dk_at dksX2_position_1 14 rfl rfl)
theorem dX2_position_37 : decode cX2_position 37 = .ok (.getfield 57, 3) := dk_180 0 57 (dk_at dksX2_position_1 15 rfl rfl)
theorem dX2_position_40 : decode cX2_position 40 = .ok (.iconst 4, 1) := dk_7 (dk_at dksX2_position_1 18 rfl rfl)
theorem dX2_position_41 : decode cX2_position 41 = .ok (.iload_n 1, 1) := dk_27 (dk_at dksX2_position_1 19 rfl rfl)
theorem dX2_position_42 : decode cX2_position 42 = .ok (.iadd, 1) := dk_96 (dk_at dksX2_position_1 20 rfl rfl)
theorem dX2_position_43 : decode cX2_position 43 = .ok (.iload_n 1, 1) := dk_27 (dk_at dksX2_position_1 21 rfl rfl)
theorem dX2_position_44 : decode cX2_position 44 = .ok (.aload_n 0, 1) := dk_42 (dk_at dksX2_position_1 22 rfl rfl)
theorem dX2_position_45 : decode cX2_position 45 = .ok (.getfield 27, 3) := dk_180 0 27 (dk_at dksX2_position_2 0 rfl rfl)
theorem dX2_position_48 : decode cX2_position 48 = .ok (.invokevirtual 69, 3) := dk_182 0 69 (dk_at dksX2_position_2 3 rfl rfl)
theorem dX2_position_51 : decode cX2_position 51 = .ok (.if_icmp .ge 20, 3) := dk_162 0 20 (dk_at dksX2_position_2 6 rfl rfl)
theorem dX2_position_54 : decode cX2_position 54 = .ok (.aload_n 0, 1) := dk_42 (dk_at dksX2_position_2 9 rfl rfl)
theorem dX2_position_55 : decode cX2_position 55 = .ok (.getfield 27, 3) := dk_180 0 27 (dk_at dksX2_position_2 10 rfl rfl)
theorem dX2_position_58 : decode cX2_position 58 = .ok (.iload_n 1, 1) := dk_27 (dk_at dksX2_position_2 13 rfl rfl)
theorem dX2_position_59 : decode cX2_position 59 = .ok (.invokevirtual 73, 3) := dk_182 0 73 (dk_at dksX2_position_2 14 rfl rfl)
theorem dX2_position_62 : decode cX2_position 62 = .ok (.checkcast 91, 3) := dk_192 0 91 (dk_at dksX2_position_2 17 rfl rfl)
theorem dX2_position_65 : decode cX2_position 65 = .ok (.invokevirtual 143, 3) := dk_182 0 143 (dk_at dksX2_position_2 20 rfl rfl)
theorem dX2_position_68 : decode cX2_position 68 = .ok (.goto 4, 3) := dk_167 0 4 (dk_at dksX2_position_3 0 rfl rfl)
theorem dX2_position_71 : decode cX2_position 71 = .ok (.iconst (-1), 1) := dk_2 (dk_at dksX2_position_3 3 rfl rfl)
theorem dX2_position_72 : decode cX2_position 72 = .ok (.iastore, 1) := dk_79 (dk_at dksX2_position_3 4 rfl rfl)
theorem dX2_position_73 : decode cX2_position 73 = .ok (.iinc 1 1, 3) := dk_132 1 1 (dk_at dksX2_position_3 5 rfl rfl)
theorem dX2_position_76 : decode cX2_position 76 = .ok (.goto (-46), 3) := dk_167 255 210 (dk_at dksX2_position_3 8 rfl rfl)
theorem dX2_position_79 : decode cX2_position 79 = .ok (.new 117, 3) := dk_187 0 117 (dk_at dksX2_position_3 11 rfl rfl)
theorem dX2_position_82 : decode cX2_position 82 = .ok (.dup, 1) := dk_89 (dk_at dksX2_position_3 14 rfl rfl)
theorem dX2_position_83 : decode cX2_position 83 = .ok (.aload_n 0, 1) := dk_42 (dk_at dksX2_position_3 15 rfl rfl)
theorem dX2_position_84 : decode cX2_position 84 = .ok (.getfield 57, 3) := dk_180 0 57 (dk_at dksX2_position_3 16 rfl rfl)
theorem dX2_position_87 : decode cX2_position 87 = .ok (.invokespecial 146, 3) := dk_183 0 146 (dk_at dksX2_position_3 19 rfl rfl)
theorem dX2_position_90 : decode cX2_position 90 = .ok (.areturn, 1) := dk_176 (dk_at dksX2_position_3 22 rfl rfl)
abbrev cX2_timesNoted : ByteArray := prog_8_method_4_code
def yX2_timesNoted : MethodName := ⟨RX2, "timesNoted", "()I"⟩
def dkwX2_timesNoted_1 : List UInt8 := [182, 0, 153, 172]
abbrev dktX2_timesNoted_1 : List UInt8 := dkwX2_timesNoted_1 ++ []
def dkwX2_timesNoted_0 : List UInt8 := [42, 180, 0, 39, 42, 182, 0, 149, 182, 0, 119, 192, 0, 122, 76, 43, 199, 0, 7, 3, 167, 0, 7, 43]
abbrev dktX2_timesNoted_0 : List UInt8 := dkwX2_timesNoted_0 ++ dktX2_timesNoted_1
theorem dksX2_timesNoted_0 : cX2_timesNoted.data.toList.drop 0 = dktX2_timesNoted_0 := by decide +kernel
theorem dksX2_timesNoted_1 : cX2_timesNoted.data.toList.drop 24 = dktX2_timesNoted_1 := dk_seg dksX2_timesNoted_0 24 rfl rfl
theorem dX2_timesNoted_0 : decode cX2_timesNoted 0 = .ok (.aload_n 0, 1) := dk_42 (dk_at dksX2_timesNoted_0 0 rfl rfl)
theorem dX2_timesNoted_1 : decode cX2_timesNoted 1 = .ok (.getfield 39, 3) := dk_180 0 39 (dk_at dksX2_timesNoted_0 1 rfl rfl)
theorem dX2_timesNoted_4 : decode cX2_timesNoted 4 = .ok (.aload_n 0, 1) := dk_42 (dk_at dksX2_timesNoted_0 4 rfl rfl)
theorem dX2_timesNoted_5 : decode cX2_timesNoted 5 = .ok (.invokevirtual 149, 3) := dk_182 0 149 (dk_at dksX2_timesNoted_0 5 rfl rfl)
theorem dX2_timesNoted_8 : decode cX2_timesNoted 8 = .ok (.invokevirtual 119, 3) := dk_182 0 119 (dk_at dksX2_timesNoted_0 8 rfl rfl)
theorem dX2_timesNoted_11 : decode cX2_timesNoted 11 = .ok (.checkcast 122, 3) := dk_192 0 122 (dk_at dksX2_timesNoted_0 11 rfl rfl)
theorem dX2_timesNoted_14 : decode cX2_timesNoted 14 = .ok (.astore_n 1, 1) := dk_76 (dk_at dksX2_timesNoted_0 14 rfl rfl)
theorem dX2_timesNoted_15 : decode cX2_timesNoted 15 = .ok (.aload_n 1, 1) := dk_43 (dk_at dksX2_timesNoted_0 15 rfl rfl)
theorem dX2_timesNoted_16 : decode cX2_timesNoted 16 = .ok (.ifnonnull 7, 3) := dk_199 0 7 (dk_at dksX2_timesNoted_0 16 rfl rfl)
theorem dX2_timesNoted_19 : decode cX2_timesNoted 19 = .ok (.iconst 0, 1) := dk_3 (dk_at dksX2_timesNoted_0 19 rfl rfl)
theorem dX2_timesNoted_20 : decode cX2_timesNoted 20 = .ok (.goto 7, 3) := dk_167 0 7 (dk_at dksX2_timesNoted_0 20 rfl rfl)
theorem dX2_timesNoted_23 : decode cX2_timesNoted 23 = .ok (.aload_n 1, 1) := dk_43 (dk_at dksX2_timesNoted_0 23 rfl rfl)
theorem dX2_timesNoted_24 : decode cX2_timesNoted 24 = .ok (.invokevirtual 153, 3) := dk_182 0 153 (dk_at dksX2_timesNoted_1 0 rfl rfl)
theorem dX2_timesNoted_27 : decode cX2_timesNoted 27 = .ok (.ireturn, 1) := dk_172 (dk_at dksX2_timesNoted_1 3 rfl rfl)
abbrev cX2_become : ByteArray := prog_8_method_2_code
def yX2_become : MethodName := ⟨RX2, "become", "(LCourierClash$Game;)LCourierClash$Game;"⟩
def dkwX2_become_10 : List UInt8 := [180, 0, 54, 181, 0, 54, 42, 176]
abbrev dktX2_become_10 : List UInt8 := dkwX2_become_10 ++ []
def dkwX2_become_9 : List UInt8 := [180, 0, 51, 181, 0, 51, 42, 43, 180, 0, 134, 181, 0, 134, 42, 43, 180, 0, 137, 181, 0, 137, 42, 43]
abbrev dktX2_become_9 : List UInt8 := dkwX2_become_9 ++ dktX2_become_10
def dkwX2_become_8 : List UInt8 := [43, 180, 0, 43, 3, 42, 180, 0, 43, 3, 5, 184, 0, 128, 42, 43, 180, 0, 47, 181, 0, 47, 42, 43]
abbrev dktX2_become_8 : List UInt8 := dkwX2_become_8 ++ dktX2_become_9
def dkwX2_become_7 : List UInt8 := [78, 42, 180, 0, 39, 45, 43, 180, 0, 39, 45, 182, 0, 119, 192, 0, 122, 182, 0, 124, 87, 167, 255, 217]
abbrev dktX2_become_7 : List UInt8 := dkwX2_become_7 ++ dktX2_become_8
def dkwX2_become_6 : List UInt8 := [185, 0, 101, 1, 0, 77, 44, 185, 0, 107, 1, 0, 153, 0, 36, 44, 185, 0, 113, 1, 0, 192, 0, 117]
abbrev dktX2_become_6 : List UInt8 := dkwX2_become_6 ++ dktX2_become_7
def dkwX2_become_5 : List UInt8 := [87, 132, 2, 1, 167, 255, 220, 42, 180, 0, 39, 182, 0, 96, 43, 180, 0, 39, 182, 0, 97]
abbrev dktX2_become_5 : List UInt8 := dkwX2_become_5 ++ dktX2_become_6
def dkwX2_become_4 : List UInt8 := [162, 0, 31, 42, 180, 0, 27, 43, 180, 0, 27, 28, 182, 0, 73, 192, 0, 91, 182, 0, 93, 182, 0, 83]
abbrev dktX2_become_4 : List UInt8 := dkwX2_become_4 ++ dktX2_become_5
def dkwX2_become_3 : List UInt8 := [132, 2, 1, 167, 255, 233, 42, 180, 0, 27, 182, 0, 66, 3, 61, 28, 43, 180, 0, 27, 182, 0, 69]
abbrev dktX2_become_3 : List UInt8 := dkwX2_become_3 ++ dktX2_become_4
def dkwX2_become_2 : List UInt8 := [3, 61, 28, 7, 162, 0, 24, 42, 180, 0, 23, 28, 50, 43, 180, 0, 23, 28, 50, 182, 0, 87]
abbrev dktX2_become_2 : List UInt8 := dkwX2_become_2 ++ dktX2_become_3
def dkwX2_become_1 : List UInt8 := [43, 180, 0, 12, 28, 182, 0, 73, 192, 0, 77, 182, 0, 79, 182, 0, 83, 87, 132, 2, 1, 167, 255, 220]
abbrev dktX2_become_1 : List UInt8 := dkwX2_become_1 ++ dktX2_become_2
def dkwX2_become_0 : List UInt8 := [42, 180, 0, 12, 182, 0, 66, 3, 61, 28, 43, 180, 0, 12, 182, 0, 69, 162, 0, 31, 42, 180, 0, 12]
abbrev dktX2_become_0 : List UInt8 := dkwX2_become_0 ++ dktX2_become_1
theorem dksX2_become_0 : cX2_become.data.toList.drop 0 = dktX2_become_0 := by decide +kernel
theorem dksX2_become_1 : cX2_become.data.toList.drop 24 = dktX2_become_1 := dk_seg dksX2_become_0 24 rfl rfl
theorem dksX2_become_2 : cX2_become.data.toList.drop 48 = dktX2_become_2 := dk_seg dksX2_become_1 24 rfl rfl
theorem dksX2_become_3 : cX2_become.data.toList.drop 70 = dktX2_become_3 := dk_seg dksX2_become_2 22 rfl rfl
theorem dksX2_become_4 : cX2_become.data.toList.drop 93 = dktX2_become_4 := dk_seg dksX2_become_3 23 rfl rfl
theorem dksX2_become_5 : cX2_become.data.toList.drop 117 = dktX2_become_5 := dk_seg dksX2_become_4 24 rfl rfl
theorem dksX2_become_6 : cX2_become.data.toList.drop 138 = dktX2_become_6 := dk_seg dksX2_become_5 21 rfl rfl
theorem dksX2_become_7 : cX2_become.data.toList.drop 162 = dktX2_become_7 := dk_seg dksX2_become_6 24 rfl rfl
theorem dksX2_become_8 : cX2_become.data.toList.drop 186 = dktX2_become_8 := dk_seg dksX2_become_7 24 rfl rfl
theorem dksX2_become_9 : cX2_become.data.toList.drop 210 = dktX2_become_9 := dk_seg dksX2_become_8 24 rfl rfl
theorem dksX2_become_10 : cX2_become.data.toList.drop 234 = dktX2_become_10 := dk_seg dksX2_become_9 24 rfl rfl
theorem dX2_become_0 : decode cX2_become 0 = .ok (.aload_n 0, 1) := dk_42 (dk_at dksX2_become_0 0 rfl rfl)
theorem dX2_become_1 : decode cX2_become 1 = .ok (.getfield 12, 3) := dk_180 0 12 (dk_at dksX2_become_0 1 rfl rfl)
theorem dX2_become_4 : decode cX2_become 4 = .ok (.invokevirtual 66, 3) := dk_182 0 66 (dk_at dksX2_become_0 4 rfl rfl)
theorem dX2_become_7 : decode cX2_become 7 = .ok (.iconst 0, 1) := dk_3 (dk_at dksX2_become_0 7 rfl rfl)
theorem dX2_become_8 : decode cX2_become 8 = .ok (.istore_n 2, 1) := dk_61 (dk_at dksX2_become_0 8 rfl rfl)
theorem dX2_become_9 : decode cX2_become 9 = .ok (.iload_n 2, 1) := dk_28 (dk_at dksX2_become_0 9 rfl rfl)
theorem dX2_become_10 : decode cX2_become 10 = .ok (.aload_n 1, 1) := dk_43 (dk_at dksX2_become_0 10 rfl rfl)
theorem dX2_become_11 : decode cX2_become 11 = .ok (.getfield 12, 3) := dk_180 0 12 (dk_at dksX2_become_0 11 rfl rfl)
theorem dX2_become_14 : decode cX2_become 14 = .ok (.invokevirtual 69, 3) := dk_182 0 69 (dk_at dksX2_become_0 14 rfl rfl)
theorem dX2_become_17 : decode cX2_become 17 = .ok (.if_icmp .ge 31, 3) := dk_162 0 31 (dk_at dksX2_become_0 17 rfl rfl)
theorem dX2_become_20 : decode cX2_become 20 = .ok (.aload_n 0, 1) := dk_42 (dk_at dksX2_become_0 20 rfl rfl)
theorem dX2_become_21 : decode cX2_become 21 = .ok (.getfield 12, 3) := dk_180 0 12 (dk_at dksX2_become_0 21 rfl rfl)
theorem dX2_become_24 : decode cX2_become 24 = .ok (.aload_n 1, 1) := dk_43 (dk_at dksX2_become_1 0 rfl rfl)
theorem dX2_become_25 : decode cX2_become 25 = .ok (.getfield 12, 3) := dk_180 0 12 (dk_at dksX2_become_1 1 rfl rfl)
theorem dX2_become_28 : decode cX2_become 28 = .ok (.iload_n 2, 1) := dk_28 (dk_at dksX2_become_1 4 rfl rfl)
theorem dX2_become_29 : decode cX2_become 29 = .ok (.invokevirtual 73, 3) := dk_182 0 73 (dk_at dksX2_become_1 5 rfl rfl)
theorem dX2_become_32 : decode cX2_become 32 = .ok (.checkcast 77, 3) := dk_192 0 77 (dk_at dksX2_become_1 8 rfl rfl)
theorem dX2_become_35 : decode cX2_become 35 = .ok (.invokevirtual 79, 3) := dk_182 0 79 (dk_at dksX2_become_1 11 rfl rfl)
theorem dX2_become_38 : decode cX2_become 38 = .ok (.invokevirtual 83, 3) := dk_182 0 83 (dk_at dksX2_become_1 14 rfl rfl)
theorem dX2_become_41 : decode cX2_become 41 = .ok (.pop, 1) := dk_87 (dk_at dksX2_become_1 17 rfl rfl)
theorem dX2_become_42 : decode cX2_become 42 = .ok (.iinc 2 1, 3) := dk_132 2 1 (dk_at dksX2_become_1 18 rfl rfl)
theorem dX2_become_45 : decode cX2_become 45 = .ok (.goto (-36), 3) := dk_167 255 220 (dk_at dksX2_become_1 21 rfl rfl)
theorem dX2_become_48 : decode cX2_become 48 = .ok (.iconst 0, 1) := dk_3 (dk_at dksX2_become_2 0 rfl rfl)
theorem dX2_become_49 : decode cX2_become 49 = .ok (.istore_n 2, 1) := dk_61 (dk_at dksX2_become_2 1 rfl rfl)
theorem dX2_become_50 : decode cX2_become 50 = .ok (.iload_n 2, 1) := dk_28 (dk_at dksX2_become_2 2 rfl rfl)
theorem dX2_become_51 : decode cX2_become 51 = .ok (.iconst 4, 1) := dk_7 (dk_at dksX2_become_2 3 rfl rfl)
theorem dX2_become_52 : decode cX2_become 52 = .ok (.if_icmp .ge 24, 3) := dk_162 0 24 (dk_at dksX2_become_2 4 rfl rfl)
theorem dX2_become_55 : decode cX2_become 55 = .ok (.aload_n 0, 1) := dk_42 (dk_at dksX2_become_2 7 rfl rfl)
theorem dX2_become_56 : decode cX2_become 56 = .ok (.getfield 23, 3) := dk_180 0 23 (dk_at dksX2_become_2 8 rfl rfl)
theorem dX2_become_59 : decode cX2_become 59 = .ok (.iload_n 2, 1) := dk_28 (dk_at dksX2_become_2 11 rfl rfl)
theorem dX2_become_60 : decode cX2_become 60 = .ok (.aaload, 1) := dk_50 (dk_at dksX2_become_2 12 rfl rfl)
theorem dX2_become_61 : decode cX2_become 61 = .ok (.aload_n 1, 1) := dk_43 (dk_at dksX2_become_2 13 rfl rfl)
theorem dX2_become_62 : decode cX2_become 62 = .ok (.getfield 23, 3) := dk_180 0 23 (dk_at dksX2_become_2 14 rfl rfl)
theorem dX2_become_65 : decode cX2_become 65 = .ok (.iload_n 2, 1) := dk_28 (dk_at dksX2_become_2 17 rfl rfl)
theorem dX2_become_66 : decode cX2_become 66 = .ok (.aaload, 1) := dk_50 (dk_at dksX2_become_2 18 rfl rfl)
theorem dX2_become_67 : decode cX2_become 67 = .ok (.invokevirtual 87, 3) := dk_182 0 87 (dk_at dksX2_become_2 19 rfl rfl)
theorem dX2_become_70 : decode cX2_become 70 = .ok (.iinc 2 1, 3) := dk_132 2 1 (dk_at dksX2_become_3 0 rfl rfl)
theorem dX2_become_73 : decode cX2_become 73 = .ok (.goto (-23), 3) := dk_167 255 233 (dk_at dksX2_become_3 3 rfl rfl)
theorem dX2_become_76 : decode cX2_become 76 = .ok (.aload_n 0, 1) := dk_42 (dk_at dksX2_become_3 6 rfl rfl)
theorem dX2_become_77 : decode cX2_become 77 = .ok (.getfield 27, 3) := dk_180 0 27 (dk_at dksX2_become_3 7 rfl rfl)
theorem dX2_become_80 : decode cX2_become 80 = .ok (.invokevirtual 66, 3) := dk_182 0 66 (dk_at dksX2_become_3 10 rfl rfl)
theorem dX2_become_83 : decode cX2_become 83 = .ok (.iconst 0, 1) := dk_3 (dk_at dksX2_become_3 13 rfl rfl)
theorem dX2_become_84 : decode cX2_become 84 = .ok (.istore_n 2, 1) := dk_61 (dk_at dksX2_become_3 14 rfl rfl)
theorem dX2_become_85 : decode cX2_become 85 = .ok (.iload_n 2, 1) := dk_28 (dk_at dksX2_become_3 15 rfl rfl)
theorem dX2_become_86 : decode cX2_become 86 = .ok (.aload_n 1, 1) := dk_43 (dk_at dksX2_become_3 16 rfl rfl)
theorem dX2_become_87 : decode cX2_become 87 = .ok (.getfield 27, 3) := dk_180 0 27 (dk_at dksX2_become_3 17 rfl rfl)
theorem dX2_become_90 : decode cX2_become 90 = .ok (.invokevirtual 69, 3) := dk_182 0 69 (dk_at dksX2_become_3 20 rfl rfl)
theorem dX2_become_93 : decode cX2_become 93 = .ok (.if_icmp .ge 31, 3) := dk_162 0 31 (dk_at dksX2_become_4 0 rfl rfl)
theorem dX2_become_96 : decode cX2_become 96 = .ok (.aload_n 0, 1) := dk_42 (dk_at dksX2_become_4 3 rfl rfl)
theorem dX2_become_97 : decode cX2_become 97 = .ok (.getfield 27, 3) := dk_180 0 27 (dk_at dksX2_become_4 4 rfl rfl)
theorem dX2_become_100 : decode cX2_become 100 = .ok (.aload_n 1, 1) := dk_43 (dk_at dksX2_become_4 7 rfl rfl)
theorem dX2_become_101 : decode cX2_become 101 = .ok (.getfield 27, 3) := dk_180 0 27 (dk_at dksX2_become_4 8 rfl rfl)
theorem dX2_become_104 : decode cX2_become 104 = .ok (.iload_n 2, 1) := dk_28 (dk_at dksX2_become_4 11 rfl rfl)
theorem dX2_become_105 : decode cX2_become 105 = .ok (.invokevirtual 73, 3) := dk_182 0 73 (dk_at dksX2_become_4 12 rfl rfl)
theorem dX2_become_108 : decode cX2_become 108 = .ok (.checkcast 91, 3) := dk_192 0 91 (dk_at dksX2_become_4 15 rfl rfl)
theorem dX2_become_111 : decode cX2_become 111 = .ok (.invokevirtual 93, 3) := dk_182 0 93 (dk_at dksX2_become_4 18 rfl rfl)
theorem dX2_become_114 : decode cX2_become 114 = .ok (.invokevirtual 83, 3) := dk_182 0 83 (dk_at dksX2_become_4 21 rfl rfl)
theorem dX2_become_117 : decode cX2_become 117 = .ok (.pop, 1) := dk_87 (dk_at dksX2_become_5 0 rfl rfl)
theorem dX2_become_118 : decode cX2_become 118 = .ok (.iinc 2 1, 3) := dk_132 2 1 (dk_at dksX2_become_5 1 rfl rfl)
theorem dX2_become_121 : decode cX2_become 121 = .ok (.goto (-36), 3) := dk_167 255 220 (dk_at dksX2_become_5 4 rfl rfl)
theorem dX2_become_124 : decode cX2_become 124 = .ok (.aload_n 0, 1) := dk_42 (dk_at dksX2_become_5 7 rfl rfl)
theorem dX2_become_125 : decode cX2_become 125 = .ok (.getfield 39, 3) := dk_180 0 39 (dk_at dksX2_become_5 8 rfl rfl)
theorem dX2_become_128 : decode cX2_become 128 = .ok (.invokevirtual 96, 3) := dk_182 0 96 (dk_at dksX2_become_5 11 rfl rfl)
theorem dX2_become_131 : decode cX2_become 131 = .ok (.aload_n 1, 1) := dk_43 (dk_at dksX2_become_5 14 rfl rfl)
theorem dX2_become_132 : decode cX2_become 132 = .ok (.getfield 39, 3) := dk_180 0 39 (dk_at dksX2_become_5 15 rfl rfl)
theorem dX2_become_135 : decode cX2_become 135 = .ok (.invokevirtual 97, 3) := dk_182 0 97 (dk_at dksX2_become_5 18 rfl rfl)
theorem dX2_become_138 : decode cX2_become 138 = .ok (.invokeinterface 101 1, 5) := by decide +kernel
theorem dX2_become_143 : decode cX2_become 143 = .ok (.astore_n 2, 1) := dk_77 (dk_at dksX2_become_6 5 rfl rfl)
theorem dX2_become_144 : decode cX2_become 144 = .ok (.aload_n 2, 1) := dk_44 (dk_at dksX2_become_6 6 rfl rfl)
theorem dX2_become_145 : decode cX2_become 145 = .ok (.invokeinterface 107 1, 5) := by decide +kernel
theorem dX2_become_150 : decode cX2_become 150 = .ok (.ifCond .eq 36, 3) := dk_153 0 36 (dk_at dksX2_become_6 12 rfl rfl)
theorem dX2_become_153 : decode cX2_become 153 = .ok (.aload_n 2, 1) := dk_44 (dk_at dksX2_become_6 15 rfl rfl)
theorem dX2_become_154 : decode cX2_become 154 = .ok (.invokeinterface 113 1, 5) := by decide +kernel
theorem dX2_become_159 : decode cX2_become 159 = .ok (.checkcast 117, 3) := dk_192 0 117 (dk_at dksX2_become_6 21 rfl rfl)
theorem dX2_become_162 : decode cX2_become 162 = .ok (.astore_n 3, 1) := dk_78 (dk_at dksX2_become_7 0 rfl rfl)
theorem dX2_become_163 : decode cX2_become 163 = .ok (.aload_n 0, 1) := dk_42 (dk_at dksX2_become_7 1 rfl rfl)
theorem dX2_become_164 : decode cX2_become 164 = .ok (.getfield 39, 3) := dk_180 0 39 (dk_at dksX2_become_7 2 rfl rfl)
theorem dX2_become_167 : decode cX2_become 167 = .ok (.aload_n 3, 1) := dk_45 (dk_at dksX2_become_7 5 rfl rfl)
theorem dX2_become_168 : decode cX2_become 168 = .ok (.aload_n 1, 1) := dk_43 (dk_at dksX2_become_7 6 rfl rfl)
theorem dX2_become_169 : decode cX2_become 169 = .ok (.getfield 39, 3) := dk_180 0 39 (dk_at dksX2_become_7 7 rfl rfl)
theorem dX2_become_172 : decode cX2_become 172 = .ok (.aload_n 3, 1) := dk_45 (dk_at dksX2_become_7 10 rfl rfl)
theorem dX2_become_173 : decode cX2_become 173 = .ok (.invokevirtual 119, 3) := dk_182 0 119 (dk_at dksX2_become_7 11 rfl rfl)
theorem dX2_become_176 : decode cX2_become 176 = .ok (.checkcast 122, 3) := dk_192 0 122 (dk_at dksX2_become_7 14 rfl rfl)
theorem dX2_become_179 : decode cX2_become 179 = .ok (.invokevirtual 124, 3) := dk_182 0 124 (dk_at dksX2_become_7 17 rfl rfl)
theorem dX2_become_182 : decode cX2_become 182 = .ok (.pop, 1) := dk_87 (dk_at dksX2_become_7 20 rfl rfl)
theorem dX2_become_183 : decode cX2_become 183 = .ok (.goto (-39), 3) := dk_167 255 217 (dk_at dksX2_become_7 21 rfl rfl)
theorem dX2_become_186 : decode cX2_become 186 = .ok (.aload_n 1, 1) := dk_43 (dk_at dksX2_become_8 0 rfl rfl)
theorem dX2_become_187 : decode cX2_become 187 = .ok (.getfield 43, 3) := dk_180 0 43 (dk_at dksX2_become_8 1 rfl rfl)
theorem dX2_become_190 : decode cX2_become 190 = .ok (.iconst 0, 1) := dk_3 (dk_at dksX2_become_8 4 rfl rfl)
theorem dX2_become_191 : decode cX2_become 191 = .ok (.aload_n 0, 1) := dk_42 (dk_at dksX2_become_8 5 rfl rfl)
theorem dX2_become_192 : decode cX2_become 192 = .ok (.getfield 43, 3) := dk_180 0 43 (dk_at dksX2_become_8 6 rfl rfl)
theorem dX2_become_195 : decode cX2_become 195 = .ok (.iconst 0, 1) := dk_3 (dk_at dksX2_become_8 9 rfl rfl)
theorem dX2_become_196 : decode cX2_become 196 = .ok (.iconst 2, 1) := dk_5 (dk_at dksX2_become_8 10 rfl rfl)
theorem dX2_become_197 : decode cX2_become 197 = .ok (.invokestatic 128, 3) := dk_184 0 128 (dk_at dksX2_become_8 11 rfl rfl)
theorem dX2_become_200 : decode cX2_become 200 = .ok (.aload_n 0, 1) := dk_42 (dk_at dksX2_become_8 14 rfl rfl)
theorem dX2_become_201 : decode cX2_become 201 = .ok (.aload_n 1, 1) := dk_43 (dk_at dksX2_become_8 15 rfl rfl)
theorem dX2_become_202 : decode cX2_become 202 = .ok (.getfield 47, 3) := dk_180 0 47 (dk_at dksX2_become_8 16 rfl rfl)
theorem dX2_become_205 : decode cX2_become 205 = .ok (.putfield 47, 3) := dk_181 0 47 (dk_at dksX2_become_8 19 rfl rfl)
theorem dX2_become_208 : decode cX2_become 208 = .ok (.aload_n 0, 1) := dk_42 (dk_at dksX2_become_8 22 rfl rfl)
theorem dX2_become_209 : decode cX2_become 209 = .ok (.aload_n 1, 1) := dk_43 (dk_at dksX2_become_8 23 rfl rfl)
theorem dX2_become_210 : decode cX2_become 210 = .ok (.getfield 51, 3) := dk_180 0 51 (dk_at dksX2_become_9 0 rfl rfl)
theorem dX2_become_213 : decode cX2_become 213 = .ok (.putfield 51, 3) := dk_181 0 51 (dk_at dksX2_become_9 3 rfl rfl)
theorem dX2_become_216 : decode cX2_become 216 = .ok (.aload_n 0, 1) := dk_42 (dk_at dksX2_become_9 6 rfl rfl)
theorem dX2_become_217 : decode cX2_become 217 = .ok (.aload_n 1, 1) := dk_43 (dk_at dksX2_become_9 7 rfl rfl)
theorem dX2_become_218 : decode cX2_become 218 = .ok (.getfield 134, 3) := dk_180 0 134 (dk_at dksX2_become_9 8 rfl rfl)
theorem dX2_become_221 : decode cX2_become 221 = .ok (.putfield 134, 3) := dk_181 0 134 (dk_at dksX2_become_9 11 rfl rfl)
theorem dX2_become_224 : decode cX2_become 224 = .ok (.aload_n 0, 1) := dk_42 (dk_at dksX2_become_9 14 rfl rfl)
theorem dX2_become_225 : decode cX2_become 225 = .ok (.aload_n 1, 1) := dk_43 (dk_at dksX2_become_9 15 rfl rfl)
theorem dX2_become_226 : decode cX2_become 226 = .ok (.getfield 137, 3) := dk_180 0 137 (dk_at dksX2_become_9 16 rfl rfl)
theorem dX2_become_229 : decode cX2_become 229 = .ok (.putfield 137, 3) := dk_181 0 137 (dk_at dksX2_become_9 19 rfl rfl)
theorem dX2_become_232 : decode cX2_become 232 = .ok (.aload_n 0, 1) := dk_42 (dk_at dksX2_become_9 22 rfl rfl)
theorem dX2_become_233 : decode cX2_become 233 = .ok (.aload_n 1, 1) := dk_43 (dk_at dksX2_become_9 23 rfl rfl)
theorem dX2_become_234 : decode cX2_become 234 = .ok (.getfield 54, 3) := dk_180 0 54 (dk_at dksX2_become_10 0 rfl rfl)
theorem dX2_become_237 : decode cX2_become 237 = .ok (.putfield 54, 3) := dk_181 0 54 (dk_at dksX2_become_10 3 rfl rfl)
theorem dX2_become_240 : decode cX2_become 240 = .ok (.aload_n 0, 1) := dk_42 (dk_at dksX2_become_10 6 rfl rfl)
theorem dX2_become_241 : decode cX2_become 241 = .ok (.areturn, 1) := dk_176 (dk_at dksX2_become_10 7 rfl rfl)
abbrev cX2_whyOver : ByteArray := prog_8_method_8_code
def yX2_whyOver : MethodName := ⟨RX2, "whyOver", "()I"⟩
def dkwX2_whyOver_1 : List UInt8 := [180, 0, 134, 42, 180, 0, 51, 161, 0, 7, 6, 167, 0, 4, 3, 172]
abbrev dktX2_whyOver_1 : List UInt8 := dkwX2_whyOver_1 ++ []
def dkwX2_whyOver_0 : List UInt8 := [42, 182, 0, 173, 153, 0, 5, 4, 172, 42, 182, 0, 156, 6, 161, 0, 7, 5, 167, 0, 19, 42]
abbrev dktX2_whyOver_0 : List UInt8 := dkwX2_whyOver_0 ++ dktX2_whyOver_1
theorem dksX2_whyOver_0 : cX2_whyOver.data.toList.drop 0 = dktX2_whyOver_0 := by decide +kernel
theorem dksX2_whyOver_1 : cX2_whyOver.data.toList.drop 22 = dktX2_whyOver_1 := dk_seg dksX2_whyOver_0 22 rfl rfl
theorem dX2_whyOver_0 : decode cX2_whyOver 0 = .ok (.aload_n 0, 1) := dk_42 (dk_at dksX2_whyOver_0 0 rfl rfl)
theorem dX2_whyOver_1 : decode cX2_whyOver 1 = .ok (.invokevirtual 173, 3) := dk_182 0 173 (dk_at dksX2_whyOver_0 1 rfl rfl)
theorem dX2_whyOver_4 : decode cX2_whyOver 4 = .ok (.ifCond .eq 5, 3) := dk_153 0 5 (dk_at dksX2_whyOver_0 4 rfl rfl)
theorem dX2_whyOver_7 : decode cX2_whyOver 7 = .ok (.iconst 1, 1) := dk_4 (dk_at dksX2_whyOver_0 7 rfl rfl)
theorem dX2_whyOver_8 : decode cX2_whyOver 8 = .ok (.ireturn, 1) := dk_172 (dk_at dksX2_whyOver_0 8 rfl rfl)
theorem dX2_whyOver_9 : decode cX2_whyOver 9 = .ok (.aload_n 0, 1) := dk_42 (dk_at dksX2_whyOver_0 9 rfl rfl)
theorem dX2_whyOver_10 : decode cX2_whyOver 10 = .ok (.invokevirtual 156, 3) := dk_182 0 156 (dk_at dksX2_whyOver_0 10 rfl rfl)
theorem dX2_whyOver_13 : decode cX2_whyOver 13 = .ok (.iconst 3, 1) := dk_6 (dk_at dksX2_whyOver_0 13 rfl rfl)
theorem dX2_whyOver_14 : decode cX2_whyOver 14 = .ok (.if_icmp .lt 7, 3) := dk_161 0 7 (dk_at dksX2_whyOver_0 14 rfl rfl)
theorem dX2_whyOver_17 : decode cX2_whyOver 17 = .ok (.iconst 2, 1) := dk_5 (dk_at dksX2_whyOver_0 17 rfl rfl)
theorem dX2_whyOver_18 : decode cX2_whyOver 18 = .ok (.goto 19, 3) := dk_167 0 19 (dk_at dksX2_whyOver_0 18 rfl rfl)
theorem dX2_whyOver_21 : decode cX2_whyOver 21 = .ok (.aload_n 0, 1) := dk_42 (dk_at dksX2_whyOver_0 21 rfl rfl)
theorem dX2_whyOver_22 : decode cX2_whyOver 22 = .ok (.getfield 134, 3) := dk_180 0 134 (dk_at dksX2_whyOver_1 0 rfl rfl)
theorem dX2_whyOver_25 : decode cX2_whyOver 25 = .ok (.aload_n 0, 1) := dk_42 (dk_at dksX2_whyOver_1 3 rfl rfl)
theorem dX2_whyOver_26 : decode cX2_whyOver 26 = .ok (.getfield 51, 3) := dk_180 0 51 (dk_at dksX2_whyOver_1 4 rfl rfl)
theorem dX2_whyOver_29 : decode cX2_whyOver 29 = .ok (.if_icmp .lt 7, 3) := dk_161 0 7 (dk_at dksX2_whyOver_1 7 rfl rfl)
theorem dX2_whyOver_32 : decode cX2_whyOver 32 = .ok (.iconst 3, 1) := dk_6 (dk_at dksX2_whyOver_1 10 rfl rfl)
theorem dX2_whyOver_33 : decode cX2_whyOver 33 = .ok (.goto 4, 3) := dk_167 0 4 (dk_at dksX2_whyOver_1 11 rfl rfl)
theorem dX2_whyOver_36 : decode cX2_whyOver 36 = .ok (.iconst 0, 1) := dk_3 (dk_at dksX2_whyOver_1 14 rfl rfl)
theorem dX2_whyOver_37 : decode cX2_whyOver 37 = .ok (.ireturn, 1) := dk_172 (dk_at dksX2_whyOver_1 15 rfl rfl)
abbrev cX2_areAllDelivered : ByteArray := prog_8_method_7_code
def yX2_areAllDelivered : MethodName := ⟨RX2, "areAllDelivered", "()Z"⟩
def dkwX2_areAllDelivered_2 : List UInt8 := [132, 2, 1, 167, 255, 225, 27, 172]
abbrev dktX2_areAllDelivered_2 : List UInt8 := dkwX2_areAllDelivered_2 ++ []
def dkwX2_areAllDelivered_1 : List UInt8 := [182, 0, 69, 162, 0, 26, 27, 42, 180, 0, 27, 28, 182, 0, 73, 192, 0, 91, 180, 0, 169, 126, 60]
abbrev dktX2_areAllDelivered_1 : List UInt8 := dkwX2_areAllDelivered_1 ++ dktX2_areAllDelivered_2
def dkwX2_areAllDelivered_0 : List UInt8 := [42, 180, 0, 27, 182, 0, 166, 154, 0, 7, 4, 167, 0, 4, 3, 60, 3, 61, 28, 42, 180, 0, 27]
abbrev dktX2_areAllDelivered_0 : List UInt8 := dkwX2_areAllDelivered_0 ++ dktX2_areAllDelivered_1
theorem dksX2_areAllDelivered_0 : cX2_areAllDelivered.data.toList.drop 0 = dktX2_areAllDelivered_0 := by decide +kernel
theorem dksX2_areAllDelivered_1 : cX2_areAllDelivered.data.toList.drop 23 = dktX2_areAllDelivered_1 := dk_seg dksX2_areAllDelivered_0 23 rfl rfl
theorem dksX2_areAllDelivered_2 : cX2_areAllDelivered.data.toList.drop 46 = dktX2_areAllDelivered_2 := dk_seg dksX2_areAllDelivered_1 23 rfl rfl
theorem dX2_areAllDelivered_0 : decode cX2_areAllDelivered 0 = .ok (.aload_n 0, 1) := dk_42 (dk_at dksX2_areAllDelivered_0 0 rfl rfl)
theorem dX2_areAllDelivered_1 : decode cX2_areAllDelivered 1 = .ok (.getfield 27, 3) := dk_180 0 27 (dk_at dksX2_areAllDelivered_0 1 rfl rfl)
theorem dX2_areAllDelivered_4 : decode cX2_areAllDelivered 4 = .ok (.invokevirtual 166, 3) := dk_182 0 166 (dk_at dksX2_areAllDelivered_0 4 rfl rfl)
theorem dX2_areAllDelivered_7 : decode cX2_areAllDelivered 7 = .ok (.ifCond .ne 7, 3) := dk_154 0 7 (dk_at dksX2_areAllDelivered_0 7 rfl rfl)
theorem dX2_areAllDelivered_10 : decode cX2_areAllDelivered 10 = .ok (.iconst 1, 1) := dk_4 (dk_at dksX2_areAllDelivered_0 10 rfl rfl)
theorem dX2_areAllDelivered_11 : decode cX2_areAllDelivered 11 = .ok (.goto 4, 3) := dk_167 0 4 (dk_at dksX2_areAllDelivered_0 11 rfl rfl)
theorem dX2_areAllDelivered_14 : decode cX2_areAllDelivered 14 = .ok (.iconst 0, 1) := dk_3 (dk_at dksX2_areAllDelivered_0 14 rfl rfl)
theorem dX2_areAllDelivered_15 : decode cX2_areAllDelivered 15 = .ok (.istore_n 1, 1) := dk_60 (dk_at dksX2_areAllDelivered_0 15 rfl rfl)
theorem dX2_areAllDelivered_16 : decode cX2_areAllDelivered 16 = .ok (.iconst 0, 1) := dk_3 (dk_at dksX2_areAllDelivered_0 16 rfl rfl)
theorem dX2_areAllDelivered_17 : decode cX2_areAllDelivered 17 = .ok (.istore_n 2, 1) := dk_61 (dk_at dksX2_areAllDelivered_0 17 rfl rfl)
theorem dX2_areAllDelivered_18 : decode cX2_areAllDelivered 18 = .ok (.iload_n 2, 1) := dk_28 (dk_at dksX2_areAllDelivered_0 18 rfl rfl)
theorem dX2_areAllDelivered_19 : decode cX2_areAllDelivered 19 = .ok (.aload_n 0, 1) := dk_42 (dk_at dksX2_areAllDelivered_0 19 rfl rfl)
theorem dX2_areAllDelivered_20 : decode cX2_areAllDelivered 20 = .ok (.getfield 27, 3) := dk_180 0 27 (dk_at dksX2_areAllDelivered_0 20 rfl rfl)
theorem dX2_areAllDelivered_23 : decode cX2_areAllDelivered 23 = .ok (.invokevirtual 69, 3) := dk_182 0 69 (dk_at dksX2_areAllDelivered_1 0 rfl rfl)
theorem dX2_areAllDelivered_26 : decode cX2_areAllDelivered 26 = .ok (.if_icmp .ge 26, 3) := dk_162 0 26 (dk_at dksX2_areAllDelivered_1 3 rfl rfl)
theorem dX2_areAllDelivered_29 : decode cX2_areAllDelivered 29 = .ok (.iload_n 1, 1) := dk_27 (dk_at dksX2_areAllDelivered_1 6 rfl rfl)
theorem dX2_areAllDelivered_30 : decode cX2_areAllDelivered 30 = .ok (.aload_n 0, 1) := dk_42 (dk_at dksX2_areAllDelivered_1 7 rfl rfl)
theorem dX2_areAllDelivered_31 : decode cX2_areAllDelivered 31 = .ok (.getfield 27, 3) := dk_180 0 27 (dk_at dksX2_areAllDelivered_1 8 rfl rfl)
theorem dX2_areAllDelivered_34 : decode cX2_areAllDelivered 34 = .ok (.iload_n 2, 1) := dk_28 (dk_at dksX2_areAllDelivered_1 11 rfl rfl)
theorem dX2_areAllDelivered_35 : decode cX2_areAllDelivered 35 = .ok (.invokevirtual 73, 3) := dk_182 0 73 (dk_at dksX2_areAllDelivered_1 12 rfl rfl)
theorem dX2_areAllDelivered_38 : decode cX2_areAllDelivered 38 = .ok (.checkcast 91, 3) := dk_192 0 91 (dk_at dksX2_areAllDelivered_1 15 rfl rfl)
theorem dX2_areAllDelivered_41 : decode cX2_areAllDelivered 41 = .ok (.getfield 169, 3) := dk_180 0 169 (dk_at dksX2_areAllDelivered_1 18 rfl rfl)
theorem dX2_areAllDelivered_44 : decode cX2_areAllDelivered 44 = .ok (.iand, 1) := dk_126 (dk_at dksX2_areAllDelivered_1 21 rfl rfl)
theorem dX2_areAllDelivered_45 : decode cX2_areAllDelivered 45 = .ok (.istore_n 1, 1) := dk_60 (dk_at dksX2_areAllDelivered_1 22 rfl rfl)
theorem dX2_areAllDelivered_46 : decode cX2_areAllDelivered 46 = .ok (.iinc 2 1, 3) := dk_132 2 1 (dk_at dksX2_areAllDelivered_2 0 rfl rfl)
theorem dX2_areAllDelivered_49 : decode cX2_areAllDelivered 49 = .ok (.goto (-31), 3) := dk_167 255 225 (dk_at dksX2_areAllDelivered_2 3 rfl rfl)
theorem dX2_areAllDelivered_52 : decode cX2_areAllDelivered 52 = .ok (.iload_n 1, 1) := dk_27 (dk_at dksX2_areAllDelivered_2 6 rfl rfl)
theorem dX2_areAllDelivered_53 : decode cX2_areAllDelivered 53 = .ok (.ireturn, 1) := dk_172 (dk_at dksX2_areAllDelivered_2 7 rfl rfl)
abbrev cX2_loads : ByteArray := prog_8_method_32_code
def yX2_loads : MethodName := ⟨RX2, "loads", "()I"⟩
def dkwX2_loads_1 : List UInt8 := [172]
abbrev dktX2_loads_1 : List UInt8 := dkwX2_loads_1 ++ []
def dkwX2_loads_0 : List UInt8 := [3, 60, 3, 61, 28, 7, 162, 0, 17, 27, 42, 28, 182, 0, 207, 96, 60, 132, 2, 1, 167, 255, 240, 27]
abbrev dktX2_loads_0 : List UInt8 := dkwX2_loads_0 ++ dktX2_loads_1
theorem dksX2_loads_0 : cX2_loads.data.toList.drop 0 = dktX2_loads_0 := by decide +kernel
theorem dksX2_loads_1 : cX2_loads.data.toList.drop 24 = dktX2_loads_1 := dk_seg dksX2_loads_0 24 rfl rfl
theorem dX2_loads_0 : decode cX2_loads 0 = .ok (.iconst 0, 1) := dk_3 (dk_at dksX2_loads_0 0 rfl rfl)
theorem dX2_loads_1 : decode cX2_loads 1 = .ok (.istore_n 1, 1) := dk_60 (dk_at dksX2_loads_0 1 rfl rfl)
theorem dX2_loads_2 : decode cX2_loads 2 = .ok (.iconst 0, 1) := dk_3 (dk_at dksX2_loads_0 2 rfl rfl)
theorem dX2_loads_3 : decode cX2_loads 3 = .ok (.istore_n 2, 1) := dk_61 (dk_at dksX2_loads_0 3 rfl rfl)
theorem dX2_loads_4 : decode cX2_loads 4 = .ok (.iload_n 2, 1) := dk_28 (dk_at dksX2_loads_0 4 rfl rfl)
theorem dX2_loads_5 : decode cX2_loads 5 = .ok (.iconst 4, 1) := dk_7 (dk_at dksX2_loads_0 5 rfl rfl)
theorem dX2_loads_6 : decode cX2_loads 6 = .ok (.if_icmp .ge 17, 3) := dk_162 0 17 (dk_at dksX2_loads_0 6 rfl rfl)
theorem dX2_loads_9 : decode cX2_loads 9 = .ok (.iload_n 1, 1) := dk_27 (dk_at dksX2_loads_0 9 rfl rfl)
theorem dX2_loads_10 : decode cX2_loads 10 = .ok (.aload_n 0, 1) := dk_42 (dk_at dksX2_loads_0 10 rfl rfl)
theorem dX2_loads_11 : decode cX2_loads 11 = .ok (.iload_n 2, 1) := dk_28 (dk_at dksX2_loads_0 11 rfl rfl)
theorem dX2_loads_12 : decode cX2_loads 12 = .ok (.invokevirtual 207, 3) := dk_182 0 207 (dk_at dksX2_loads_0 12 rfl rfl)
theorem dX2_loads_15 : decode cX2_loads 15 = .ok (.iadd, 1) := dk_96 (dk_at dksX2_loads_0 15 rfl rfl)
theorem dX2_loads_16 : decode cX2_loads 16 = .ok (.istore_n 1, 1) := dk_60 (dk_at dksX2_loads_0 16 rfl rfl)
theorem dX2_loads_17 : decode cX2_loads 17 = .ok (.iinc 2 1, 3) := dk_132 2 1 (dk_at dksX2_loads_0 17 rfl rfl)
theorem dX2_loads_20 : decode cX2_loads 20 = .ok (.goto (-16), 3) := dk_167 255 240 (dk_at dksX2_loads_0 20 rfl rfl)
theorem dX2_loads_23 : decode cX2_loads 23 = .ok (.iload_n 1, 1) := dk_27 (dk_at dksX2_loads_0 23 rfl rfl)
theorem dX2_loads_24 : decode cX2_loads 24 = .ok (.ireturn, 1) := dk_172 (dk_at dksX2_loads_1 0 rfl rfl)
abbrev cX2_loadOf : ByteArray := prog_8_method_13_code
def yX2_loadOf : MethodName := ⟨RX2, "loadOf", "(I)I"⟩
def dkwX2_loadOf_2 : List UInt8 := [167, 0, 4, 3, 96, 61, 132, 3, 1, 167, 255, 203, 28, 172]
abbrev dktX2_loadOf_2 : List UInt8 := dkwX2_loadOf_2 ++ []
def dkwX2_loadOf_1 : List UInt8 := [192, 0, 91, 27, 182, 0, 191, 153, 0, 20, 42, 180, 0, 27, 29, 182, 0, 73, 192, 0, 91, 180, 0, 195]
abbrev dktX2_loadOf_1 : List UInt8 := dkwX2_loadOf_1 ++ dktX2_loadOf_2
def dkwX2_loadOf_0 : List UInt8 := [3, 61, 3, 62, 29, 42, 180, 0, 27, 182, 0, 69, 162, 0, 48, 28, 42, 180, 0, 27, 29, 182, 0, 73]
abbrev dktX2_loadOf_0 : List UInt8 := dkwX2_loadOf_0 ++ dktX2_loadOf_1
theorem dksX2_loadOf_0 : cX2_loadOf.data.toList.drop 0 = dktX2_loadOf_0 := by decide +kernel
theorem dksX2_loadOf_1 : cX2_loadOf.data.toList.drop 24 = dktX2_loadOf_1 := dk_seg dksX2_loadOf_0 24 rfl rfl
theorem dksX2_loadOf_2 : cX2_loadOf.data.toList.drop 48 = dktX2_loadOf_2 := dk_seg dksX2_loadOf_1 24 rfl rfl
theorem dX2_loadOf_0 : decode cX2_loadOf 0 = .ok (.iconst 0, 1) := dk_3 (dk_at dksX2_loadOf_0 0 rfl rfl)
theorem dX2_loadOf_1 : decode cX2_loadOf 1 = .ok (.istore_n 2, 1) := dk_61 (dk_at dksX2_loadOf_0 1 rfl rfl)
theorem dX2_loadOf_2 : decode cX2_loadOf 2 = .ok (.iconst 0, 1) := dk_3 (dk_at dksX2_loadOf_0 2 rfl rfl)
theorem dX2_loadOf_3 : decode cX2_loadOf 3 = .ok (.istore_n 3, 1) := dk_62 (dk_at dksX2_loadOf_0 3 rfl rfl)
theorem dX2_loadOf_4 : decode cX2_loadOf 4 = .ok (.iload_n 3, 1) := dk_29 (dk_at dksX2_loadOf_0 4 rfl rfl)
theorem dX2_loadOf_5 : decode cX2_loadOf 5 = .ok (.aload_n 0, 1) := dk_42 (dk_at dksX2_loadOf_0 5 rfl rfl)
theorem dX2_loadOf_6 : decode cX2_loadOf 6 = .ok (.getfield 27, 3) := dk_180 0 27 (dk_at dksX2_loadOf_0 6 rfl rfl)
theorem dX2_loadOf_9 : decode cX2_loadOf 9 = .ok (.invokevirtual 69, 3) := dk_182 0 69 (dk_at dksX2_loadOf_0 9 rfl rfl)
theorem dX2_loadOf_12 : decode cX2_loadOf 12 = .ok (.if_icmp .ge 48, 3) := dk_162 0 48 (dk_at dksX2_loadOf_0 12 rfl rfl)
theorem dX2_loadOf_15 : decode cX2_loadOf 15 = .ok (.iload_n 2, 1) := dk_28 (dk_at dksX2_loadOf_0 15 rfl rfl)
theorem dX2_loadOf_16 : decode cX2_loadOf 16 = .ok (.aload_n 0, 1) := dk_42 (dk_at dksX2_loadOf_0 16 rfl rfl)
theorem dX2_loadOf_17 : decode cX2_loadOf 17 = .ok (.getfield 27, 3) := dk_180 0 27 (dk_at dksX2_loadOf_0 17 rfl rfl)
theorem dX2_loadOf_20 : decode cX2_loadOf 20 = .ok (.iload_n 3, 1) := dk_29 (dk_at dksX2_loadOf_0 20 rfl rfl)
theorem dX2_loadOf_21 : decode cX2_loadOf 21 = .ok (.invokevirtual 73, 3) := dk_182 0 73 (dk_at dksX2_loadOf_0 21 rfl rfl)
theorem dX2_loadOf_24 : decode cX2_loadOf 24 = .ok (.checkcast 91, 3) := dk_192 0 91 (dk_at dksX2_loadOf_1 0 rfl rfl)
theorem dX2_loadOf_27 : decode cX2_loadOf 27 = .ok (.iload_n 1, 1) := dk_27 (dk_at dksX2_loadOf_1 3 rfl rfl)
theorem dX2_loadOf_28 : decode cX2_loadOf 28 = .ok (.invokevirtual 191, 3) := dk_182 0 191 (dk_at dksX2_loadOf_1 4 rfl rfl)
theorem dX2_loadOf_31 : decode cX2_loadOf 31 = .ok (.ifCond .eq 20, 3) := dk_153 0 20 (dk_at dksX2_loadOf_1 7 rfl rfl)
theorem dX2_loadOf_34 : decode cX2_loadOf 34 = .ok (.aload_n 0, 1) := dk_42 (dk_at dksX2_loadOf_1 10 rfl rfl)
theorem dX2_loadOf_35 : decode cX2_loadOf 35 = .ok (.getfield 27, 3) := dk_180 0 27 (dk_at dksX2_loadOf_1 11 rfl rfl)
theorem dX2_loadOf_38 : decode cX2_loadOf 38 = .ok (.iload_n 3, 1) := dk_29 (dk_at dksX2_loadOf_1 14 rfl rfl)
theorem dX2_loadOf_39 : decode cX2_loadOf 39 = .ok (.invokevirtual 73, 3) := dk_182 0 73 (dk_at dksX2_loadOf_1 15 rfl rfl)
theorem dX2_loadOf_42 : decode cX2_loadOf 42 = .ok (.checkcast 91, 3) := dk_192 0 91 (dk_at dksX2_loadOf_1 18 rfl rfl)
theorem dX2_loadOf_45 : decode cX2_loadOf 45 = .ok (.getfield 195, 3) := dk_180 0 195 (dk_at dksX2_loadOf_1 21 rfl rfl)
theorem dX2_loadOf_48 : decode cX2_loadOf 48 = .ok (.goto 4, 3) := dk_167 0 4 (dk_at dksX2_loadOf_2 0 rfl rfl)
theorem dX2_loadOf_51 : decode cX2_loadOf 51 = .ok (.iconst 0, 1) := dk_3 (dk_at dksX2_loadOf_2 3 rfl rfl)
theorem dX2_loadOf_52 : decode cX2_loadOf 52 = .ok (.iadd, 1) := dk_96 (dk_at dksX2_loadOf_2 4 rfl rfl)
theorem dX2_loadOf_53 : decode cX2_loadOf 53 = .ok (.istore_n 2, 1) := dk_61 (dk_at dksX2_loadOf_2 5 rfl rfl)
theorem dX2_loadOf_54 : decode cX2_loadOf 54 = .ok (.iinc 3 1, 3) := dk_132 3 1 (dk_at dksX2_loadOf_2 6 rfl rfl)
theorem dX2_loadOf_57 : decode cX2_loadOf 57 = .ok (.goto (-53), 3) := dk_167 255 203 (dk_at dksX2_loadOf_2 9 rfl rfl)
theorem dX2_loadOf_60 : decode cX2_loadOf 60 = .ok (.iload_n 2, 1) := dk_28 (dk_at dksX2_loadOf_2 12 rfl rfl)
theorem dX2_loadOf_61 : decode cX2_loadOf 61 = .ok (.ireturn, 1) := dk_172 (dk_at dksX2_loadOf_2 13 rfl rfl)
abbrev cX2_delivered : ByteArray := prog_8_method_30_code
def yX2_delivered : MethodName := ⟨RX2, "delivered", "()I"⟩
def dkwX2_delivered_1 : List UInt8 := [192, 0, 91, 180, 0, 169, 153, 0, 7, 4, 167, 0, 4, 3, 96, 60, 132, 2, 1, 167, 255, 217, 27, 172]
abbrev dktX2_delivered_1 : List UInt8 := dkwX2_delivered_1 ++ []
def dkwX2_delivered_0 : List UInt8 := [3, 60, 3, 61, 28, 42, 180, 0, 27, 182, 0, 69, 162, 0, 34, 27, 42, 180, 0, 27, 28, 182, 0, 73]
abbrev dktX2_delivered_0 : List UInt8 := dkwX2_delivered_0 ++ dktX2_delivered_1
theorem dksX2_delivered_0 : cX2_delivered.data.toList.drop 0 = dktX2_delivered_0 := by decide +kernel
theorem dksX2_delivered_1 : cX2_delivered.data.toList.drop 24 = dktX2_delivered_1 := dk_seg dksX2_delivered_0 24 rfl rfl
theorem dX2_delivered_0 : decode cX2_delivered 0 = .ok (.iconst 0, 1) := dk_3 (dk_at dksX2_delivered_0 0 rfl rfl)
theorem dX2_delivered_1 : decode cX2_delivered 1 = .ok (.istore_n 1, 1) := dk_60 (dk_at dksX2_delivered_0 1 rfl rfl)
theorem dX2_delivered_2 : decode cX2_delivered 2 = .ok (.iconst 0, 1) := dk_3 (dk_at dksX2_delivered_0 2 rfl rfl)
theorem dX2_delivered_3 : decode cX2_delivered 3 = .ok (.istore_n 2, 1) := dk_61 (dk_at dksX2_delivered_0 3 rfl rfl)
theorem dX2_delivered_4 : decode cX2_delivered 4 = .ok (.iload_n 2, 1) := dk_28 (dk_at dksX2_delivered_0 4 rfl rfl)
theorem dX2_delivered_5 : decode cX2_delivered 5 = .ok (.aload_n 0, 1) := dk_42 (dk_at dksX2_delivered_0 5 rfl rfl)
theorem dX2_delivered_6 : decode cX2_delivered 6 = .ok (.getfield 27, 3) := dk_180 0 27 (dk_at dksX2_delivered_0 6 rfl rfl)
theorem dX2_delivered_9 : decode cX2_delivered 9 = .ok (.invokevirtual 69, 3) := dk_182 0 69 (dk_at dksX2_delivered_0 9 rfl rfl)
theorem dX2_delivered_12 : decode cX2_delivered 12 = .ok (.if_icmp .ge 34, 3) := dk_162 0 34 (dk_at dksX2_delivered_0 12 rfl rfl)
theorem dX2_delivered_15 : decode cX2_delivered 15 = .ok (.iload_n 1, 1) := dk_27 (dk_at dksX2_delivered_0 15 rfl rfl)
theorem dX2_delivered_16 : decode cX2_delivered 16 = .ok (.aload_n 0, 1) := dk_42 (dk_at dksX2_delivered_0 16 rfl rfl)
theorem dX2_delivered_17 : decode cX2_delivered 17 = .ok (.getfield 27, 3) := dk_180 0 27 (dk_at dksX2_delivered_0 17 rfl rfl)
theorem dX2_delivered_20 : decode cX2_delivered 20 = .ok (.iload_n 2, 1) := dk_28 (dk_at dksX2_delivered_0 20 rfl rfl)
theorem dX2_delivered_21 : decode cX2_delivered 21 = .ok (.invokevirtual 73, 3) := dk_182 0 73 (dk_at dksX2_delivered_0 21 rfl rfl)
theorem dX2_delivered_24 : decode cX2_delivered 24 = .ok (.checkcast 91, 3) := dk_192 0 91 (dk_at dksX2_delivered_1 0 rfl rfl)
theorem dX2_delivered_27 : decode cX2_delivered 27 = .ok (.getfield 169, 3) := dk_180 0 169 (dk_at dksX2_delivered_1 3 rfl rfl)
theorem dX2_delivered_30 : decode cX2_delivered 30 = .ok (.ifCond .eq 7, 3) := dk_153 0 7 (dk_at dksX2_delivered_1 6 rfl rfl)
theorem dX2_delivered_33 : decode cX2_delivered 33 = .ok (.iconst 1, 1) := dk_4 (dk_at dksX2_delivered_1 9 rfl rfl)
theorem dX2_delivered_34 : decode cX2_delivered 34 = .ok (.goto 4, 3) := dk_167 0 4 (dk_at dksX2_delivered_1 10 rfl rfl)
theorem dX2_delivered_37 : decode cX2_delivered 37 = .ok (.iconst 0, 1) := dk_3 (dk_at dksX2_delivered_1 13 rfl rfl)
theorem dX2_delivered_38 : decode cX2_delivered 38 = .ok (.iadd, 1) := dk_96 (dk_at dksX2_delivered_1 14 rfl rfl)
theorem dX2_delivered_39 : decode cX2_delivered 39 = .ok (.istore_n 1, 1) := dk_60 (dk_at dksX2_delivered_1 15 rfl rfl)
theorem dX2_delivered_40 : decode cX2_delivered 40 = .ok (.iinc 2 1, 3) := dk_132 2 1 (dk_at dksX2_delivered_1 16 rfl rfl)
theorem dX2_delivered_43 : decode cX2_delivered 43 = .ok (.goto (-39), 3) := dk_167 255 217 (dk_at dksX2_delivered_1 19 rfl rfl)
theorem dX2_delivered_46 : decode cX2_delivered 46 = .ok (.iload_n 1, 1) := dk_27 (dk_at dksX2_delivered_1 22 rfl rfl)
theorem dX2_delivered_47 : decode cX2_delivered 47 = .ok (.ireturn, 1) := dk_172 (dk_at dksX2_delivered_1 23 rfl rfl)
abbrev cX2_pointsByParcels : ByteArray := prog_8_method_29_code
def yX2_pointsByParcels : MethodName := ⟨RX2, "pointsByParcels", "(I)I"⟩
def dkwX2_pointsByParcels_2 : List UInt8 := [160, 0, 11, 25, 4, 180, 1, 6, 167, 0, 4, 3, 96, 61, 132, 3, 1, 167, 255, 198, 28, 172]
abbrev dktX2_pointsByParcels_2 : List UInt8 := dkwX2_pointsByParcels_2 ++ []
def dkwX2_pointsByParcels_1 : List UInt8 := [192, 0, 91, 58, 4, 28, 25, 4, 180, 0, 169, 153, 0, 22, 25, 4, 180, 1, 28, 5, 108, 27]
abbrev dktX2_pointsByParcels_1 : List UInt8 := dkwX2_pointsByParcels_1 ++ dktX2_pointsByParcels_2
def dkwX2_pointsByParcels_0 : List UInt8 := [3, 61, 3, 62, 29, 42, 180, 0, 27, 182, 0, 69, 162, 0, 53, 42, 180, 0, 27, 29, 182, 0, 73]
abbrev dktX2_pointsByParcels_0 : List UInt8 := dkwX2_pointsByParcels_0 ++ dktX2_pointsByParcels_1
theorem dksX2_pointsByParcels_0 : cX2_pointsByParcels.data.toList.drop 0 = dktX2_pointsByParcels_0 := by decide +kernel
theorem dksX2_pointsByParcels_1 : cX2_pointsByParcels.data.toList.drop 23 = dktX2_pointsByParcels_1 := dk_seg dksX2_pointsByParcels_0 23 rfl rfl
theorem dksX2_pointsByParcels_2 : cX2_pointsByParcels.data.toList.drop 45 = dktX2_pointsByParcels_2 := dk_seg dksX2_pointsByParcels_1 22 rfl rfl
theorem dX2_pointsByParcels_0 : decode cX2_pointsByParcels 0 = .ok (.iconst 0, 1) := dk_3 (dk_at dksX2_pointsByParcels_0 0 rfl rfl)
theorem dX2_pointsByParcels_1 : decode cX2_pointsByParcels 1 = .ok (.istore_n 2, 1) := dk_61 (dk_at dksX2_pointsByParcels_0 1 rfl rfl)
theorem dX2_pointsByParcels_2 : decode cX2_pointsByParcels 2 = .ok (.iconst 0, 1) := dk_3 (dk_at dksX2_pointsByParcels_0 2 rfl rfl)
theorem dX2_pointsByParcels_3 : decode cX2_pointsByParcels 3 = .ok (.istore_n 3, 1) := dk_62 (dk_at dksX2_pointsByParcels_0 3 rfl rfl)
theorem dX2_pointsByParcels_4 : decode cX2_pointsByParcels 4 = .ok (.iload_n 3, 1) := dk_29 (dk_at dksX2_pointsByParcels_0 4 rfl rfl)
theorem dX2_pointsByParcels_5 : decode cX2_pointsByParcels 5 = .ok (.aload_n 0, 1) := dk_42 (dk_at dksX2_pointsByParcels_0 5 rfl rfl)
theorem dX2_pointsByParcels_6 : decode cX2_pointsByParcels 6 = .ok (.getfield 27, 3) := dk_180 0 27 (dk_at dksX2_pointsByParcels_0 6 rfl rfl)
theorem dX2_pointsByParcels_9 : decode cX2_pointsByParcels 9 = .ok (.invokevirtual 69, 3) := dk_182 0 69 (dk_at dksX2_pointsByParcels_0 9 rfl rfl)
theorem dX2_pointsByParcels_12 : decode cX2_pointsByParcels 12 = .ok (.if_icmp .ge 53, 3) := dk_162 0 53 (dk_at dksX2_pointsByParcels_0 12 rfl rfl)
theorem dX2_pointsByParcels_15 : decode cX2_pointsByParcels 15 = .ok (.aload_n 0, 1) := dk_42 (dk_at dksX2_pointsByParcels_0 15 rfl rfl)
theorem dX2_pointsByParcels_16 : decode cX2_pointsByParcels 16 = .ok (.getfield 27, 3) := dk_180 0 27 (dk_at dksX2_pointsByParcels_0 16 rfl rfl)
theorem dX2_pointsByParcels_19 : decode cX2_pointsByParcels 19 = .ok (.iload_n 3, 1) := dk_29 (dk_at dksX2_pointsByParcels_0 19 rfl rfl)
theorem dX2_pointsByParcels_20 : decode cX2_pointsByParcels 20 = .ok (.invokevirtual 73, 3) := dk_182 0 73 (dk_at dksX2_pointsByParcels_0 20 rfl rfl)
theorem dX2_pointsByParcels_23 : decode cX2_pointsByParcels 23 = .ok (.checkcast 91, 3) := dk_192 0 91 (dk_at dksX2_pointsByParcels_1 0 rfl rfl)
theorem dX2_pointsByParcels_26 : decode cX2_pointsByParcels 26 = .ok (.astore 4, 2) := dk_58 4 (dk_at dksX2_pointsByParcels_1 3 rfl rfl)
theorem dX2_pointsByParcels_28 : decode cX2_pointsByParcels 28 = .ok (.iload_n 2, 1) := dk_28 (dk_at dksX2_pointsByParcels_1 5 rfl rfl)
theorem dX2_pointsByParcels_29 : decode cX2_pointsByParcels 29 = .ok (.aload 4, 2) := dk_25 4 (dk_at dksX2_pointsByParcels_1 6 rfl rfl)
theorem dX2_pointsByParcels_31 : decode cX2_pointsByParcels 31 = .ok (.getfield 169, 3) := dk_180 0 169 (dk_at dksX2_pointsByParcels_1 8 rfl rfl)
theorem dX2_pointsByParcels_34 : decode cX2_pointsByParcels 34 = .ok (.ifCond .eq 22, 3) := dk_153 0 22 (dk_at dksX2_pointsByParcels_1 11 rfl rfl)
theorem dX2_pointsByParcels_37 : decode cX2_pointsByParcels 37 = .ok (.aload 4, 2) := dk_25 4 (dk_at dksX2_pointsByParcels_1 14 rfl rfl)
theorem dX2_pointsByParcels_39 : decode cX2_pointsByParcels 39 = .ok (.getfield 284, 3) := dk_180 1 28 (dk_at dksX2_pointsByParcels_1 16 rfl rfl)
theorem dX2_pointsByParcels_42 : decode cX2_pointsByParcels 42 = .ok (.iconst 2, 1) := dk_5 (dk_at dksX2_pointsByParcels_1 19 rfl rfl)
theorem dX2_pointsByParcels_43 : decode cX2_pointsByParcels 43 = .ok (.idiv, 1) := dk_108 (dk_at dksX2_pointsByParcels_1 20 rfl rfl)
theorem dX2_pointsByParcels_44 : decode cX2_pointsByParcels 44 = .ok (.iload_n 1, 1) := dk_27 (dk_at dksX2_pointsByParcels_1 21 rfl rfl)
theorem dX2_pointsByParcels_45 : decode cX2_pointsByParcels 45 = .ok (.if_icmp .ne 11, 3) := dk_160 0 11 (dk_at dksX2_pointsByParcels_2 0 rfl rfl)
theorem dX2_pointsByParcels_48 : decode cX2_pointsByParcels 48 = .ok (.aload 4, 2) := dk_25 4 (dk_at dksX2_pointsByParcels_2 3 rfl rfl)
theorem dX2_pointsByParcels_50 : decode cX2_pointsByParcels 50 = .ok (.getfield 262, 3) := dk_180 1 6 (dk_at dksX2_pointsByParcels_2 5 rfl rfl)
theorem dX2_pointsByParcels_53 : decode cX2_pointsByParcels 53 = .ok (.goto 4, 3) := dk_167 0 4 (dk_at dksX2_pointsByParcels_2 8 rfl rfl)
theorem dX2_pointsByParcels_56 : decode cX2_pointsByParcels 56 = .ok (.iconst 0, 1) := dk_3 (dk_at dksX2_pointsByParcels_2 11 rfl rfl)
theorem dX2_pointsByParcels_57 : decode cX2_pointsByParcels 57 = .ok (.iadd, 1) := dk_96 (dk_at dksX2_pointsByParcels_2 12 rfl rfl)
theorem dX2_pointsByParcels_58 : decode cX2_pointsByParcels 58 = .ok (.istore_n 2, 1) := dk_61 (dk_at dksX2_pointsByParcels_2 13 rfl rfl)
theorem dX2_pointsByParcels_59 : decode cX2_pointsByParcels 59 = .ok (.iinc 3 1, 3) := dk_132 3 1 (dk_at dksX2_pointsByParcels_2 14 rfl rfl)
theorem dX2_pointsByParcels_62 : decode cX2_pointsByParcels 62 = .ok (.goto (-58), 3) := dk_167 255 198 (dk_at dksX2_pointsByParcels_2 17 rfl rfl)
theorem dX2_pointsByParcels_65 : decode cX2_pointsByParcels 65 = .ok (.iload_n 2, 1) := dk_28 (dk_at dksX2_pointsByParcels_2 20 rfl rfl)
theorem dX2_pointsByParcels_66 : decode cX2_pointsByParcels 66 = .ok (.ireturn, 1) := dk_172 (dk_at dksX2_pointsByParcels_2 21 rfl rfl)
abbrev cX2_outcomes : ByteArray := prog_8_method_24_code
def yX2_outcomes : MethodName := ⟨RX2, "outcomes", "()[I"⟩
def dkwX2_outcomes_2 : List UInt8 := [42, 182, 0, 246, 60, 167, 255, 247, 42, 180, 0, 60, 176]
abbrev dktX2_outcomes_2 : List UInt8 := dkwX2_outcomes_2 ++ []
def dkwX2_outcomes_1 : List UInt8 := [160, 0, 7, 4, 167, 0, 4, 3, 79, 132, 1, 1, 167, 255, 224, 42, 182, 0, 246, 60, 27, 153, 0, 11]
abbrev dktX2_outcomes_1 : List UInt8 := dkwX2_outcomes_1 ++ dktX2_outcomes_2
def dkwX2_outcomes_0 : List UInt8 := [3, 60, 27, 7, 162, 0, 33, 42, 180, 0, 60, 27, 42, 180, 0, 23, 27, 50, 180, 0, 188, 2]
abbrev dktX2_outcomes_0 : List UInt8 := dkwX2_outcomes_0 ++ dktX2_outcomes_1
theorem dksX2_outcomes_0 : cX2_outcomes.data.toList.drop 0 = dktX2_outcomes_0 := by decide +kernel
theorem dksX2_outcomes_1 : cX2_outcomes.data.toList.drop 22 = dktX2_outcomes_1 := dk_seg dksX2_outcomes_0 22 rfl rfl
theorem dksX2_outcomes_2 : cX2_outcomes.data.toList.drop 46 = dktX2_outcomes_2 := dk_seg dksX2_outcomes_1 24 rfl rfl
theorem dX2_outcomes_0 : decode cX2_outcomes 0 = .ok (.iconst 0, 1) := dk_3 (dk_at dksX2_outcomes_0 0 rfl rfl)
theorem dX2_outcomes_1 : decode cX2_outcomes 1 = .ok (.istore_n 1, 1) := dk_60 (dk_at dksX2_outcomes_0 1 rfl rfl)
theorem dX2_outcomes_2 : decode cX2_outcomes 2 = .ok (.iload_n 1, 1) := dk_27 (dk_at dksX2_outcomes_0 2 rfl rfl)
theorem dX2_outcomes_3 : decode cX2_outcomes 3 = .ok (.iconst 4, 1) := dk_7 (dk_at dksX2_outcomes_0 3 rfl rfl)
theorem dX2_outcomes_4 : decode cX2_outcomes 4 = .ok (.if_icmp .ge 33, 3) := dk_162 0 33 (dk_at dksX2_outcomes_0 4 rfl rfl)
theorem dX2_outcomes_7 : decode cX2_outcomes 7 = .ok (.aload_n 0, 1) := dk_42 (dk_at dksX2_outcomes_0 7 rfl rfl)
theorem dX2_outcomes_8 : decode cX2_outcomes 8 = .ok (.getfield 60, 3) := dk_180 0 60 (dk_at dksX2_outcomes_0 8 rfl rfl)
theorem dX2_outcomes_11 : decode cX2_outcomes 11 = .ok (.iload_n 1, 1) := dk_27 (dk_at dksX2_outcomes_0 11 rfl rfl)
theorem dX2_outcomes_12 : decode cX2_outcomes 12 = .ok (.aload_n 0, 1) := dk_42 (dk_at dksX2_outcomes_0 12 rfl rfl)
theorem dX2_outcomes_13 : decode cX2_outcomes 13 = .ok (.getfield 23, 3) := dk_180 0 23 (dk_at dksX2_outcomes_0 13 rfl rfl)
theorem dX2_outcomes_16 : decode cX2_outcomes 16 = .ok (.iload_n 1, 1) := dk_27 (dk_at dksX2_outcomes_0 16 rfl rfl)
theorem dX2_outcomes_17 : decode cX2_outcomes 17 = .ok (.aaload, 1) := dk_50 (dk_at dksX2_outcomes_0 17 rfl rfl)
theorem dX2_outcomes_18 : decode cX2_outcomes 18 = .ok (.getfield 188, 3) := dk_180 0 188 (dk_at dksX2_outcomes_0 18 rfl rfl)
theorem dX2_outcomes_21 : decode cX2_outcomes 21 = .ok (.iconst (-1), 1) := dk_2 (dk_at dksX2_outcomes_0 21 rfl rfl)
theorem dX2_outcomes_22 : decode cX2_outcomes 22 = .ok (.if_icmp .ne 7, 3) := dk_160 0 7 (dk_at dksX2_outcomes_1 0 rfl rfl)
theorem dX2_outcomes_25 : decode cX2_outcomes 25 = .ok (.iconst 1, 1) := dk_4 (dk_at dksX2_outcomes_1 3 rfl rfl)
theorem dX2_outcomes_26 : decode cX2_outcomes 26 = .ok (.goto 4, 3) := dk_167 0 4 (dk_at dksX2_outcomes_1 4 rfl rfl)
theorem dX2_outcomes_29 : decode cX2_outcomes 29 = .ok (.iconst 0, 1) := dk_3 (dk_at dksX2_outcomes_1 7 rfl rfl)
theorem dX2_outcomes_30 : decode cX2_outcomes 30 = .ok (.iastore, 1) := dk_79 (dk_at dksX2_outcomes_1 8 rfl rfl)
theorem dX2_outcomes_31 : decode cX2_outcomes 31 = .ok (.iinc 1 1, 3) := dk_132 1 1 (dk_at dksX2_outcomes_1 9 rfl rfl)
theorem dX2_outcomes_34 : decode cX2_outcomes 34 = .ok (.goto (-32), 3) := dk_167 255 224 (dk_at dksX2_outcomes_1 12 rfl rfl)
theorem dX2_outcomes_37 : decode cX2_outcomes 37 = .ok (.aload_n 0, 1) := dk_42 (dk_at dksX2_outcomes_1 15 rfl rfl)
theorem dX2_outcomes_38 : decode cX2_outcomes 38 = .ok (.invokevirtual 246, 3) := dk_182 0 246 (dk_at dksX2_outcomes_1 16 rfl rfl)
theorem dX2_outcomes_41 : decode cX2_outcomes 41 = .ok (.istore_n 1, 1) := dk_60 (dk_at dksX2_outcomes_1 19 rfl rfl)
theorem dX2_outcomes_42 : decode cX2_outcomes 42 = .ok (.iload_n 1, 1) := dk_27 (dk_at dksX2_outcomes_1 20 rfl rfl)
theorem dX2_outcomes_43 : decode cX2_outcomes 43 = .ok (.ifCond .eq 11, 3) := dk_153 0 11 (dk_at dksX2_outcomes_1 21 rfl rfl)
theorem dX2_outcomes_46 : decode cX2_outcomes 46 = .ok (.aload_n 0, 1) := dk_42 (dk_at dksX2_outcomes_2 0 rfl rfl)
theorem dX2_outcomes_47 : decode cX2_outcomes 47 = .ok (.invokevirtual 246, 3) := dk_182 0 246 (dk_at dksX2_outcomes_2 1 rfl rfl)
theorem dX2_outcomes_50 : decode cX2_outcomes 50 = .ok (.istore_n 1, 1) := dk_60 (dk_at dksX2_outcomes_2 4 rfl rfl)
theorem dX2_outcomes_51 : decode cX2_outcomes 51 = .ok (.goto (-9), 3) := dk_167 255 247 (dk_at dksX2_outcomes_2 5 rfl rfl)
theorem dX2_outcomes_54 : decode cX2_outcomes 54 = .ok (.aload_n 0, 1) := dk_42 (dk_at dksX2_outcomes_2 8 rfl rfl)
theorem dX2_outcomes_55 : decode cX2_outcomes 55 = .ok (.getfield 60, 3) := dk_180 0 60 (dk_at dksX2_outcomes_2 9 rfl rfl)
theorem dX2_outcomes_58 : decode cX2_outcomes 58 = .ok (.areturn, 1) := dk_176 (dk_at dksX2_outcomes_2 12 rfl rfl)
abbrev cX2_round : ByteArray := prog_8_method_23_code
def yX2_round : MethodName := ⟨RX2, "round", "()Z"⟩
def dkwX2_round_3 : List UInt8 := [180, 0, 63, 3, 42, 180, 0, 60, 3, 7, 184, 0, 128, 27, 172]
abbrev dktX2_round_3 : List UInt8 := dkwX2_round_3 ++ []
def dkwX2_round_2 : List UInt8 := [180, 0, 60, 28, 46, 159, 0, 7, 4, 167, 0, 4, 3, 128, 60, 132, 2, 1, 167, 255, 196, 42]
abbrev dktX2_round_2 : List UInt8 := dkwX2_round_2 ++ dktX2_round_3
def dkwX2_round_1 : List UInt8 := [28, 182, 0, 243, 167, 0, 9, 42, 180, 0, 60, 28, 46, 79, 27, 42, 180, 0, 63, 28, 46, 42]
abbrev dktX2_round_1 : List UInt8 := dkwX2_round_1 ++ dktX2_round_2
def dkwX2_round_0 : List UInt8 := [3, 60, 3, 61, 28, 7, 162, 0, 61, 42, 180, 0, 63, 28, 42, 180, 0, 60, 28, 46, 154, 0, 11, 42]
abbrev dktX2_round_0 : List UInt8 := dkwX2_round_0 ++ dktX2_round_1
theorem dksX2_round_0 : cX2_round.data.toList.drop 0 = dktX2_round_0 := by decide +kernel
theorem dksX2_round_1 : cX2_round.data.toList.drop 24 = dktX2_round_1 := dk_seg dksX2_round_0 24 rfl rfl
theorem dksX2_round_2 : cX2_round.data.toList.drop 46 = dktX2_round_2 := dk_seg dksX2_round_1 22 rfl rfl
theorem dksX2_round_3 : cX2_round.data.toList.drop 68 = dktX2_round_3 := dk_seg dksX2_round_2 22 rfl rfl
theorem dX2_round_0 : decode cX2_round 0 = .ok (.iconst 0, 1) := dk_3 (dk_at dksX2_round_0 0 rfl rfl)
theorem dX2_round_1 : decode cX2_round 1 = .ok (.istore_n 1, 1) := dk_60 (dk_at dksX2_round_0 1 rfl rfl)
theorem dX2_round_2 : decode cX2_round 2 = .ok (.iconst 0, 1) := dk_3 (dk_at dksX2_round_0 2 rfl rfl)
theorem dX2_round_3 : decode cX2_round 3 = .ok (.istore_n 2, 1) := dk_61 (dk_at dksX2_round_0 3 rfl rfl)
theorem dX2_round_4 : decode cX2_round 4 = .ok (.iload_n 2, 1) := dk_28 (dk_at dksX2_round_0 4 rfl rfl)
theorem dX2_round_5 : decode cX2_round 5 = .ok (.iconst 4, 1) := dk_7 (dk_at dksX2_round_0 5 rfl rfl)
theorem dX2_round_6 : decode cX2_round 6 = .ok (.if_icmp .ge 61, 3) := dk_162 0 61 (dk_at dksX2_round_0 6 rfl rfl)
theorem dX2_round_9 : decode cX2_round 9 = .ok (.aload_n 0, 1) := dk_42 (dk_at dksX2_round_0 9 rfl rfl)
theorem dX2_round_10 : decode cX2_round 10 = .ok (.getfield 63, 3) := dk_180 0 63 (dk_at dksX2_round_0 10 rfl rfl)
theorem dX2_round_13 : decode cX2_round 13 = .ok (.iload_n 2, 1) := dk_28 (dk_at dksX2_round_0 13 rfl rfl)
theorem dX2_round_14 : decode cX2_round 14 = .ok (.aload_n 0, 1) := dk_42 (dk_at dksX2_round_0 14 rfl rfl)
theorem dX2_round_15 : decode cX2_round 15 = .ok (.getfield 60, 3) := dk_180 0 60 (dk_at dksX2_round_0 15 rfl rfl)
theorem dX2_round_18 : decode cX2_round 18 = .ok (.iload_n 2, 1) := dk_28 (dk_at dksX2_round_0 18 rfl rfl)
theorem dX2_round_19 : decode cX2_round 19 = .ok (.iaload, 1) := dk_46 (dk_at dksX2_round_0 19 rfl rfl)
theorem dX2_round_20 : decode cX2_round 20 = .ok (.ifCond .ne 11, 3) := dk_154 0 11 (dk_at dksX2_round_0 20 rfl rfl)
theorem dX2_round_23 : decode cX2_round 23 = .ok (.aload_n 0, 1) := dk_42 (dk_at dksX2_round_0 23 rfl rfl)
theorem dX2_round_24 : decode cX2_round 24 = .ok (.iload_n 2, 1) := dk_28 (dk_at dksX2_round_1 0 rfl rfl)
theorem dX2_round_25 : decode cX2_round 25 = .ok (.invokevirtual 243, 3) := dk_182 0 243 (dk_at dksX2_round_1 1 rfl rfl)
theorem dX2_round_28 : decode cX2_round 28 = .ok (.goto 9, 3) := dk_167 0 9 (dk_at dksX2_round_1 4 rfl rfl)
theorem dX2_round_31 : decode cX2_round 31 = .ok (.aload_n 0, 1) := dk_42 (dk_at dksX2_round_1 7 rfl rfl)
theorem dX2_round_32 : decode cX2_round 32 = .ok (.getfield 60, 3) := dk_180 0 60 (dk_at dksX2_round_1 8 rfl rfl)
theorem dX2_round_35 : decode cX2_round 35 = .ok (.iload_n 2, 1) := dk_28 (dk_at dksX2_round_1 11 rfl rfl)
theorem dX2_round_36 : decode cX2_round 36 = .ok (.iaload, 1) := dk_46 (dk_at dksX2_round_1 12 rfl rfl)
theorem dX2_round_37 : decode cX2_round 37 = .ok (.iastore, 1) := dk_79 (dk_at dksX2_round_1 13 rfl rfl)
theorem dX2_round_38 : decode cX2_round 38 = .ok (.iload_n 1, 1) := dk_27 (dk_at dksX2_round_1 14 rfl rfl)
theorem dX2_round_39 : decode cX2_round 39 = .ok (.aload_n 0, 1) := dk_42 (dk_at dksX2_round_1 15 rfl rfl)
theorem dX2_round_40 : decode cX2_round 40 = .ok (.getfield 63, 3) := dk_180 0 63 (dk_at dksX2_round_1 16 rfl rfl)
theorem dX2_round_43 : decode cX2_round 43 = .ok (.iload_n 2, 1) := dk_28 (dk_at dksX2_round_1 19 rfl rfl)
theorem dX2_round_44 : decode cX2_round 44 = .ok (.iaload, 1) := dk_46 (dk_at dksX2_round_1 20 rfl rfl)
theorem dX2_round_45 : decode cX2_round 45 = .ok (.aload_n 0, 1) := dk_42 (dk_at dksX2_round_1 21 rfl rfl)
theorem dX2_round_46 : decode cX2_round 46 = .ok (.getfield 60, 3) := dk_180 0 60 (dk_at dksX2_round_2 0 rfl rfl)
theorem dX2_round_49 : decode cX2_round 49 = .ok (.iload_n 2, 1) := dk_28 (dk_at dksX2_round_2 3 rfl rfl)
theorem dX2_round_50 : decode cX2_round 50 = .ok (.iaload, 1) := dk_46 (dk_at dksX2_round_2 4 rfl rfl)
theorem dX2_round_51 : decode cX2_round 51 = .ok (.if_icmp .eq 7, 3) := dk_159 0 7 (dk_at dksX2_round_2 5 rfl rfl)
theorem dX2_round_54 : decode cX2_round 54 = .ok (.iconst 1, 1) := dk_4 (dk_at dksX2_round_2 8 rfl rfl)
theorem dX2_round_55 : decode cX2_round 55 = .ok (.goto 4, 3) := dk_167 0 4 (dk_at dksX2_round_2 9 rfl rfl)
theorem dX2_round_58 : decode cX2_round 58 = .ok (.iconst 0, 1) := dk_3 (dk_at dksX2_round_2 12 rfl rfl)
theorem dX2_round_59 : decode cX2_round 59 = .ok (.ior, 1) := dk_128 (dk_at dksX2_round_2 13 rfl rfl)
theorem dX2_round_60 : decode cX2_round 60 = .ok (.istore_n 1, 1) := dk_60 (dk_at dksX2_round_2 14 rfl rfl)
theorem dX2_round_61 : decode cX2_round 61 = .ok (.iinc 2 1, 3) := dk_132 2 1 (dk_at dksX2_round_2 15 rfl rfl)
theorem dX2_round_64 : decode cX2_round 64 = .ok (.goto (-60), 3) := dk_167 255 196 (dk_at dksX2_round_2 18 rfl rfl)
theorem dX2_round_67 : decode cX2_round 67 = .ok (.aload_n 0, 1) := dk_42 (dk_at dksX2_round_2 21 rfl rfl)
theorem dX2_round_68 : decode cX2_round 68 = .ok (.getfield 63, 3) := dk_180 0 63 (dk_at dksX2_round_3 0 rfl rfl)
theorem dX2_round_71 : decode cX2_round 71 = .ok (.iconst 0, 1) := dk_3 (dk_at dksX2_round_3 3 rfl rfl)
theorem dX2_round_72 : decode cX2_round 72 = .ok (.aload_n 0, 1) := dk_42 (dk_at dksX2_round_3 4 rfl rfl)
theorem dX2_round_73 : decode cX2_round 73 = .ok (.getfield 60, 3) := dk_180 0 60 (dk_at dksX2_round_3 5 rfl rfl)
theorem dX2_round_76 : decode cX2_round 76 = .ok (.iconst 0, 1) := dk_3 (dk_at dksX2_round_3 8 rfl rfl)
theorem dX2_round_77 : decode cX2_round 77 = .ok (.iconst 4, 1) := dk_7 (dk_at dksX2_round_3 9 rfl rfl)
theorem dX2_round_78 : decode cX2_round 78 = .ok (.invokestatic 128, 3) := dk_184 0 128 (dk_at dksX2_round_3 10 rfl rfl)
theorem dX2_round_81 : decode cX2_round 81 = .ok (.iload_n 1, 1) := dk_27 (dk_at dksX2_round_3 13 rfl rfl)
theorem dX2_round_82 : decode cX2_round 82 = .ok (.ireturn, 1) := dk_172 (dk_at dksX2_round_3 14 rfl rfl)
abbrev cX2_inRound : ByteArray := prog_8_method_22_code
def yX2_inRound : MethodName := ⟨RX2, "inRound", "(I)I"⟩
def dkwX2_inRound_2 : List UInt8 := [180, 0, 60, 28, 46, 153, 0, 7, 8, 167, 0, 4, 3, 172]
abbrev dktX2_inRound_2 : List UInt8 := dkwX2_inRound_2 ++ []
def dkwX2_inRound_1 : List UInt8 := [182, 0, 236, 153, 0, 5, 7, 172, 42, 42, 27, 182, 0, 230, 182, 0, 240, 61, 28, 2, 159, 0, 16, 42]
abbrev dktX2_inRound_1 : List UInt8 := dkwX2_inRound_1 ++ dktX2_inRound_2
def dkwX2_inRound_0 : List UInt8 := [42, 27, 182, 0, 233, 153, 0, 5, 5, 172, 42, 27, 4, 182, 0, 236, 153, 0, 5, 6, 172, 42, 27, 3]
abbrev dktX2_inRound_0 : List UInt8 := dkwX2_inRound_0 ++ dktX2_inRound_1
theorem dksX2_inRound_0 : cX2_inRound.data.toList.drop 0 = dktX2_inRound_0 := by decide +kernel
theorem dksX2_inRound_1 : cX2_inRound.data.toList.drop 24 = dktX2_inRound_1 := dk_seg dksX2_inRound_0 24 rfl rfl
theorem dksX2_inRound_2 : cX2_inRound.data.toList.drop 48 = dktX2_inRound_2 := dk_seg dksX2_inRound_1 24 rfl rfl
theorem dX2_inRound_0 : decode cX2_inRound 0 = .ok (.aload_n 0, 1) := dk_42 (dk_at dksX2_inRound_0 0 rfl rfl)
theorem dX2_inRound_1 : decode cX2_inRound 1 = .ok (.iload_n 1, 1) := dk_27 (dk_at dksX2_inRound_0 1 rfl rfl)
theorem dX2_inRound_2 : decode cX2_inRound 2 = .ok (.invokevirtual 233, 3) := dk_182 0 233 (dk_at dksX2_inRound_0 2 rfl rfl)
theorem dX2_inRound_5 : decode cX2_inRound 5 = .ok (.ifCond .eq 5, 3) := dk_153 0 5 (dk_at dksX2_inRound_0 5 rfl rfl)
theorem dX2_inRound_8 : decode cX2_inRound 8 = .ok (.iconst 2, 1) := dk_5 (dk_at dksX2_inRound_0 8 rfl rfl)
theorem dX2_inRound_9 : decode cX2_inRound 9 = .ok (.ireturn, 1) := dk_172 (dk_at dksX2_inRound_0 9 rfl rfl)
theorem dX2_inRound_10 : decode cX2_inRound 10 = .ok (.aload_n 0, 1) := dk_42 (dk_at dksX2_inRound_0 10 rfl rfl)
theorem dX2_inRound_11 : decode cX2_inRound 11 = .ok (.iload_n 1, 1) := dk_27 (dk_at dksX2_inRound_0 11 rfl rfl)
theorem dX2_inRound_12 : decode cX2_inRound 12 = .ok (.iconst 1, 1) := dk_4 (dk_at dksX2_inRound_0 12 rfl rfl)
theorem dX2_inRound_13 : decode cX2_inRound 13 = .ok (.invokevirtual 236, 3) := dk_182 0 236 (dk_at dksX2_inRound_0 13 rfl rfl)
theorem dX2_inRound_16 : decode cX2_inRound 16 = .ok (.ifCond .eq 5, 3) := dk_153 0 5 (dk_at dksX2_inRound_0 16 rfl rfl)
theorem dX2_inRound_19 : decode cX2_inRound 19 = .ok (.iconst 3, 1) := dk_6 (dk_at dksX2_inRound_0 19 rfl rfl)
theorem dX2_inRound_20 : decode cX2_inRound 20 = .ok (.ireturn, 1) := dk_172 (dk_at dksX2_inRound_0 20 rfl rfl)
theorem dX2_inRound_21 : decode cX2_inRound 21 = .ok (.aload_n 0, 1) := dk_42 (dk_at dksX2_inRound_0 21 rfl rfl)
theorem dX2_inRound_22 : decode cX2_inRound 22 = .ok (.iload_n 1, 1) := dk_27 (dk_at dksX2_inRound_0 22 rfl rfl)
theorem dX2_inRound_23 : decode cX2_inRound 23 = .ok (.iconst 0, 1) := dk_3 (dk_at dksX2_inRound_0 23 rfl rfl)
theorem dX2_inRound_24 : decode cX2_inRound 24 = .ok (.invokevirtual 236, 3) := dk_182 0 236 (dk_at dksX2_inRound_1 0 rfl rfl)
theorem dX2_inRound_27 : decode cX2_inRound 27 = .ok (.ifCond .eq 5, 3) := dk_153 0 5 (dk_at dksX2_inRound_1 3 rfl rfl)
theorem dX2_inRound_30 : decode cX2_inRound 30 = .ok (.iconst 4, 1) := dk_7 (dk_at dksX2_inRound_1 6 rfl rfl)
theorem dX2_inRound_31 : decode cX2_inRound 31 = .ok (.ireturn, 1) := dk_172 (dk_at dksX2_inRound_1 7 rfl rfl)
theorem dX2_inRound_32 : decode cX2_inRound 32 = .ok (.aload_n 0, 1) := dk_42 (dk_at dksX2_inRound_1 8 rfl rfl)
theorem dX2_inRound_33 : decode cX2_inRound 33 = .ok (.aload_n 0, 1) := dk_42 (dk_at dksX2_inRound_1 9 rfl rfl)
theorem dX2_inRound_34 : decode cX2_inRound 34 = .ok (.iload_n 1, 1) := dk_27 (dk_at dksX2_inRound_1 10 rfl rfl)
theorem dX2_inRound_35 : decode cX2_inRound 35 = .ok (.invokevirtual 230, 3) := dk_182 0 230 (dk_at dksX2_inRound_1 11 rfl rfl)
theorem dX2_inRound_38 : decode cX2_inRound 38 = .ok (.invokevirtual 240, 3) := dk_182 0 240 (dk_at dksX2_inRound_1 14 rfl rfl)
theorem dX2_inRound_41 : decode cX2_inRound 41 = .ok (.istore_n 2, 1) := dk_61 (dk_at dksX2_inRound_1 17 rfl rfl)
theorem dX2_inRound_42 : decode cX2_inRound 42 = .ok (.iload_n 2, 1) := dk_28 (dk_at dksX2_inRound_1 18 rfl rfl)
theorem dX2_inRound_43 : decode cX2_inRound 43 = .ok (.iconst (-1), 1) := dk_2 (dk_at dksX2_inRound_1 19 rfl rfl)
theorem dX2_inRound_44 : decode cX2_inRound 44 = .ok (.if_icmp .eq 16, 3) := dk_159 0 16 (dk_at dksX2_inRound_1 20 rfl rfl)
theorem dX2_inRound_47 : decode cX2_inRound 47 = .ok (.aload_n 0, 1) := dk_42 (dk_at dksX2_inRound_1 23 rfl rfl)
theorem dX2_inRound_48 : decode cX2_inRound 48 = .ok (.getfield 60, 3) := dk_180 0 60 (dk_at dksX2_inRound_2 0 rfl rfl)
theorem dX2_inRound_51 : decode cX2_inRound 51 = .ok (.iload_n 2, 1) := dk_28 (dk_at dksX2_inRound_2 3 rfl rfl)
theorem dX2_inRound_52 : decode cX2_inRound 52 = .ok (.iaload, 1) := dk_46 (dk_at dksX2_inRound_2 4 rfl rfl)
theorem dX2_inRound_53 : decode cX2_inRound 53 = .ok (.ifCond .eq 7, 3) := dk_153 0 7 (dk_at dksX2_inRound_2 5 rfl rfl)
theorem dX2_inRound_56 : decode cX2_inRound 56 = .ok (.iconst 5, 1) := dk_8 (dk_at dksX2_inRound_2 8 rfl rfl)
theorem dX2_inRound_57 : decode cX2_inRound 57 = .ok (.goto 4, 3) := dk_167 0 4 (dk_at dksX2_inRound_2 9 rfl rfl)
theorem dX2_inRound_60 : decode cX2_inRound 60 = .ok (.iconst 0, 1) := dk_3 (dk_at dksX2_inRound_2 12 rfl rfl)
theorem dX2_inRound_61 : decode cX2_inRound 61 = .ok (.ireturn, 1) := dk_172 (dk_at dksX2_inRound_2 13 rfl rfl)
abbrev cX2_exchanges : ByteArray := prog_8_method_21_code
def yX2_exchanges : MethodName := ⟨RX2, "exchanges", "(I)Z"⟩
def dkwX2_exchanges_3 : List UInt8 := [28, 172]
abbrev dktX2_exchanges_3 : List UInt8 := dkwX2_exchanges_3 ++ []
def dkwX2_exchanges_2 : List UInt8 := [180, 0, 140, 42, 27, 182, 0, 230, 160, 0, 7, 4, 167, 0, 4, 3, 128, 61, 132, 3, 1, 167, 255, 192]
abbrev dktX2_exchanges_2 : List UInt8 := dkwX2_exchanges_2 ++ dktX2_exchanges_3
def dkwX2_exchanges_1 : List UInt8 := [42, 29, 182, 0, 230, 42, 180, 0, 23, 27, 50, 180, 0, 140, 160, 0, 24, 42, 180, 0, 23, 29, 50]
abbrev dktX2_exchanges_1 : List UInt8 := dkwX2_exchanges_1 ++ dktX2_exchanges_2
def dkwX2_exchanges_0 : List UInt8 := [3, 61, 3, 62, 29, 7, 162, 0, 65, 28, 29, 27, 159, 0, 50, 42, 180, 0, 60, 29, 46, 154, 0, 41]
abbrev dktX2_exchanges_0 : List UInt8 := dkwX2_exchanges_0 ++ dktX2_exchanges_1
theorem dksX2_exchanges_0 : cX2_exchanges.data.toList.drop 0 = dktX2_exchanges_0 := by decide +kernel
theorem dksX2_exchanges_1 : cX2_exchanges.data.toList.drop 24 = dktX2_exchanges_1 := dk_seg dksX2_exchanges_0 24 rfl rfl
theorem dksX2_exchanges_2 : cX2_exchanges.data.toList.drop 47 = dktX2_exchanges_2 := dk_seg dksX2_exchanges_1 23 rfl rfl
theorem dksX2_exchanges_3 : cX2_exchanges.data.toList.drop 71 = dktX2_exchanges_3 := dk_seg dksX2_exchanges_2 24 rfl rfl
theorem dX2_exchanges_0 : decode cX2_exchanges 0 = .ok (.iconst 0, 1) := dk_3 (dk_at dksX2_exchanges_0 0 rfl rfl)
theorem dX2_exchanges_1 : decode cX2_exchanges 1 = .ok (.istore_n 2, 1) := dk_61 (dk_at dksX2_exchanges_0 1 rfl rfl)
theorem dX2_exchanges_2 : decode cX2_exchanges 2 = .ok (.iconst 0, 1) := dk_3 (dk_at dksX2_exchanges_0 2 rfl rfl)
theorem dX2_exchanges_3 : decode cX2_exchanges 3 = .ok (.istore_n 3, 1) := dk_62 (dk_at dksX2_exchanges_0 3 rfl rfl)
theorem dX2_exchanges_4 : decode cX2_exchanges 4 = .ok (.iload_n 3, 1) := dk_29 (dk_at dksX2_exchanges_0 4 rfl rfl)
theorem dX2_exchanges_5 : decode cX2_exchanges 5 = .ok (.iconst 4, 1) := dk_7 (dk_at dksX2_exchanges_0 5 rfl rfl)
theorem dX2_exchanges_6 : decode cX2_exchanges 6 = .ok (.if_icmp .ge 65, 3) := dk_162 0 65 (dk_at dksX2_exchanges_0 6 rfl rfl)
theorem dX2_exchanges_9 : decode cX2_exchanges 9 = .ok (.iload_n 2, 1) := dk_28 (dk_at dksX2_exchanges_0 9 rfl rfl)
theorem dX2_exchanges_10 : decode cX2_exchanges 10 = .ok (.iload_n 3, 1) := dk_29 (dk_at dksX2_exchanges_0 10 rfl rfl)
theorem dX2_exchanges_11 : decode cX2_exchanges 11 = .ok (.iload_n 1, 1) := dk_27 (dk_at dksX2_exchanges_0 11 rfl rfl)
theorem dX2_exchanges_12 : decode cX2_exchanges 12 = .ok (.if_icmp .eq 50, 3) := dk_159 0 50 (dk_at dksX2_exchanges_0 12 rfl rfl)
theorem dX2_exchanges_15 : decode cX2_exchanges 15 = .ok (.aload_n 0, 1) := dk_42 (dk_at dksX2_exchanges_0 15 rfl rfl)
theorem dX2_exchanges_16 : decode cX2_exchanges 16 = .ok (.getfield 60, 3) := dk_180 0 60 (dk_at dksX2_exchanges_0 16 rfl rfl)
theorem dX2_exchanges_19 : decode cX2_exchanges 19 = .ok (.iload_n 3, 1) := dk_29 (dk_at dksX2_exchanges_0 19 rfl rfl)
theorem dX2_exchanges_20 : decode cX2_exchanges 20 = .ok (.iaload, 1) := dk_46 (dk_at dksX2_exchanges_0 20 rfl rfl)
theorem dX2_exchanges_21 : decode cX2_exchanges 21 = .ok (.ifCond .ne 41, 3) := dk_154 0 41 (dk_at dksX2_exchanges_0 21 rfl rfl)
theorem dX2_exchanges_24 : decode cX2_exchanges 24 = .ok (.aload_n 0, 1) := dk_42 (dk_at dksX2_exchanges_1 0 rfl rfl)
theorem dX2_exchanges_25 : decode cX2_exchanges 25 = .ok (.iload_n 3, 1) := dk_29 (dk_at dksX2_exchanges_1 1 rfl rfl)
theorem dX2_exchanges_26 : decode cX2_exchanges 26 = .ok (.invokevirtual 230, 3) := dk_182 0 230 (dk_at dksX2_exchanges_1 2 rfl rfl)
theorem dX2_exchanges_29 : decode cX2_exchanges 29 = .ok (.aload_n 0, 1) := dk_42 (dk_at dksX2_exchanges_1 5 rfl rfl)
theorem dX2_exchanges_30 : decode cX2_exchanges 30 = .ok (.getfield 23, 3) := dk_180 0 23 (dk_at dksX2_exchanges_1 6 rfl rfl)
theorem dX2_exchanges_33 : decode cX2_exchanges 33 = .ok (.iload_n 1, 1) := dk_27 (dk_at dksX2_exchanges_1 9 rfl rfl)
theorem dX2_exchanges_34 : decode cX2_exchanges 34 = .ok (.aaload, 1) := dk_50 (dk_at dksX2_exchanges_1 10 rfl rfl)
theorem dX2_exchanges_35 : decode cX2_exchanges 35 = .ok (.getfield 140, 3) := dk_180 0 140 (dk_at dksX2_exchanges_1 11 rfl rfl)
theorem dX2_exchanges_38 : decode cX2_exchanges 38 = .ok (.if_icmp .ne 24, 3) := dk_160 0 24 (dk_at dksX2_exchanges_1 14 rfl rfl)
theorem dX2_exchanges_41 : decode cX2_exchanges 41 = .ok (.aload_n 0, 1) := dk_42 (dk_at dksX2_exchanges_1 17 rfl rfl)
theorem dX2_exchanges_42 : decode cX2_exchanges 42 = .ok (.getfield 23, 3) := dk_180 0 23 (dk_at dksX2_exchanges_1 18 rfl rfl)
theorem dX2_exchanges_45 : decode cX2_exchanges 45 = .ok (.iload_n 3, 1) := dk_29 (dk_at dksX2_exchanges_1 21 rfl rfl)
theorem dX2_exchanges_46 : decode cX2_exchanges 46 = .ok (.aaload, 1) := dk_50 (dk_at dksX2_exchanges_1 22 rfl rfl)
theorem dX2_exchanges_47 : decode cX2_exchanges 47 = .ok (.getfield 140, 3) := dk_180 0 140 (dk_at dksX2_exchanges_2 0 rfl rfl)
theorem dX2_exchanges_50 : decode cX2_exchanges 50 = .ok (.aload_n 0, 1) := dk_42 (dk_at dksX2_exchanges_2 3 rfl rfl)
theorem dX2_exchanges_51 : decode cX2_exchanges 51 = .ok (.iload_n 1, 1) := dk_27 (dk_at dksX2_exchanges_2 4 rfl rfl)
theorem dX2_exchanges_52 : decode cX2_exchanges 52 = .ok (.invokevirtual 230, 3) := dk_182 0 230 (dk_at dksX2_exchanges_2 5 rfl rfl)
theorem dX2_exchanges_55 : decode cX2_exchanges 55 = .ok (.if_icmp .ne 7, 3) := dk_160 0 7 (dk_at dksX2_exchanges_2 8 rfl rfl)
theorem dX2_exchanges_58 : decode cX2_exchanges 58 = .ok (.iconst 1, 1) := dk_4 (dk_at dksX2_exchanges_2 11 rfl rfl)
theorem dX2_exchanges_59 : decode cX2_exchanges 59 = .ok (.goto 4, 3) := dk_167 0 4 (dk_at dksX2_exchanges_2 12 rfl rfl)
theorem dX2_exchanges_62 : decode cX2_exchanges 62 = .ok (.iconst 0, 1) := dk_3 (dk_at dksX2_exchanges_2 15 rfl rfl)
theorem dX2_exchanges_63 : decode cX2_exchanges 63 = .ok (.ior, 1) := dk_128 (dk_at dksX2_exchanges_2 16 rfl rfl)
theorem dX2_exchanges_64 : decode cX2_exchanges 64 = .ok (.istore_n 2, 1) := dk_61 (dk_at dksX2_exchanges_2 17 rfl rfl)
theorem dX2_exchanges_65 : decode cX2_exchanges 65 = .ok (.iinc 3 1, 3) := dk_132 3 1 (dk_at dksX2_exchanges_2 18 rfl rfl)
theorem dX2_exchanges_68 : decode cX2_exchanges 68 = .ok (.goto (-64), 3) := dk_167 255 192 (dk_at dksX2_exchanges_2 21 rfl rfl)
theorem dX2_exchanges_71 : decode cX2_exchanges 71 = .ok (.iload_n 2, 1) := dk_28 (dk_at dksX2_exchanges_3 0 rfl rfl)
theorem dX2_exchanges_72 : decode cX2_exchanges 72 = .ok (.ireturn, 1) := dk_172 (dk_at dksX2_exchanges_3 1 rfl rfl)
abbrev cX2_endOf : ByteArray := prog_8_method_19_code
def yX2_endOf : MethodName := ⟨RX2, "endOf", "(I)I"⟩
def dkwX2_endOf_0 : List UInt8 := [42, 180, 0, 12, 42, 180, 0, 23, 27, 50, 180, 0, 188, 182, 0, 73, 192, 0, 77, 180, 0, 179, 172]
abbrev dktX2_endOf_0 : List UInt8 := dkwX2_endOf_0 ++ []
theorem dksX2_endOf_0 : cX2_endOf.data.toList.drop 0 = dktX2_endOf_0 := by decide +kernel
theorem dX2_endOf_0 : decode cX2_endOf 0 = .ok (.aload_n 0, 1) := dk_42 (dk_at dksX2_endOf_0 0 rfl rfl)
theorem dX2_endOf_1 : decode cX2_endOf 1 = .ok (.getfield 12, 3) := dk_180 0 12 (dk_at dksX2_endOf_0 1 rfl rfl)
theorem dX2_endOf_4 : decode cX2_endOf 4 = .ok (.aload_n 0, 1) := dk_42 (dk_at dksX2_endOf_0 4 rfl rfl)
theorem dX2_endOf_5 : decode cX2_endOf 5 = .ok (.getfield 23, 3) := dk_180 0 23 (dk_at dksX2_endOf_0 5 rfl rfl)
theorem dX2_endOf_8 : decode cX2_endOf 8 = .ok (.iload_n 1, 1) := dk_27 (dk_at dksX2_endOf_0 8 rfl rfl)
theorem dX2_endOf_9 : decode cX2_endOf 9 = .ok (.aaload, 1) := dk_50 (dk_at dksX2_endOf_0 9 rfl rfl)
theorem dX2_endOf_10 : decode cX2_endOf 10 = .ok (.getfield 188, 3) := dk_180 0 188 (dk_at dksX2_endOf_0 10 rfl rfl)
theorem dX2_endOf_13 : decode cX2_endOf 13 = .ok (.invokevirtual 73, 3) := dk_182 0 73 (dk_at dksX2_endOf_0 13 rfl rfl)
theorem dX2_endOf_16 : decode cX2_endOf 16 = .ok (.checkcast 77, 3) := dk_192 0 77 (dk_at dksX2_endOf_0 16 rfl rfl)
theorem dX2_endOf_19 : decode cX2_endOf 19 = .ok (.getfield 179, 3) := dk_180 0 179 (dk_at dksX2_endOf_0 19 rfl rfl)
theorem dX2_endOf_22 : decode cX2_endOf 22 = .ok (.ireturn, 1) := dk_172 (dk_at dksX2_endOf_0 22 rfl rfl)
abbrev cX2_hasRival : ByteArray := prog_8_method_20_code
def yX2_hasRival : MethodName := ⟨RX2, "hasRival", "(IZ)Z"⟩
def dkwX2_hasRival_4 : List UInt8 := [132, 4, 1, 167, 255, 162, 29, 172]
abbrev dktX2_hasRival_4 : List UInt8 := dkwX2_hasRival_4 ++ []
def dkwX2_hasRival_3 : List UInt8 := [167, 0, 17, 42, 21, 4, 182, 0, 207, 42, 27, 182, 0, 207, 160, 0, 7, 4, 167, 0, 4, 3, 128, 62]
abbrev dktX2_hasRival_3 : List UInt8 := dkwX2_hasRival_3 ++ dktX2_hasRival_4
def dkwX2_hasRival_2 : List UInt8 := [29, 21, 5, 153, 0, 42, 28, 153, 0, 20, 42, 21, 4, 182, 0, 207, 42, 27, 182, 0, 207, 164, 0, 24]
abbrev dktX2_hasRival_2 : List UInt8 := dkwX2_hasRival_2 ++ dktX2_hasRival_3
def dkwX2_hasRival_1 : List UInt8 := [154, 0, 21, 42, 21, 4, 182, 0, 230, 42, 27, 182, 0, 230, 160, 0, 7, 4, 167, 0, 4, 3, 54, 5]
abbrev dktX2_hasRival_1 : List UInt8 := dkwX2_hasRival_1 ++ dktX2_hasRival_2
def dkwX2_hasRival_0 : List UInt8 := [3, 62, 3, 54, 4, 21, 4, 7, 162, 0, 94, 21, 4, 27, 159, 0, 31, 42, 180, 0, 60, 21, 4, 46]
abbrev dktX2_hasRival_0 : List UInt8 := dkwX2_hasRival_0 ++ dktX2_hasRival_1
theorem dksX2_hasRival_0 : cX2_hasRival.data.toList.drop 0 = dktX2_hasRival_0 := by decide +kernel
theorem dksX2_hasRival_1 : cX2_hasRival.data.toList.drop 24 = dktX2_hasRival_1 := dk_seg dksX2_hasRival_0 24 rfl rfl
theorem dksX2_hasRival_2 : cX2_hasRival.data.toList.drop 48 = dktX2_hasRival_2 := dk_seg dksX2_hasRival_1 24 rfl rfl
theorem dksX2_hasRival_3 : cX2_hasRival.data.toList.drop 72 = dktX2_hasRival_3 := dk_seg dksX2_hasRival_2 24 rfl rfl
theorem dksX2_hasRival_4 : cX2_hasRival.data.toList.drop 96 = dktX2_hasRival_4 := dk_seg dksX2_hasRival_3 24 rfl rfl
theorem dX2_hasRival_0 : decode cX2_hasRival 0 = .ok (.iconst 0, 1) := dk_3 (dk_at dksX2_hasRival_0 0 rfl rfl)
theorem dX2_hasRival_1 : decode cX2_hasRival 1 = .ok (.istore_n 3, 1) := dk_62 (dk_at dksX2_hasRival_0 1 rfl rfl)
theorem dX2_hasRival_2 : decode cX2_hasRival 2 = .ok (.iconst 0, 1) := dk_3 (dk_at dksX2_hasRival_0 2 rfl rfl)
theorem dX2_hasRival_3 : decode cX2_hasRival 3 = .ok (.istore 4, 2) := dk_54 4 (dk_at dksX2_hasRival_0 3 rfl rfl)
theorem dX2_hasRival_5 : decode cX2_hasRival 5 = .ok (.iload 4, 2) := dk_21 4 (dk_at dksX2_hasRival_0 5 rfl rfl)
theorem dX2_hasRival_7 : decode cX2_hasRival 7 = .ok (.iconst 4, 1) := dk_7 (dk_at dksX2_hasRival_0 7 rfl rfl)
theorem dX2_hasRival_8 : decode cX2_hasRival 8 = .ok (.if_icmp .ge 94, 3) := dk_162 0 94 (dk_at dksX2_hasRival_0 8 rfl rfl)
theorem dX2_hasRival_11 : decode cX2_hasRival 11 = .ok (.iload 4, 2) := dk_21 4 (dk_at dksX2_hasRival_0 11 rfl rfl)
theorem dX2_hasRival_13 : decode cX2_hasRival 13 = .ok (.iload_n 1, 1) := dk_27 (dk_at dksX2_hasRival_0 13 rfl rfl)
theorem dX2_hasRival_14 : decode cX2_hasRival 14 = .ok (.if_icmp .eq 31, 3) := dk_159 0 31 (dk_at dksX2_hasRival_0 14 rfl rfl)
theorem dX2_hasRival_17 : decode cX2_hasRival 17 = .ok (.aload_n 0, 1) := dk_42 (dk_at dksX2_hasRival_0 17 rfl rfl)
theorem dX2_hasRival_18 : decode cX2_hasRival 18 = .ok (.getfield 60, 3) := dk_180 0 60 (dk_at dksX2_hasRival_0 18 rfl rfl)
theorem dX2_hasRival_21 : decode cX2_hasRival 21 = .ok (.iload 4, 2) := dk_21 4 (dk_at dksX2_hasRival_0 21 rfl rfl)
theorem dX2_hasRival_23 : decode cX2_hasRival 23 = .ok (.iaload, 1) := dk_46 (dk_at dksX2_hasRival_0 23 rfl rfl)
theorem dX2_hasRival_24 : decode cX2_hasRival 24 = .ok (.ifCond .ne 21, 3) := dk_154 0 21 (dk_at dksX2_hasRival_1 0 rfl rfl)
theorem dX2_hasRival_27 : decode cX2_hasRival 27 = .ok (.aload_n 0, 1) := dk_42 (dk_at dksX2_hasRival_1 3 rfl rfl)
theorem dX2_hasRival_28 : decode cX2_hasRival 28 = .ok (.iload 4, 2) := dk_21 4 (dk_at dksX2_hasRival_1 4 rfl rfl)
theorem dX2_hasRival_30 : decode cX2_hasRival 30 = .ok (.invokevirtual 230, 3) := dk_182 0 230 (dk_at dksX2_hasRival_1 6 rfl rfl)
theorem dX2_hasRival_33 : decode cX2_hasRival 33 = .ok (.aload_n 0, 1) := dk_42 (dk_at dksX2_hasRival_1 9 rfl rfl)
theorem dX2_hasRival_34 : decode cX2_hasRival 34 = .ok (.iload_n 1, 1) := dk_27 (dk_at dksX2_hasRival_1 10 rfl rfl)
theorem dX2_hasRival_35 : decode cX2_hasRival 35 = .ok (.invokevirtual 230, 3) := dk_182 0 230 (dk_at dksX2_hasRival_1 11 rfl rfl)
theorem dX2_hasRival_38 : decode cX2_hasRival 38 = .ok (.if_icmp .ne 7, 3) := dk_160 0 7 (dk_at dksX2_hasRival_1 14 rfl rfl)
theorem dX2_hasRival_41 : decode cX2_hasRival 41 = .ok (.iconst 1, 1) := dk_4 (dk_at dksX2_hasRival_1 17 rfl rfl)
theorem dX2_hasRival_42 : decode cX2_hasRival 42 = .ok (.goto 4, 3) := dk_167 0 4 (dk_at dksX2_hasRival_1 18 rfl rfl)
theorem dX2_hasRival_45 : decode cX2_hasRival 45 = .ok (.iconst 0, 1) := dk_3 (dk_at dksX2_hasRival_1 21 rfl rfl)
theorem dX2_hasRival_46 : decode cX2_hasRival 46 = .ok (.istore 5, 2) := dk_54 5 (dk_at dksX2_hasRival_1 22 rfl rfl)
theorem dX2_hasRival_48 : decode cX2_hasRival 48 = .ok (.iload_n 3, 1) := dk_29 (dk_at dksX2_hasRival_2 0 rfl rfl)
theorem dX2_hasRival_49 : decode cX2_hasRival 49 = .ok (.iload 5, 2) := dk_21 5 (dk_at dksX2_hasRival_2 1 rfl rfl)
theorem dX2_hasRival_51 : decode cX2_hasRival 51 = .ok (.ifCond .eq 42, 3) := dk_153 0 42 (dk_at dksX2_hasRival_2 3 rfl rfl)
theorem dX2_hasRival_54 : decode cX2_hasRival 54 = .ok (.iload_n 2, 1) := dk_28 (dk_at dksX2_hasRival_2 6 rfl rfl)
theorem dX2_hasRival_55 : decode cX2_hasRival 55 = .ok (.ifCond .eq 20, 3) := dk_153 0 20 (dk_at dksX2_hasRival_2 7 rfl rfl)
theorem dX2_hasRival_58 : decode cX2_hasRival 58 = .ok (.aload_n 0, 1) := dk_42 (dk_at dksX2_hasRival_2 10 rfl rfl)
theorem dX2_hasRival_59 : decode cX2_hasRival 59 = .ok (.iload 4, 2) := dk_21 4 (dk_at dksX2_hasRival_2 11 rfl rfl)
theorem dX2_hasRival_61 : decode cX2_hasRival 61 = .ok (.invokevirtual 207, 3) := dk_182 0 207 (dk_at dksX2_hasRival_2 13 rfl rfl)
theorem dX2_hasRival_64 : decode cX2_hasRival 64 = .ok (.aload_n 0, 1) := dk_42 (dk_at dksX2_hasRival_2 16 rfl rfl)
theorem dX2_hasRival_65 : decode cX2_hasRival 65 = .ok (.iload_n 1, 1) := dk_27 (dk_at dksX2_hasRival_2 17 rfl rfl)
theorem dX2_hasRival_66 : decode cX2_hasRival 66 = .ok (.invokevirtual 207, 3) := dk_182 0 207 (dk_at dksX2_hasRival_2 18 rfl rfl)
theorem dX2_hasRival_69 : decode cX2_hasRival 69 = .ok (.if_icmp .le 24, 3) := dk_164 0 24 (dk_at dksX2_hasRival_2 21 rfl rfl)
theorem dX2_hasRival_72 : decode cX2_hasRival 72 = .ok (.goto 17, 3) := dk_167 0 17 (dk_at dksX2_hasRival_3 0 rfl rfl)
theorem dX2_hasRival_75 : decode cX2_hasRival 75 = .ok (.aload_n 0, 1) := dk_42 (dk_at dksX2_hasRival_3 3 rfl rfl)
theorem dX2_hasRival_76 : decode cX2_hasRival 76 = .ok (.iload 4, 2) := dk_21 4 (dk_at dksX2_hasRival_3 4 rfl rfl)
theorem dX2_hasRival_78 : decode cX2_hasRival 78 = .ok (.invokevirtual 207, 3) := dk_182 0 207 (dk_at dksX2_hasRival_3 6 rfl rfl)
theorem dX2_hasRival_81 : decode cX2_hasRival 81 = .ok (.aload_n 0, 1) := dk_42 (dk_at dksX2_hasRival_3 9 rfl rfl)
theorem dX2_hasRival_82 : decode cX2_hasRival 82 = .ok (.iload_n 1, 1) := dk_27 (dk_at dksX2_hasRival_3 10 rfl rfl)
theorem dX2_hasRival_83 : decode cX2_hasRival 83 = .ok (.invokevirtual 207, 3) := dk_182 0 207 (dk_at dksX2_hasRival_3 11 rfl rfl)
theorem dX2_hasRival_86 : decode cX2_hasRival 86 = .ok (.if_icmp .ne 7, 3) := dk_160 0 7 (dk_at dksX2_hasRival_3 14 rfl rfl)
theorem dX2_hasRival_89 : decode cX2_hasRival 89 = .ok (.iconst 1, 1) := dk_4 (dk_at dksX2_hasRival_3 17 rfl rfl)
theorem dX2_hasRival_90 : decode cX2_hasRival 90 = .ok (.goto 4, 3) := dk_167 0 4 (dk_at dksX2_hasRival_3 18 rfl rfl)
theorem dX2_hasRival_93 : decode cX2_hasRival 93 = .ok (.iconst 0, 1) := dk_3 (dk_at dksX2_hasRival_3 21 rfl rfl)
theorem dX2_hasRival_94 : decode cX2_hasRival 94 = .ok (.ior, 1) := dk_128 (dk_at dksX2_hasRival_3 22 rfl rfl)
theorem dX2_hasRival_95 : decode cX2_hasRival 95 = .ok (.istore_n 3, 1) := dk_62 (dk_at dksX2_hasRival_3 23 rfl rfl)
theorem dX2_hasRival_96 : decode cX2_hasRival 96 = .ok (.iinc 4 1, 3) := dk_132 4 1 (dk_at dksX2_hasRival_4 0 rfl rfl)
theorem dX2_hasRival_99 : decode cX2_hasRival 99 = .ok (.goto (-94), 3) := dk_167 255 162 (dk_at dksX2_hasRival_4 3 rfl rfl)
theorem dX2_hasRival_102 : decode cX2_hasRival 102 = .ok (.iload_n 3, 1) := dk_29 (dk_at dksX2_hasRival_4 6 rfl rfl)
theorem dX2_hasRival_103 : decode cX2_hasRival 103 = .ok (.ireturn, 1) := dk_172 (dk_at dksX2_hasRival_4 7 rfl rfl)
abbrev cX2_courierAt : ByteArray := prog_8_method_12_code
def yX2_courierAt : MethodName := ⟨RX2, "courierAt", "(I)I"⟩
def dkwX2_courierAt_1 : List UInt8 := [167, 0, 4, 28, 61, 132, 3, 1, 167, 255, 229, 28, 172]
abbrev dktX2_courierAt_1 : List UInt8 := dkwX2_courierAt_1 ++ []
def dkwX2_courierAt_0 : List UInt8 := [2, 61, 3, 62, 29, 7, 162, 0, 28, 42, 180, 0, 23, 29, 50, 180, 0, 140, 27, 160, 0, 7, 29]
abbrev dktX2_courierAt_0 : List UInt8 := dkwX2_courierAt_0 ++ dktX2_courierAt_1
theorem dksX2_courierAt_0 : cX2_courierAt.data.toList.drop 0 = dktX2_courierAt_0 := by decide +kernel
theorem dksX2_courierAt_1 : cX2_courierAt.data.toList.drop 23 = dktX2_courierAt_1 := dk_seg dksX2_courierAt_0 23 rfl rfl
theorem dX2_courierAt_0 : decode cX2_courierAt 0 = .ok (.iconst (-1), 1) := dk_2 (dk_at dksX2_courierAt_0 0 rfl rfl)
theorem dX2_courierAt_1 : decode cX2_courierAt 1 = .ok (.istore_n 2, 1) := dk_61 (dk_at dksX2_courierAt_0 1 rfl rfl)
theorem dX2_courierAt_2 : decode cX2_courierAt 2 = .ok (.iconst 0, 1) := dk_3 (dk_at dksX2_courierAt_0 2 rfl rfl)
theorem dX2_courierAt_3 : decode cX2_courierAt 3 = .ok (.istore_n 3, 1) := dk_62 (dk_at dksX2_courierAt_0 3 rfl rfl)
theorem dX2_courierAt_4 : decode cX2_courierAt 4 = .ok (.iload_n 3, 1) := dk_29 (dk_at dksX2_courierAt_0 4 rfl rfl)
theorem dX2_courierAt_5 : decode cX2_courierAt 5 = .ok (.iconst 4, 1) := dk_7 (dk_at dksX2_courierAt_0 5 rfl rfl)
theorem dX2_courierAt_6 : decode cX2_courierAt 6 = .ok (.if_icmp .ge 28, 3) := dk_162 0 28 (dk_at dksX2_courierAt_0 6 rfl rfl)
theorem dX2_courierAt_9 : decode cX2_courierAt 9 = .ok (.aload_n 0, 1) := dk_42 (dk_at dksX2_courierAt_0 9 rfl rfl)
theorem dX2_courierAt_10 : decode cX2_courierAt 10 = .ok (.getfield 23, 3) := dk_180 0 23 (dk_at dksX2_courierAt_0 10 rfl rfl)
theorem dX2_courierAt_13 : decode cX2_courierAt 13 = .ok (.iload_n 3, 1) := dk_29 (dk_at dksX2_courierAt_0 13 rfl rfl)
theorem dX2_courierAt_14 : decode cX2_courierAt 14 = .ok (.aaload, 1) := dk_50 (dk_at dksX2_courierAt_0 14 rfl rfl)
theorem dX2_courierAt_15 : decode cX2_courierAt 15 = .ok (.getfield 140, 3) := dk_180 0 140 (dk_at dksX2_courierAt_0 15 rfl rfl)
theorem dX2_courierAt_18 : decode cX2_courierAt 18 = .ok (.iload_n 1, 1) := dk_27 (dk_at dksX2_courierAt_0 18 rfl rfl)
theorem dX2_courierAt_19 : decode cX2_courierAt 19 = .ok (.if_icmp .ne 7, 3) := dk_160 0 7 (dk_at dksX2_courierAt_0 19 rfl rfl)
theorem dX2_courierAt_22 : decode cX2_courierAt 22 = .ok (.iload_n 3, 1) := dk_29 (dk_at dksX2_courierAt_0 22 rfl rfl)
theorem dX2_courierAt_23 : decode cX2_courierAt 23 = .ok (.goto 4, 3) := dk_167 0 4 (dk_at dksX2_courierAt_1 0 rfl rfl)
theorem dX2_courierAt_26 : decode cX2_courierAt 26 = .ok (.iload_n 2, 1) := dk_28 (dk_at dksX2_courierAt_1 3 rfl rfl)
theorem dX2_courierAt_27 : decode cX2_courierAt 27 = .ok (.istore_n 2, 1) := dk_61 (dk_at dksX2_courierAt_1 4 rfl rfl)
theorem dX2_courierAt_28 : decode cX2_courierAt 28 = .ok (.iinc 3 1, 3) := dk_132 3 1 (dk_at dksX2_courierAt_1 5 rfl rfl)
theorem dX2_courierAt_31 : decode cX2_courierAt 31 = .ok (.goto (-27), 3) := dk_167 255 229 (dk_at dksX2_courierAt_1 8 rfl rfl)
theorem dX2_courierAt_34 : decode cX2_courierAt 34 = .ok (.iload_n 2, 1) := dk_28 (dk_at dksX2_courierAt_1 11 rfl rfl)
theorem dX2_courierAt_35 : decode cX2_courierAt 35 = .ok (.ireturn, 1) := dk_172 (dk_at dksX2_courierAt_1 12 rfl rfl)
abbrev cX2_placeOf : ByteArray := prog_8_method_31_code
def yX2_placeOf : MethodName := ⟨RX2, "placeOf", "(LCourierClash$Parcel;)I"⟩
def dkwX2_placeOf_1 : List UInt8 := [180, 1, 3, 167, 0, 15, 42, 180, 0, 23, 43, 180, 1, 28, 50, 180, 0, 140, 172]
abbrev dktX2_placeOf_1 : List UInt8 := dkwX2_placeOf_1 ++ []
def dkwX2_placeOf_0 : List UInt8 := [43, 182, 1, 17, 153, 0, 10, 43, 180, 1, 20, 167, 0, 29, 43, 180, 0, 169, 153, 0, 10, 43]
abbrev dktX2_placeOf_0 : List UInt8 := dkwX2_placeOf_0 ++ dktX2_placeOf_1
theorem dksX2_placeOf_0 : cX2_placeOf.data.toList.drop 0 = dktX2_placeOf_0 := by decide +kernel
theorem dksX2_placeOf_1 : cX2_placeOf.data.toList.drop 22 = dktX2_placeOf_1 := dk_seg dksX2_placeOf_0 22 rfl rfl
theorem dX2_placeOf_0 : decode cX2_placeOf 0 = .ok (.aload_n 1, 1) := dk_43 (dk_at dksX2_placeOf_0 0 rfl rfl)
theorem dX2_placeOf_1 : decode cX2_placeOf 1 = .ok (.invokevirtual 273, 3) := dk_182 1 17 (dk_at dksX2_placeOf_0 1 rfl rfl)
theorem dX2_placeOf_4 : decode cX2_placeOf 4 = .ok (.ifCond .eq 10, 3) := dk_153 0 10 (dk_at dksX2_placeOf_0 4 rfl rfl)
theorem dX2_placeOf_7 : decode cX2_placeOf 7 = .ok (.aload_n 1, 1) := dk_43 (dk_at dksX2_placeOf_0 7 rfl rfl)
theorem dX2_placeOf_8 : decode cX2_placeOf 8 = .ok (.getfield 276, 3) := dk_180 1 20 (dk_at dksX2_placeOf_0 8 rfl rfl)
theorem dX2_placeOf_11 : decode cX2_placeOf 11 = .ok (.goto 29, 3) := dk_167 0 29 (dk_at dksX2_placeOf_0 11 rfl rfl)
theorem dX2_placeOf_14 : decode cX2_placeOf 14 = .ok (.aload_n 1, 1) := dk_43 (dk_at dksX2_placeOf_0 14 rfl rfl)
theorem dX2_placeOf_15 : decode cX2_placeOf 15 = .ok (.getfield 169, 3) := dk_180 0 169 (dk_at dksX2_placeOf_0 15 rfl rfl)
theorem dX2_placeOf_18 : decode cX2_placeOf 18 = .ok (.ifCond .eq 10, 3) := dk_153 0 10 (dk_at dksX2_placeOf_0 18 rfl rfl)
theorem dX2_placeOf_21 : decode cX2_placeOf 21 = .ok (.aload_n 1, 1) := dk_43 (dk_at dksX2_placeOf_0 21 rfl rfl)
theorem dX2_placeOf_22 : decode cX2_placeOf 22 = .ok (.getfield 259, 3) := dk_180 1 3 (dk_at dksX2_placeOf_1 0 rfl rfl)
theorem dX2_placeOf_25 : decode cX2_placeOf 25 = .ok (.goto 15, 3) := dk_167 0 15 (dk_at dksX2_placeOf_1 3 rfl rfl)
theorem dX2_placeOf_28 : decode cX2_placeOf 28 = .ok (.aload_n 0, 1) := dk_42 (dk_at dksX2_placeOf_1 6 rfl rfl)
theorem dX2_placeOf_29 : decode cX2_placeOf 29 = .ok (.getfield 23, 3) := dk_180 0 23 (dk_at dksX2_placeOf_1 7 rfl rfl)
theorem dX2_placeOf_32 : decode cX2_placeOf 32 = .ok (.aload_n 1, 1) := dk_43 (dk_at dksX2_placeOf_1 10 rfl rfl)
theorem dX2_placeOf_33 : decode cX2_placeOf 33 = .ok (.getfield 284, 3) := dk_180 1 28 (dk_at dksX2_placeOf_1 11 rfl rfl)
theorem dX2_placeOf_36 : decode cX2_placeOf 36 = .ok (.aaload, 1) := dk_50 (dk_at dksX2_placeOf_1 14 rfl rfl)
theorem dX2_placeOf_37 : decode cX2_placeOf 37 = .ok (.getfield 140, 3) := dk_180 0 140 (dk_at dksX2_placeOf_1 15 rfl rfl)
theorem dX2_placeOf_40 : decode cX2_placeOf 40 = .ok (.ireturn, 1) := dk_172 (dk_at dksX2_placeOf_1 18 rfl rfl)
abbrev cX2_street : ByteArray := prog_8_method_9_code
def yX2_street : MethodName := ⟨RX2, "street", "(II)I"⟩
def dkwX2_street_3 : List UInt8 := [172]
abbrev dktX2_street_3 : List UInt8 := dkwX2_street_3 ++ []
def dkwX2_street_2 : List UInt8 := [192, 0, 77, 180, 0, 179, 28, 160, 0, 8, 21, 4, 167, 0, 4, 29, 62, 132, 4, 1, 167, 255, 196, 29]
abbrev dktX2_street_2 : List UInt8 := dkwX2_street_2 ++ dktX2_street_3
def dkwX2_street_1 : List UInt8 := [182, 0, 73, 192, 0, 77, 180, 0, 176, 27, 160, 0, 27, 42, 180, 0, 12, 21, 4, 182, 0, 73]
abbrev dktX2_street_1 : List UInt8 := dkwX2_street_1 ++ dktX2_street_2
def dkwX2_street_0 : List UInt8 := [2, 62, 3, 54, 4, 21, 4, 42, 180, 0, 12, 182, 0, 69, 162, 0, 54, 42, 180, 0, 12, 21, 4]
abbrev dktX2_street_0 : List UInt8 := dkwX2_street_0 ++ dktX2_street_1
theorem dksX2_street_0 : cX2_street.data.toList.drop 0 = dktX2_street_0 := by decide +kernel
theorem dksX2_street_1 : cX2_street.data.toList.drop 23 = dktX2_street_1 := dk_seg dksX2_street_0 23 rfl rfl
theorem dksX2_street_2 : cX2_street.data.toList.drop 45 = dktX2_street_2 := dk_seg dksX2_street_1 22 rfl rfl
theorem dksX2_street_3 : cX2_street.data.toList.drop 69 = dktX2_street_3 := dk_seg dksX2_street_2 24 rfl rfl
theorem dX2_street_0 : decode cX2_street 0 = .ok (.iconst (-1), 1) := dk_2 (dk_at dksX2_street_0 0 rfl rfl)
theorem dX2_street_1 : decode cX2_street 1 = .ok (.istore_n 3, 1) := dk_62 (dk_at dksX2_street_0 1 rfl rfl)
theorem dX2_street_2 : decode cX2_street 2 = .ok (.iconst 0, 1) := dk_3 (dk_at dksX2_street_0 2 rfl rfl)
theorem dX2_street_3 : decode cX2_street 3 = .ok (.istore 4, 2) := dk_54 4 (dk_at dksX2_street_0 3 rfl rfl)
theorem dX2_street_5 : decode cX2_street 5 = .ok (.iload 4, 2) := dk_21 4 (dk_at dksX2_street_0 5 rfl rfl)
theorem dX2_street_7 : decode cX2_street 7 = .ok (.aload_n 0, 1) := dk_42 (dk_at dksX2_street_0 7 rfl rfl)
theorem dX2_street_8 : decode cX2_street 8 = .ok (.getfield 12, 3) := dk_180 0 12 (dk_at dksX2_street_0 8 rfl rfl)
theorem dX2_street_11 : decode cX2_street 11 = .ok (.invokevirtual 69, 3) := dk_182 0 69 (dk_at dksX2_street_0 11 rfl rfl)
theorem dX2_street_14 : decode cX2_street 14 = .ok (.if_icmp .ge 54, 3) := dk_162 0 54 (dk_at dksX2_street_0 14 rfl rfl)
theorem dX2_street_17 : decode cX2_street 17 = .ok (.aload_n 0, 1) := dk_42 (dk_at dksX2_street_0 17 rfl rfl)
theorem dX2_street_18 : decode cX2_street 18 = .ok (.getfield 12, 3) := dk_180 0 12 (dk_at dksX2_street_0 18 rfl rfl)
theorem dX2_street_21 : decode cX2_street 21 = .ok (.iload 4, 2) := dk_21 4 (dk_at dksX2_street_0 21 rfl rfl)
theorem dX2_street_23 : decode cX2_street 23 = .ok (.invokevirtual 73, 3) := dk_182 0 73 (dk_at dksX2_street_1 0 rfl rfl)
theorem dX2_street_26 : decode cX2_street 26 = .ok (.checkcast 77, 3) := dk_192 0 77 (dk_at dksX2_street_1 3 rfl rfl)
theorem dX2_street_29 : decode cX2_street 29 = .ok (.getfield 176, 3) := dk_180 0 176 (dk_at dksX2_street_1 6 rfl rfl)
theorem dX2_street_32 : decode cX2_street 32 = .ok (.iload_n 1, 1) := dk_27 (dk_at dksX2_street_1 9 rfl rfl)
theorem dX2_street_33 : decode cX2_street 33 = .ok (.if_icmp .ne 27, 3) := dk_160 0 27 (dk_at dksX2_street_1 10 rfl rfl)
theorem dX2_street_36 : decode cX2_street 36 = .ok (.aload_n 0, 1) := dk_42 (dk_at dksX2_street_1 13 rfl rfl)
theorem dX2_street_37 : decode cX2_street 37 = .ok (.getfield 12, 3) := dk_180 0 12 (dk_at dksX2_street_1 14 rfl rfl)
theorem dX2_street_40 : decode cX2_street 40 = .ok (.iload 4, 2) := dk_21 4 (dk_at dksX2_street_1 17 rfl rfl)
theorem dX2_street_42 : decode cX2_street 42 = .ok (.invokevirtual 73, 3) := dk_182 0 73 (dk_at dksX2_street_1 19 rfl rfl)
theorem dX2_street_45 : decode cX2_street 45 = .ok (.checkcast 77, 3) := dk_192 0 77 (dk_at dksX2_street_2 0 rfl rfl)
theorem dX2_street_48 : decode cX2_street 48 = .ok (.getfield 179, 3) := dk_180 0 179 (dk_at dksX2_street_2 3 rfl rfl)
theorem dX2_street_51 : decode cX2_street 51 = .ok (.iload_n 2, 1) := dk_28 (dk_at dksX2_street_2 6 rfl rfl)
theorem dX2_street_52 : decode cX2_street 52 = .ok (.if_icmp .ne 8, 3) := dk_160 0 8 (dk_at dksX2_street_2 7 rfl rfl)
theorem dX2_street_55 : decode cX2_street 55 = .ok (.iload 4, 2) := dk_21 4 (dk_at dksX2_street_2 10 rfl rfl)
theorem dX2_street_57 : decode cX2_street 57 = .ok (.goto 4, 3) := dk_167 0 4 (dk_at dksX2_street_2 12 rfl rfl)
theorem dX2_street_60 : decode cX2_street 60 = .ok (.iload_n 3, 1) := dk_29 (dk_at dksX2_street_2 15 rfl rfl)
theorem dX2_street_61 : decode cX2_street 61 = .ok (.istore_n 3, 1) := dk_62 (dk_at dksX2_street_2 16 rfl rfl)
theorem dX2_street_62 : decode cX2_street 62 = .ok (.iinc 4 1, 3) := dk_132 4 1 (dk_at dksX2_street_2 17 rfl rfl)
theorem dX2_street_65 : decode cX2_street 65 = .ok (.goto (-60), 3) := dk_167 255 196 (dk_at dksX2_street_2 20 rfl rfl)
theorem dX2_street_68 : decode cX2_street 68 = .ok (.iload_n 3, 1) := dk_29 (dk_at dksX2_street_2 23 rfl rfl)
theorem dX2_street_69 : decode cX2_street 69 = .ok (.ireturn, 1) := dk_172 (dk_at dksX2_street_3 0 rfl rfl)
abbrev cX2_add : ByteArray := prog_8_method_10_code
def yX2_add : MethodName := ⟨RX2, "add", "(IIZ)I"⟩
def dkwX2_add_1 : List UInt8 := [182, 0, 69, 4, 100, 172]
abbrev dktX2_add_1 : List UInt8 := dkwX2_add_1 ++ []
def dkwX2_add_0 : List UInt8 := [42, 180, 0, 12, 187, 0, 77, 89, 27, 28, 29, 183, 0, 182, 182, 0, 83, 87, 42, 180, 0, 12]
abbrev dktX2_add_0 : List UInt8 := dkwX2_add_0 ++ dktX2_add_1
theorem dksX2_add_0 : cX2_add.data.toList.drop 0 = dktX2_add_0 := by decide +kernel
theorem dksX2_add_1 : cX2_add.data.toList.drop 22 = dktX2_add_1 := dk_seg dksX2_add_0 22 rfl rfl
theorem dX2_add_0 : decode cX2_add 0 = .ok (.aload_n 0, 1) := dk_42 (dk_at dksX2_add_0 0 rfl rfl)
theorem dX2_add_1 : decode cX2_add 1 = .ok (.getfield 12, 3) := dk_180 0 12 (dk_at dksX2_add_0 1 rfl rfl)
theorem dX2_add_4 : decode cX2_add 4 = .ok (.new 77, 3) := dk_187 0 77 (dk_at dksX2_add_0 4 rfl rfl)
theorem dX2_add_7 : decode cX2_add 7 = .ok (.dup, 1) := dk_89 (dk_at dksX2_add_0 7 rfl rfl)
theorem dX2_add_8 : decode cX2_add 8 = .ok (.iload_n 1, 1) := dk_27 (dk_at dksX2_add_0 8 rfl rfl)
theorem dX2_add_9 : decode cX2_add 9 = .ok (.iload_n 2, 1) := dk_28 (dk_at dksX2_add_0 9 rfl rfl)
theorem dX2_add_10 : decode cX2_add 10 = .ok (.iload_n 3, 1) := dk_29 (dk_at dksX2_add_0 10 rfl rfl)
theorem dX2_add_11 : decode cX2_add 11 = .ok (.invokespecial 182, 3) := dk_183 0 182 (dk_at dksX2_add_0 11 rfl rfl)
theorem dX2_add_14 : decode cX2_add 14 = .ok (.invokevirtual 83, 3) := dk_182 0 83 (dk_at dksX2_add_0 14 rfl rfl)
theorem dX2_add_17 : decode cX2_add 17 = .ok (.pop, 1) := dk_87 (dk_at dksX2_add_0 17 rfl rfl)
theorem dX2_add_18 : decode cX2_add 18 = .ok (.aload_n 0, 1) := dk_42 (dk_at dksX2_add_0 18 rfl rfl)
theorem dX2_add_19 : decode cX2_add 19 = .ok (.getfield 12, 3) := dk_180 0 12 (dk_at dksX2_add_0 19 rfl rfl)
theorem dX2_add_22 : decode cX2_add 22 = .ok (.invokevirtual 69, 3) := dk_182 0 69 (dk_at dksX2_add_1 0 rfl rfl)
theorem dX2_add_25 : decode cX2_add 25 = .ok (.iconst 1, 1) := dk_4 (dk_at dksX2_add_1 3 rfl rfl)
theorem dX2_add_26 : decode cX2_add 26 = .ok (.isub, 1) := dk_100 (dk_at dksX2_add_1 4 rfl rfl)
theorem dX2_add_27 : decode cX2_add 27 = .ok (.ireturn, 1) := dk_172 (dk_at dksX2_add_1 5 rfl rfl)
abbrev cX2_toggle : ByteArray := prog_8_method_11_code
def yX2_toggle : MethodName := ⟨RX2, "toggle", "(I)Z"⟩
def dkwX2_toggle_3 : List UInt8 := [167, 0, 8, 25, 6, 180, 0, 188, 181, 0, 188, 132, 5, 1, 167, 255, 210, 44, 180, 0, 185, 172]
abbrev dktX2_toggle_3 : List UInt8 := dkwX2_toggle_3 ++ []
def dkwX2_toggle_2 : List UInt8 := [21, 5, 50, 58, 6, 25, 6, 25, 6, 180, 0, 188, 27, 160, 0, 14, 44, 180, 0, 185, 154, 0, 7, 2]
abbrev dktX2_toggle_2 : List UInt8 := dkwX2_toggle_2 ++ dktX2_toggle_3
def dkwX2_toggle_1 : List UInt8 := [3, 181, 0, 185, 42, 180, 0, 23, 78, 45, 190, 54, 4, 3, 54, 5, 21, 5, 21, 4, 162, 0, 45, 45]
abbrev dktX2_toggle_1 : List UInt8 := dkwX2_toggle_1 ++ dktX2_toggle_2
def dkwX2_toggle_0 : List UInt8 := [42, 180, 0, 12, 27, 182, 0, 73, 192, 0, 77, 77, 44, 44, 180, 0, 185, 154, 0, 7, 4, 167, 0, 4]
abbrev dktX2_toggle_0 : List UInt8 := dkwX2_toggle_0 ++ dktX2_toggle_1
theorem dksX2_toggle_0 : cX2_toggle.data.toList.drop 0 = dktX2_toggle_0 := by decide +kernel
theorem dksX2_toggle_1 : cX2_toggle.data.toList.drop 24 = dktX2_toggle_1 := dk_seg dksX2_toggle_0 24 rfl rfl
theorem dksX2_toggle_2 : cX2_toggle.data.toList.drop 48 = dktX2_toggle_2 := dk_seg dksX2_toggle_1 24 rfl rfl
theorem dksX2_toggle_3 : cX2_toggle.data.toList.drop 72 = dktX2_toggle_3 := dk_seg dksX2_toggle_2 24 rfl rfl
theorem dX2_toggle_0 : decode cX2_toggle 0 = .ok (.aload_n 0, 1) := dk_42 (dk_at dksX2_toggle_0 0 rfl rfl)
theorem dX2_toggle_1 : decode cX2_toggle 1 = .ok (.getfield 12, 3) := dk_180 0 12 (dk_at dksX2_toggle_0 1 rfl rfl)
theorem dX2_toggle_4 : decode cX2_toggle 4 = .ok (.iload_n 1, 1) := dk_27 (dk_at dksX2_toggle_0 4 rfl rfl)
theorem dX2_toggle_5 : decode cX2_toggle 5 = .ok (.invokevirtual 73, 3) := dk_182 0 73 (dk_at dksX2_toggle_0 5 rfl rfl)
theorem dX2_toggle_8 : decode cX2_toggle 8 = .ok (.checkcast 77, 3) := dk_192 0 77 (dk_at dksX2_toggle_0 8 rfl rfl)
theorem dX2_toggle_11 : decode cX2_toggle 11 = .ok (.astore_n 2, 1) := dk_77 (dk_at dksX2_toggle_0 11 rfl rfl)
theorem dX2_toggle_12 : decode cX2_toggle 12 = .ok (.aload_n 2, 1) := dk_44 (dk_at dksX2_toggle_0 12 rfl rfl)
theorem dX2_toggle_13 : decode cX2_toggle 13 = .ok (.aload_n 2, 1) := dk_44 (dk_at dksX2_toggle_0 13 rfl rfl)
theorem dX2_toggle_14 : decode cX2_toggle 14 = .ok (.getfield 185, 3) := dk_180 0 185 (dk_at dksX2_toggle_0 14 rfl rfl)
theorem dX2_toggle_17 : decode cX2_toggle 17 = .ok (.ifCond .ne 7, 3) := dk_154 0 7 (dk_at dksX2_toggle_0 17 rfl rfl)
theorem dX2_toggle_20 : decode cX2_toggle 20 = .ok (.iconst 1, 1) := dk_4 (dk_at dksX2_toggle_0 20 rfl rfl)
theorem dX2_toggle_21 : decode cX2_toggle 21 = .ok (.goto 4, 3) := dk_167 0 4 (dk_at dksX2_toggle_0 21 rfl rfl)
theorem dX2_toggle_24 : decode cX2_toggle 24 = .ok (.iconst 0, 1) := dk_3 (dk_at dksX2_toggle_1 0 rfl rfl)
theorem dX2_toggle_25 : decode cX2_toggle 25 = .ok (.putfield 185, 3) := dk_181 0 185 (dk_at dksX2_toggle_1 1 rfl rfl)
theorem dX2_toggle_28 : decode cX2_toggle 28 = .ok (.aload_n 0, 1) := dk_42 (dk_at dksX2_toggle_1 4 rfl rfl)
theorem dX2_toggle_29 : decode cX2_toggle 29 = .ok (.getfield 23, 3) := dk_180 0 23 (dk_at dksX2_toggle_1 5 rfl rfl)
theorem dX2_toggle_32 : decode cX2_toggle 32 = .ok (.astore_n 3, 1) := dk_78 (dk_at dksX2_toggle_1 8 rfl rfl)
theorem dX2_toggle_33 : decode cX2_toggle 33 = .ok (.aload_n 3, 1) := dk_45 (dk_at dksX2_toggle_1 9 rfl rfl)
theorem dX2_toggle_34 : decode cX2_toggle 34 = .ok (.arraylength, 1) := dk_190 (dk_at dksX2_toggle_1 10 rfl rfl)
theorem dX2_toggle_35 : decode cX2_toggle 35 = .ok (.istore 4, 2) := dk_54 4 (dk_at dksX2_toggle_1 11 rfl rfl)
theorem dX2_toggle_37 : decode cX2_toggle 37 = .ok (.iconst 0, 1) := dk_3 (dk_at dksX2_toggle_1 13 rfl rfl)
theorem dX2_toggle_38 : decode cX2_toggle 38 = .ok (.istore 5, 2) := dk_54 5 (dk_at dksX2_toggle_1 14 rfl rfl)
theorem dX2_toggle_40 : decode cX2_toggle 40 = .ok (.iload 5, 2) := dk_21 5 (dk_at dksX2_toggle_1 16 rfl rfl)
theorem dX2_toggle_42 : decode cX2_toggle 42 = .ok (.iload 4, 2) := dk_21 4 (dk_at dksX2_toggle_1 18 rfl rfl)
theorem dX2_toggle_44 : decode cX2_toggle 44 = .ok (.if_icmp .ge 45, 3) := dk_162 0 45 (dk_at dksX2_toggle_1 20 rfl rfl)
theorem dX2_toggle_47 : decode cX2_toggle 47 = .ok (.aload_n 3, 1) := dk_45 (dk_at dksX2_toggle_1 23 rfl rfl)
theorem dX2_toggle_48 : decode cX2_toggle 48 = .ok (.iload 5, 2) := dk_21 5 (dk_at dksX2_toggle_2 0 rfl rfl)
theorem dX2_toggle_50 : decode cX2_toggle 50 = .ok (.aaload, 1) := dk_50 (dk_at dksX2_toggle_2 2 rfl rfl)
theorem dX2_toggle_51 : decode cX2_toggle 51 = .ok (.astore 6, 2) := dk_58 6 (dk_at dksX2_toggle_2 3 rfl rfl)
theorem dX2_toggle_53 : decode cX2_toggle 53 = .ok (.aload 6, 2) := dk_25 6 (dk_at dksX2_toggle_2 5 rfl rfl)
theorem dX2_toggle_55 : decode cX2_toggle 55 = .ok (.aload 6, 2) := dk_25 6 (dk_at dksX2_toggle_2 7 rfl rfl)
theorem dX2_toggle_57 : decode cX2_toggle 57 = .ok (.getfield 188, 3) := dk_180 0 188 (dk_at dksX2_toggle_2 9 rfl rfl)
theorem dX2_toggle_60 : decode cX2_toggle 60 = .ok (.iload_n 1, 1) := dk_27 (dk_at dksX2_toggle_2 12 rfl rfl)
theorem dX2_toggle_61 : decode cX2_toggle 61 = .ok (.if_icmp .ne 14, 3) := dk_160 0 14 (dk_at dksX2_toggle_2 13 rfl rfl)
theorem dX2_toggle_64 : decode cX2_toggle 64 = .ok (.aload_n 2, 1) := dk_44 (dk_at dksX2_toggle_2 16 rfl rfl)
theorem dX2_toggle_65 : decode cX2_toggle 65 = .ok (.getfield 185, 3) := dk_180 0 185 (dk_at dksX2_toggle_2 17 rfl rfl)
theorem dX2_toggle_68 : decode cX2_toggle 68 = .ok (.ifCond .ne 7, 3) := dk_154 0 7 (dk_at dksX2_toggle_2 20 rfl rfl)
theorem dX2_toggle_71 : decode cX2_toggle 71 = .ok (.iconst (-1), 1) := dk_2 (dk_at dksX2_toggle_2 23 rfl rfl)
theorem dX2_toggle_72 : decode cX2_toggle 72 = .ok (.goto 8, 3) := dk_167 0 8 (dk_at dksX2_toggle_3 0 rfl rfl)
theorem dX2_toggle_75 : decode cX2_toggle 75 = .ok (.aload 6, 2) := dk_25 6 (dk_at dksX2_toggle_3 3 rfl rfl)
theorem dX2_toggle_77 : decode cX2_toggle 77 = .ok (.getfield 188, 3) := dk_180 0 188 (dk_at dksX2_toggle_3 5 rfl rfl)
theorem dX2_toggle_80 : decode cX2_toggle 80 = .ok (.putfield 188, 3) := dk_181 0 188 (dk_at dksX2_toggle_3 8 rfl rfl)
theorem dX2_toggle_83 : decode cX2_toggle 83 = .ok (.iinc 5 1, 3) := dk_132 5 1 (dk_at dksX2_toggle_3 11 rfl rfl)
theorem dX2_toggle_86 : decode cX2_toggle 86 = .ok (.goto (-46), 3) := dk_167 255 210 (dk_at dksX2_toggle_3 14 rfl rfl)
theorem dX2_toggle_89 : decode cX2_toggle 89 = .ok (.aload_n 2, 1) := dk_44 (dk_at dksX2_toggle_3 17 rfl rfl)
theorem dX2_toggle_90 : decode cX2_toggle 90 = .ok (.getfield 185, 3) := dk_180 0 185 (dk_at dksX2_toggle_3 18 rfl rfl)
theorem dX2_toggle_93 : decode cX2_toggle 93 = .ok (.ireturn, 1) := dk_172 (dk_at dksX2_toggle_3 21 rfl rfl)
abbrev cX2_place : ByteArray := prog_8_method_16_code
def yX2_place : MethodName := ⟨RX2, "place", "(II)I"⟩
def dkwX2_place_1 : List UInt8 := [27, 50, 2, 181, 0, 188, 42, 182, 0, 211, 29, 172]
abbrev dktX2_place_1 : List UInt8 := dkwX2_place_1 ++ []
def dkwX2_place_0 : List UInt8 := [42, 180, 0, 23, 27, 50, 180, 0, 140, 62, 42, 180, 0, 23, 27, 50, 28, 181, 0, 140, 42, 180, 0, 23]
abbrev dktX2_place_0 : List UInt8 := dkwX2_place_0 ++ dktX2_place_1
theorem dksX2_place_0 : cX2_place.data.toList.drop 0 = dktX2_place_0 := by decide +kernel
theorem dksX2_place_1 : cX2_place.data.toList.drop 24 = dktX2_place_1 := dk_seg dksX2_place_0 24 rfl rfl
theorem dX2_place_0 : decode cX2_place 0 = .ok (.aload_n 0, 1) := dk_42 (dk_at dksX2_place_0 0 rfl rfl)
theorem dX2_place_1 : decode cX2_place 1 = .ok (.getfield 23, 3) := dk_180 0 23 (dk_at dksX2_place_0 1 rfl rfl)
theorem dX2_place_4 : decode cX2_place 4 = .ok (.iload_n 1, 1) := dk_27 (dk_at dksX2_place_0 4 rfl rfl)
theorem dX2_place_5 : decode cX2_place 5 = .ok (.aaload, 1) := dk_50 (dk_at dksX2_place_0 5 rfl rfl)
theorem dX2_place_6 : decode cX2_place 6 = .ok (.getfield 140, 3) := dk_180 0 140 (dk_at dksX2_place_0 6 rfl rfl)
theorem dX2_place_9 : decode cX2_place 9 = .ok (.istore_n 3, 1) := dk_62 (dk_at dksX2_place_0 9 rfl rfl)
theorem dX2_place_10 : decode cX2_place 10 = .ok (.aload_n 0, 1) := dk_42 (dk_at dksX2_place_0 10 rfl rfl)
theorem dX2_place_11 : decode cX2_place 11 = .ok (.getfield 23, 3) := dk_180 0 23 (dk_at dksX2_place_0 11 rfl rfl)
theorem dX2_place_14 : decode cX2_place 14 = .ok (.iload_n 1, 1) := dk_27 (dk_at dksX2_place_0 14 rfl rfl)
theorem dX2_place_15 : decode cX2_place 15 = .ok (.aaload, 1) := dk_50 (dk_at dksX2_place_0 15 rfl rfl)
theorem dX2_place_16 : decode cX2_place 16 = .ok (.iload_n 2, 1) := dk_28 (dk_at dksX2_place_0 16 rfl rfl)
theorem dX2_place_17 : decode cX2_place 17 = .ok (.putfield 140, 3) := dk_181 0 140 (dk_at dksX2_place_0 17 rfl rfl)
theorem dX2_place_20 : decode cX2_place 20 = .ok (.aload_n 0, 1) := dk_42 (dk_at dksX2_place_0 20 rfl rfl)
theorem dX2_place_21 : decode cX2_place 21 = .ok (.getfield 23, 3) := dk_180 0 23 (dk_at dksX2_place_0 21 rfl rfl)
theorem dX2_place_24 : decode cX2_place 24 = .ok (.iload_n 1, 1) := dk_27 (dk_at dksX2_place_1 0 rfl rfl)
theorem dX2_place_25 : decode cX2_place 25 = .ok (.aaload, 1) := dk_50 (dk_at dksX2_place_1 1 rfl rfl)
theorem dX2_place_26 : decode cX2_place 26 = .ok (.iconst (-1), 1) := dk_2 (dk_at dksX2_place_1 2 rfl rfl)
theorem dX2_place_27 : decode cX2_place 27 = .ok (.putfield 188, 3) := dk_181 0 188 (dk_at dksX2_place_1 3 rfl rfl)
theorem dX2_place_30 : decode cX2_place 30 = .ok (.aload_n 0, 1) := dk_42 (dk_at dksX2_place_1 6 rfl rfl)
theorem dX2_place_31 : decode cX2_place 31 = .ok (.invokevirtual 211, 3) := dk_182 0 211 (dk_at dksX2_place_1 7 rfl rfl)
theorem dX2_place_34 : decode cX2_place 34 = .ok (.iload_n 3, 1) := dk_29 (dk_at dksX2_place_1 10 rfl rfl)
theorem dX2_place_35 : decode cX2_place 35 = .ok (.ireturn, 1) := dk_172 (dk_at dksX2_place_1 11 rfl rfl)
abbrev cX2_toggleVan : ByteArray := prog_8_method_17_code
def yX2_toggleVan : MethodName := ⟨RX2, "toggleVan", "(I)Z"⟩
def dkwX2_toggleVan_3 : List UInt8 := [44, 2, 181, 0, 188, 44, 180, 0, 198, 182, 0, 214, 172]
abbrev dktX2_toggleVan_3 : List UInt8 := dkwX2_toggleVan_3 ++ []
def dkwX2_toggleVan_2 : List UInt8 := [42, 180, 0, 12, 44, 180, 0, 188, 182, 0, 73, 192, 0, 77, 44, 180, 0, 198, 182, 0, 223, 154, 0, 8]
abbrev dktX2_toggleVan_2 : List UInt8 := dkwX2_toggleVan_2 ++ dktX2_toggleVan_3
def dkwX2_toggleVan_1 : List UInt8 := [183, 0, 219, 167, 0, 10, 187, 0, 220, 89, 183, 0, 222, 181, 0, 198, 44, 180, 0, 188, 2, 159, 0, 32]
abbrev dktX2_toggleVan_1 : List UInt8 := dkwX2_toggleVan_1 ++ dktX2_toggleVan_2
def dkwX2_toggleVan_0 : List UInt8 := [42, 180, 0, 23, 27, 50, 77, 44, 44, 180, 0, 198, 182, 0, 214, 153, 0, 13, 187, 0, 217, 89]
abbrev dktX2_toggleVan_0 : List UInt8 := dkwX2_toggleVan_0 ++ dktX2_toggleVan_1
theorem dksX2_toggleVan_0 : cX2_toggleVan.data.toList.drop 0 = dktX2_toggleVan_0 := by decide +kernel
theorem dksX2_toggleVan_1 : cX2_toggleVan.data.toList.drop 22 = dktX2_toggleVan_1 := dk_seg dksX2_toggleVan_0 22 rfl rfl
theorem dksX2_toggleVan_2 : cX2_toggleVan.data.toList.drop 46 = dktX2_toggleVan_2 := dk_seg dksX2_toggleVan_1 24 rfl rfl
theorem dksX2_toggleVan_3 : cX2_toggleVan.data.toList.drop 70 = dktX2_toggleVan_3 := dk_seg dksX2_toggleVan_2 24 rfl rfl
theorem dX2_toggleVan_0 : decode cX2_toggleVan 0 = .ok (.aload_n 0, 1) := dk_42 (dk_at dksX2_toggleVan_0 0 rfl rfl)
theorem dX2_toggleVan_1 : decode cX2_toggleVan 1 = .ok (.getfield 23, 3) := dk_180 0 23 (dk_at dksX2_toggleVan_0 1 rfl rfl)
theorem dX2_toggleVan_4 : decode cX2_toggleVan 4 = .ok (.iload_n 1, 1) := dk_27 (dk_at dksX2_toggleVan_0 4 rfl rfl)
theorem dX2_toggleVan_5 : decode cX2_toggleVan 5 = .ok (.aaload, 1) := dk_50 (dk_at dksX2_toggleVan_0 5 rfl rfl)
theorem dX2_toggleVan_6 : decode cX2_toggleVan 6 = .ok (.astore_n 2, 1) := dk_77 (dk_at dksX2_toggleVan_0 6 rfl rfl)
theorem dX2_toggleVan_7 : decode cX2_toggleVan 7 = .ok (.aload_n 2, 1) := dk_44 (dk_at dksX2_toggleVan_0 7 rfl rfl)
theorem dX2_toggleVan_8 : decode cX2_toggleVan 8 = .ok (.aload_n 2, 1) := dk_44 (dk_at dksX2_toggleVan_0 8 rfl rfl)
theorem dX2_toggleVan_9 : decode cX2_toggleVan 9 = .ok (.getfield 198, 3) := dk_180 0 198 (dk_at dksX2_toggleVan_0 9 rfl rfl)
theorem dX2_toggleVan_12 : decode cX2_toggleVan 12 = .ok (.invokevirtual 214, 3) := dk_182 0 214 (dk_at dksX2_toggleVan_0 12 rfl rfl)
theorem dX2_toggleVan_15 : decode cX2_toggleVan 15 = .ok (.ifCond .eq 13, 3) := dk_153 0 13 (dk_at dksX2_toggleVan_0 15 rfl rfl)
theorem dX2_toggleVan_18 : decode cX2_toggleVan 18 = .ok (.new 217, 3) := dk_187 0 217 (dk_at dksX2_toggleVan_0 18 rfl rfl)
theorem dX2_toggleVan_21 : decode cX2_toggleVan 21 = .ok (.dup, 1) := dk_89 (dk_at dksX2_toggleVan_0 21 rfl rfl)
theorem dX2_toggleVan_22 : decode cX2_toggleVan 22 = .ok (.invokespecial 219, 3) := dk_183 0 219 (dk_at dksX2_toggleVan_1 0 rfl rfl)
theorem dX2_toggleVan_25 : decode cX2_toggleVan 25 = .ok (.goto 10, 3) := dk_167 0 10 (dk_at dksX2_toggleVan_1 3 rfl rfl)
theorem dX2_toggleVan_28 : decode cX2_toggleVan 28 = .ok (.new 220, 3) := dk_187 0 220 (dk_at dksX2_toggleVan_1 6 rfl rfl)
theorem dX2_toggleVan_31 : decode cX2_toggleVan 31 = .ok (.dup, 1) := dk_89 (dk_at dksX2_toggleVan_1 9 rfl rfl)
theorem dX2_toggleVan_32 : decode cX2_toggleVan 32 = .ok (.invokespecial 222, 3) := dk_183 0 222 (dk_at dksX2_toggleVan_1 10 rfl rfl)
theorem dX2_toggleVan_35 : decode cX2_toggleVan 35 = .ok (.putfield 198, 3) := dk_181 0 198 (dk_at dksX2_toggleVan_1 13 rfl rfl)
theorem dX2_toggleVan_38 : decode cX2_toggleVan 38 = .ok (.aload_n 2, 1) := dk_44 (dk_at dksX2_toggleVan_1 16 rfl rfl)
theorem dX2_toggleVan_39 : decode cX2_toggleVan 39 = .ok (.getfield 188, 3) := dk_180 0 188 (dk_at dksX2_toggleVan_1 17 rfl rfl)
theorem dX2_toggleVan_42 : decode cX2_toggleVan 42 = .ok (.iconst (-1), 1) := dk_2 (dk_at dksX2_toggleVan_1 20 rfl rfl)
theorem dX2_toggleVan_43 : decode cX2_toggleVan 43 = .ok (.if_icmp .eq 32, 3) := dk_159 0 32 (dk_at dksX2_toggleVan_1 21 rfl rfl)
theorem dX2_toggleVan_46 : decode cX2_toggleVan 46 = .ok (.aload_n 0, 1) := dk_42 (dk_at dksX2_toggleVan_2 0 rfl rfl)
theorem dX2_toggleVan_47 : decode cX2_toggleVan 47 = .ok (.getfield 12, 3) := dk_180 0 12 (dk_at dksX2_toggleVan_2 1 rfl rfl)
theorem dX2_toggleVan_50 : decode cX2_toggleVan 50 = .ok (.aload_n 2, 1) := dk_44 (dk_at dksX2_toggleVan_2 4 rfl rfl)
theorem dX2_toggleVan_51 : decode cX2_toggleVan 51 = .ok (.getfield 188, 3) := dk_180 0 188 (dk_at dksX2_toggleVan_2 5 rfl rfl)
theorem dX2_toggleVan_54 : decode cX2_toggleVan 54 = .ok (.invokevirtual 73, 3) := dk_182 0 73 (dk_at dksX2_toggleVan_2 8 rfl rfl)
theorem dX2_toggleVan_57 : decode cX2_toggleVan 57 = .ok (.checkcast 77, 3) := dk_192 0 77 (dk_at dksX2_toggleVan_2 11 rfl rfl)
theorem dX2_toggleVan_60 : decode cX2_toggleVan 60 = .ok (.aload_n 2, 1) := dk_44 (dk_at dksX2_toggleVan_2 14 rfl rfl)
theorem dX2_toggleVan_61 : decode cX2_toggleVan 61 = .ok (.getfield 198, 3) := dk_180 0 198 (dk_at dksX2_toggleVan_2 15 rfl rfl)
theorem dX2_toggleVan_64 : decode cX2_toggleVan 64 = .ok (.invokevirtual 223, 3) := dk_182 0 223 (dk_at dksX2_toggleVan_2 18 rfl rfl)
theorem dX2_toggleVan_67 : decode cX2_toggleVan 67 = .ok (.ifCond .ne 8, 3) := dk_154 0 8 (dk_at dksX2_toggleVan_2 21 rfl rfl)
theorem dX2_toggleVan_70 : decode cX2_toggleVan 70 = .ok (.aload_n 2, 1) := dk_44 (dk_at dksX2_toggleVan_3 0 rfl rfl)
theorem dX2_toggleVan_71 : decode cX2_toggleVan 71 = .ok (.iconst (-1), 1) := dk_2 (dk_at dksX2_toggleVan_3 1 rfl rfl)
theorem dX2_toggleVan_72 : decode cX2_toggleVan 72 = .ok (.putfield 188, 3) := dk_181 0 188 (dk_at dksX2_toggleVan_3 2 rfl rfl)
theorem dX2_toggleVan_75 : decode cX2_toggleVan 75 = .ok (.aload_n 2, 1) := dk_44 (dk_at dksX2_toggleVan_3 5 rfl rfl)
theorem dX2_toggleVan_76 : decode cX2_toggleVan 76 = .ok (.getfield 198, 3) := dk_180 0 198 (dk_at dksX2_toggleVan_3 6 rfl rfl)
theorem dX2_toggleVan_79 : decode cX2_toggleVan 79 = .ok (.invokevirtual 214, 3) := dk_182 0 214 (dk_at dksX2_toggleVan_3 9 rfl rfl)
theorem dX2_toggleVan_82 : decode cX2_toggleVan 82 = .ok (.ireturn, 1) := dk_172 (dk_at dksX2_toggleVan_3 12 rfl rfl)
abbrev cX2_isEnough : ByteArray := prog_8_method_15_code
def yX2_isEnough : MethodName := ⟨RX2, "isEnough", "(I)Z"⟩
def dkwX2_isEnough_2 : List UInt8 := [172]
abbrev dktX2_isEnough_2 : List UInt8 := dkwX2_isEnough_2 ++ []
def dkwX2_isEnough_1 : List UInt8 := [180, 0, 198, 182, 0, 202, 104, 163, 0, 7, 4, 167, 0, 4, 3, 126, 61, 132, 3, 1, 167, 255, 218, 28]
abbrev dktX2_isEnough_1 : List UInt8 := dkwX2_isEnough_1 ++ dktX2_isEnough_2
def dkwX2_isEnough_0 : List UInt8 := [4, 61, 3, 62, 29, 7, 162, 0, 39, 28, 42, 29, 182, 0, 207, 27, 42, 180, 0, 23, 29, 50]
abbrev dktX2_isEnough_0 : List UInt8 := dkwX2_isEnough_0 ++ dktX2_isEnough_1
theorem dksX2_isEnough_0 : cX2_isEnough.data.toList.drop 0 = dktX2_isEnough_0 := by decide +kernel
theorem dksX2_isEnough_1 : cX2_isEnough.data.toList.drop 22 = dktX2_isEnough_1 := dk_seg dksX2_isEnough_0 22 rfl rfl
theorem dksX2_isEnough_2 : cX2_isEnough.data.toList.drop 46 = dktX2_isEnough_2 := dk_seg dksX2_isEnough_1 24 rfl rfl
theorem dX2_isEnough_0 : decode cX2_isEnough 0 = .ok (.iconst 1, 1) := dk_4 (dk_at dksX2_isEnough_0 0 rfl rfl)
theorem dX2_isEnough_1 : decode cX2_isEnough 1 = .ok (.istore_n 2, 1) := dk_61 (dk_at dksX2_isEnough_0 1 rfl rfl)
theorem dX2_isEnough_2 : decode cX2_isEnough 2 = .ok (.iconst 0, 1) := dk_3 (dk_at dksX2_isEnough_0 2 rfl rfl)
theorem dX2_isEnough_3 : decode cX2_isEnough 3 = .ok (.istore_n 3, 1) := dk_62 (dk_at dksX2_isEnough_0 3 rfl rfl)
theorem dX2_isEnough_4 : decode cX2_isEnough 4 = .ok (.iload_n 3, 1) := dk_29 (dk_at dksX2_isEnough_0 4 rfl rfl)
theorem dX2_isEnough_5 : decode cX2_isEnough 5 = .ok (.iconst 4, 1) := dk_7 (dk_at dksX2_isEnough_0 5 rfl rfl)
theorem dX2_isEnough_6 : decode cX2_isEnough 6 = .ok (.if_icmp .ge 39, 3) := dk_162 0 39 (dk_at dksX2_isEnough_0 6 rfl rfl)
theorem dX2_isEnough_9 : decode cX2_isEnough 9 = .ok (.iload_n 2, 1) := dk_28 (dk_at dksX2_isEnough_0 9 rfl rfl)
theorem dX2_isEnough_10 : decode cX2_isEnough 10 = .ok (.aload_n 0, 1) := dk_42 (dk_at dksX2_isEnough_0 10 rfl rfl)
theorem dX2_isEnough_11 : decode cX2_isEnough 11 = .ok (.iload_n 3, 1) := dk_29 (dk_at dksX2_isEnough_0 11 rfl rfl)
theorem dX2_isEnough_12 : decode cX2_isEnough 12 = .ok (.invokevirtual 207, 3) := dk_182 0 207 (dk_at dksX2_isEnough_0 12 rfl rfl)
theorem dX2_isEnough_15 : decode cX2_isEnough 15 = .ok (.iload_n 1, 1) := dk_27 (dk_at dksX2_isEnough_0 15 rfl rfl)
theorem dX2_isEnough_16 : decode cX2_isEnough 16 = .ok (.aload_n 0, 1) := dk_42 (dk_at dksX2_isEnough_0 16 rfl rfl)
theorem dX2_isEnough_17 : decode cX2_isEnough 17 = .ok (.getfield 23, 3) := dk_180 0 23 (dk_at dksX2_isEnough_0 17 rfl rfl)
theorem dX2_isEnough_20 : decode cX2_isEnough 20 = .ok (.iload_n 3, 1) := dk_29 (dk_at dksX2_isEnough_0 20 rfl rfl)
theorem dX2_isEnough_21 : decode cX2_isEnough 21 = .ok (.aaload, 1) := dk_50 (dk_at dksX2_isEnough_0 21 rfl rfl)
theorem dX2_isEnough_22 : decode cX2_isEnough 22 = .ok (.getfield 198, 3) := dk_180 0 198 (dk_at dksX2_isEnough_1 0 rfl rfl)
theorem dX2_isEnough_25 : decode cX2_isEnough 25 = .ok (.invokevirtual 202, 3) := dk_182 0 202 (dk_at dksX2_isEnough_1 3 rfl rfl)
theorem dX2_isEnough_28 : decode cX2_isEnough 28 = .ok (.imul, 1) := dk_104 (dk_at dksX2_isEnough_1 6 rfl rfl)
theorem dX2_isEnough_29 : decode cX2_isEnough 29 = .ok (.if_icmp .gt 7, 3) := dk_163 0 7 (dk_at dksX2_isEnough_1 7 rfl rfl)
theorem dX2_isEnough_32 : decode cX2_isEnough 32 = .ok (.iconst 1, 1) := dk_4 (dk_at dksX2_isEnough_1 10 rfl rfl)
theorem dX2_isEnough_33 : decode cX2_isEnough 33 = .ok (.goto 4, 3) := dk_167 0 4 (dk_at dksX2_isEnough_1 11 rfl rfl)
theorem dX2_isEnough_36 : decode cX2_isEnough 36 = .ok (.iconst 0, 1) := dk_3 (dk_at dksX2_isEnough_1 14 rfl rfl)
theorem dX2_isEnough_37 : decode cX2_isEnough 37 = .ok (.iand, 1) := dk_126 (dk_at dksX2_isEnough_1 15 rfl rfl)
theorem dX2_isEnough_38 : decode cX2_isEnough 38 = .ok (.istore_n 2, 1) := dk_61 (dk_at dksX2_isEnough_1 16 rfl rfl)
theorem dX2_isEnough_39 : decode cX2_isEnough 39 = .ok (.iinc 3 1, 3) := dk_132 3 1 (dk_at dksX2_isEnough_1 17 rfl rfl)
theorem dX2_isEnough_42 : decode cX2_isEnough 42 = .ok (.goto (-38), 3) := dk_167 255 218 (dk_at dksX2_isEnough_1 20 rfl rfl)
theorem dX2_isEnough_45 : decode cX2_isEnough 45 = .ok (.iload_n 2, 1) := dk_28 (dk_at dksX2_isEnough_1 23 rfl rfl)
theorem dX2_isEnough_46 : decode cX2_isEnough 46 = .ok (.ireturn, 1) := dk_172 (dk_at dksX2_isEnough_2 0 rfl rfl)
abbrev cX2_noOrder : ByteArray := prog_8_method_18_code
def yX2_noOrder : MethodName := ⟨RX2, "noOrder", "(II)I"⟩
def dkwX2_noOrder_3 : List UInt8 := [167, 0, 4, 7, 172]
abbrev dktX2_noOrder_3 : List UInt8 := dkwX2_noOrder_3 ++ []
def dkwX2_noOrder_2 : List UInt8 := [180, 0, 185, 154, 0, 7, 6, 167, 0, 20, 25, 4, 45, 180, 0, 198, 182, 0, 223, 153, 0, 7, 3]
abbrev dktX2_noOrder_2 : List UInt8 := dkwX2_noOrder_2 ++ dktX2_noOrder_3
def dkwX2_noOrder_1 : List UInt8 := [153, 0, 5, 4, 172, 25, 4, 180, 0, 176, 45, 180, 0, 140, 159, 0, 7, 5, 167, 0, 32, 25, 4]
abbrev dktX2_noOrder_1 : List UInt8 := dkwX2_noOrder_1 ++ dktX2_noOrder_2
def dkwX2_noOrder_0 : List UInt8 := [42, 180, 0, 23, 27, 50, 78, 42, 180, 0, 12, 28, 182, 0, 73, 192, 0, 77, 58, 4, 42, 182, 0, 227]
abbrev dktX2_noOrder_0 : List UInt8 := dkwX2_noOrder_0 ++ dktX2_noOrder_1
theorem dksX2_noOrder_0 : cX2_noOrder.data.toList.drop 0 = dktX2_noOrder_0 := by decide +kernel
theorem dksX2_noOrder_1 : cX2_noOrder.data.toList.drop 24 = dktX2_noOrder_1 := dk_seg dksX2_noOrder_0 24 rfl rfl
theorem dksX2_noOrder_2 : cX2_noOrder.data.toList.drop 47 = dktX2_noOrder_2 := dk_seg dksX2_noOrder_1 23 rfl rfl
theorem dksX2_noOrder_3 : cX2_noOrder.data.toList.drop 70 = dktX2_noOrder_3 := dk_seg dksX2_noOrder_2 23 rfl rfl
theorem dX2_noOrder_0 : decode cX2_noOrder 0 = .ok (.aload_n 0, 1) := dk_42 (dk_at dksX2_noOrder_0 0 rfl rfl)
theorem dX2_noOrder_1 : decode cX2_noOrder 1 = .ok (.getfield 23, 3) := dk_180 0 23 (dk_at dksX2_noOrder_0 1 rfl rfl)
theorem dX2_noOrder_4 : decode cX2_noOrder 4 = .ok (.iload_n 1, 1) := dk_27 (dk_at dksX2_noOrder_0 4 rfl rfl)
theorem dX2_noOrder_5 : decode cX2_noOrder 5 = .ok (.aaload, 1) := dk_50 (dk_at dksX2_noOrder_0 5 rfl rfl)
theorem dX2_noOrder_6 : decode cX2_noOrder 6 = .ok (.astore_n 3, 1) := dk_78 (dk_at dksX2_noOrder_0 6 rfl rfl)
theorem dX2_noOrder_7 : decode cX2_noOrder 7 = .ok (.aload_n 0, 1) := dk_42 (dk_at dksX2_noOrder_0 7 rfl rfl)
theorem dX2_noOrder_8 : decode cX2_noOrder 8 = .ok (.getfield 12, 3) := dk_180 0 12 (dk_at dksX2_noOrder_0 8 rfl rfl)
theorem dX2_noOrder_11 : decode cX2_noOrder 11 = .ok (.iload_n 2, 1) := dk_28 (dk_at dksX2_noOrder_0 11 rfl rfl)
theorem dX2_noOrder_12 : decode cX2_noOrder 12 = .ok (.invokevirtual 73, 3) := dk_182 0 73 (dk_at dksX2_noOrder_0 12 rfl rfl)
theorem dX2_noOrder_15 : decode cX2_noOrder 15 = .ok (.checkcast 77, 3) := dk_192 0 77 (dk_at dksX2_noOrder_0 15 rfl rfl)
theorem dX2_noOrder_18 : decode cX2_noOrder 18 = .ok (.astore 4, 2) := dk_58 4 (dk_at dksX2_noOrder_0 18 rfl rfl)
theorem dX2_noOrder_20 : decode cX2_noOrder 20 = .ok (.aload_n 0, 1) := dk_42 (dk_at dksX2_noOrder_0 20 rfl rfl)
theorem dX2_noOrder_21 : decode cX2_noOrder 21 = .ok (.invokevirtual 227, 3) := dk_182 0 227 (dk_at dksX2_noOrder_0 21 rfl rfl)
theorem dX2_noOrder_24 : decode cX2_noOrder 24 = .ok (.ifCond .eq 5, 3) := dk_153 0 5 (dk_at dksX2_noOrder_1 0 rfl rfl)
theorem dX2_noOrder_27 : decode cX2_noOrder 27 = .ok (.iconst 1, 1) := dk_4 (dk_at dksX2_noOrder_1 3 rfl rfl)
theorem dX2_noOrder_28 : decode cX2_noOrder 28 = .ok (.ireturn, 1) := dk_172 (dk_at dksX2_noOrder_1 4 rfl rfl)
theorem dX2_noOrder_29 : decode cX2_noOrder 29 = .ok (.aload 4, 2) := dk_25 4 (dk_at dksX2_noOrder_1 5 rfl rfl)
theorem dX2_noOrder_31 : decode cX2_noOrder 31 = .ok (.getfield 176, 3) := dk_180 0 176 (dk_at dksX2_noOrder_1 7 rfl rfl)
theorem dX2_noOrder_34 : decode cX2_noOrder 34 = .ok (.aload_n 3, 1) := dk_45 (dk_at dksX2_noOrder_1 10 rfl rfl)
theorem dX2_noOrder_35 : decode cX2_noOrder 35 = .ok (.getfield 140, 3) := dk_180 0 140 (dk_at dksX2_noOrder_1 11 rfl rfl)
theorem dX2_noOrder_38 : decode cX2_noOrder 38 = .ok (.if_icmp .eq 7, 3) := dk_159 0 7 (dk_at dksX2_noOrder_1 14 rfl rfl)
theorem dX2_noOrder_41 : decode cX2_noOrder 41 = .ok (.iconst 2, 1) := dk_5 (dk_at dksX2_noOrder_1 17 rfl rfl)
theorem dX2_noOrder_42 : decode cX2_noOrder 42 = .ok (.goto 32, 3) := dk_167 0 32 (dk_at dksX2_noOrder_1 18 rfl rfl)
theorem dX2_noOrder_45 : decode cX2_noOrder 45 = .ok (.aload 4, 2) := dk_25 4 (dk_at dksX2_noOrder_1 21 rfl rfl)
theorem dX2_noOrder_47 : decode cX2_noOrder 47 = .ok (.getfield 185, 3) := dk_180 0 185 (dk_at dksX2_noOrder_2 0 rfl rfl)
theorem dX2_noOrder_50 : decode cX2_noOrder 50 = .ok (.ifCond .ne 7, 3) := dk_154 0 7 (dk_at dksX2_noOrder_2 3 rfl rfl)
theorem dX2_noOrder_53 : decode cX2_noOrder 53 = .ok (.iconst 3, 1) := dk_6 (dk_at dksX2_noOrder_2 6 rfl rfl)
theorem dX2_noOrder_54 : decode cX2_noOrder 54 = .ok (.goto 20, 3) := dk_167 0 20 (dk_at dksX2_noOrder_2 7 rfl rfl)
theorem dX2_noOrder_57 : decode cX2_noOrder 57 = .ok (.aload 4, 2) := dk_25 4 (dk_at dksX2_noOrder_2 10 rfl rfl)
theorem dX2_noOrder_59 : decode cX2_noOrder 59 = .ok (.aload_n 3, 1) := dk_45 (dk_at dksX2_noOrder_2 12 rfl rfl)
theorem dX2_noOrder_60 : decode cX2_noOrder 60 = .ok (.getfield 198, 3) := dk_180 0 198 (dk_at dksX2_noOrder_2 13 rfl rfl)
theorem dX2_noOrder_63 : decode cX2_noOrder 63 = .ok (.invokevirtual 223, 3) := dk_182 0 223 (dk_at dksX2_noOrder_2 16 rfl rfl)
theorem dX2_noOrder_66 : decode cX2_noOrder 66 = .ok (.ifCond .eq 7, 3) := dk_153 0 7 (dk_at dksX2_noOrder_2 19 rfl rfl)
theorem dX2_noOrder_69 : decode cX2_noOrder 69 = .ok (.iconst 0, 1) := dk_3 (dk_at dksX2_noOrder_2 22 rfl rfl)
theorem dX2_noOrder_70 : decode cX2_noOrder 70 = .ok (.goto 4, 3) := dk_167 0 4 (dk_at dksX2_noOrder_3 0 rfl rfl)
theorem dX2_noOrder_73 : decode cX2_noOrder 73 = .ok (.iconst 4, 1) := dk_7 (dk_at dksX2_noOrder_3 3 rfl rfl)
theorem dX2_noOrder_74 : decode cX2_noOrder 74 = .ok (.ireturn, 1) := dk_172 (dk_at dksX2_noOrder_3 4 rfl rfl)
abbrev cX2_turn : ByteArray := prog_8_method_28_code
def yX2_turn : MethodName := ⟨RX2, "turn", "()I"⟩
def dkwX2_turn_1 : List UInt8 := [132, 2, 1, 167, 255, 238, 42, 89, 180, 0, 134, 4, 96, 181, 0, 134, 42, 182, 0, 163, 27, 172]
abbrev dktX2_turn_1 : List UInt8 := dkwX2_turn_1 ++ []
def dkwX2_turn_0 : List UInt8 := [42, 182, 1, 31, 60, 3, 61, 28, 7, 162, 0, 19, 42, 28, 182, 1, 34, 42, 28, 182, 1, 37]
abbrev dktX2_turn_0 : List UInt8 := dkwX2_turn_0 ++ dktX2_turn_1
theorem dksX2_turn_0 : cX2_turn.data.toList.drop 0 = dktX2_turn_0 := by decide +kernel
theorem dksX2_turn_1 : cX2_turn.data.toList.drop 22 = dktX2_turn_1 := dk_seg dksX2_turn_0 22 rfl rfl
theorem dX2_turn_0 : decode cX2_turn 0 = .ok (.aload_n 0, 1) := dk_42 (dk_at dksX2_turn_0 0 rfl rfl)
theorem dX2_turn_1 : decode cX2_turn 1 = .ok (.invokevirtual 287, 3) := dk_182 1 31 (dk_at dksX2_turn_0 1 rfl rfl)
theorem dX2_turn_4 : decode cX2_turn 4 = .ok (.istore_n 1, 1) := dk_60 (dk_at dksX2_turn_0 4 rfl rfl)
theorem dX2_turn_5 : decode cX2_turn 5 = .ok (.iconst 0, 1) := dk_3 (dk_at dksX2_turn_0 5 rfl rfl)
theorem dX2_turn_6 : decode cX2_turn 6 = .ok (.istore_n 2, 1) := dk_61 (dk_at dksX2_turn_0 6 rfl rfl)
theorem dX2_turn_7 : decode cX2_turn 7 = .ok (.iload_n 2, 1) := dk_28 (dk_at dksX2_turn_0 7 rfl rfl)
theorem dX2_turn_8 : decode cX2_turn 8 = .ok (.iconst 4, 1) := dk_7 (dk_at dksX2_turn_0 8 rfl rfl)
theorem dX2_turn_9 : decode cX2_turn 9 = .ok (.if_icmp .ge 19, 3) := dk_162 0 19 (dk_at dksX2_turn_0 9 rfl rfl)
theorem dX2_turn_12 : decode cX2_turn 12 = .ok (.aload_n 0, 1) := dk_42 (dk_at dksX2_turn_0 12 rfl rfl)
theorem dX2_turn_13 : decode cX2_turn 13 = .ok (.iload_n 2, 1) := dk_28 (dk_at dksX2_turn_0 13 rfl rfl)
theorem dX2_turn_14 : decode cX2_turn 14 = .ok (.invokevirtual 290, 3) := dk_182 1 34 (dk_at dksX2_turn_0 14 rfl rfl)
theorem dX2_turn_17 : decode cX2_turn 17 = .ok (.aload_n 0, 1) := dk_42 (dk_at dksX2_turn_0 17 rfl rfl)
theorem dX2_turn_18 : decode cX2_turn 18 = .ok (.iload_n 2, 1) := dk_28 (dk_at dksX2_turn_0 18 rfl rfl)
theorem dX2_turn_19 : decode cX2_turn 19 = .ok (.invokevirtual 293, 3) := dk_182 1 37 (dk_at dksX2_turn_0 19 rfl rfl)
theorem dX2_turn_22 : decode cX2_turn 22 = .ok (.iinc 2 1, 3) := dk_132 2 1 (dk_at dksX2_turn_1 0 rfl rfl)
theorem dX2_turn_25 : decode cX2_turn 25 = .ok (.goto (-18), 3) := dk_167 255 238 (dk_at dksX2_turn_1 3 rfl rfl)
theorem dX2_turn_28 : decode cX2_turn 28 = .ok (.aload_n 0, 1) := dk_42 (dk_at dksX2_turn_1 6 rfl rfl)
theorem dX2_turn_29 : decode cX2_turn 29 = .ok (.dup, 1) := dk_89 (dk_at dksX2_turn_1 7 rfl rfl)
theorem dX2_turn_30 : decode cX2_turn 30 = .ok (.getfield 134, 3) := dk_180 0 134 (dk_at dksX2_turn_1 8 rfl rfl)
theorem dX2_turn_33 : decode cX2_turn 33 = .ok (.iconst 1, 1) := dk_4 (dk_at dksX2_turn_1 11 rfl rfl)
theorem dX2_turn_34 : decode cX2_turn 34 = .ok (.iadd, 1) := dk_96 (dk_at dksX2_turn_1 12 rfl rfl)
theorem dX2_turn_35 : decode cX2_turn 35 = .ok (.putfield 134, 3) := dk_181 0 134 (dk_at dksX2_turn_1 13 rfl rfl)
theorem dX2_turn_38 : decode cX2_turn 38 = .ok (.aload_n 0, 1) := dk_42 (dk_at dksX2_turn_1 16 rfl rfl)
theorem dX2_turn_39 : decode cX2_turn 39 = .ok (.invokevirtual 163, 3) := dk_182 0 163 (dk_at dksX2_turn_1 17 rfl rfl)
theorem dX2_turn_42 : decode cX2_turn 42 = .ok (.iload_n 1, 1) := dk_27 (dk_at dksX2_turn_1 20 rfl rfl)
theorem dX2_turn_43 : decode cX2_turn 43 = .ok (.ireturn, 1) := dk_172 (dk_at dksX2_turn_1 21 rfl rfl)
abbrev cX2_move : ByteArray := prog_8_method_25_code
def yX2_move : MethodName := ⟨RX2, "move", "()I"⟩
def dkwX2_move_6 : List UInt8 := [172]
abbrev dktX2_move_6 : List UInt8 := dkwX2_move_6 ++ []
def dkwX2_move_5 : List UInt8 := [21, 4, 162, 0, 21, 45, 21, 5, 50, 58, 6, 25, 6, 2, 181, 0, 188, 132, 5, 1, 167, 255, 234, 28]
abbrev dktX2_move_5 : List UInt8 := dkwX2_move_5 ++ dktX2_move_6
def dkwX2_move_4 : List UInt8 := [132, 2, 1, 132, 3, 1, 167, 255, 210, 42, 180, 0, 23, 78, 45, 190, 54, 4, 3, 54, 5, 21, 5]
abbrev dktX2_move_4 : List UInt8 := dkwX2_move_4 ++ dktX2_move_5
def dkwX2_move_3 : List UInt8 := [50, 42, 29, 182, 0, 230, 181, 0, 140, 42, 180, 0, 23, 29, 50, 89, 180, 1, 0, 4, 96, 181, 1, 0]
abbrev dktX2_move_3 : List UInt8 := dkwX2_move_3 ++ dktX2_move_4
def dkwX2_move_2 : List UInt8 := [132, 3, 1, 167, 255, 215, 3, 62, 29, 7, 162, 0, 47, 43, 29, 46, 154, 0, 35, 42, 180, 0, 23, 29]
abbrev dktX2_move_2 : List UInt8 := dkwX2_move_2 ++ dktX2_move_3
def dkwX2_move_1 : List UInt8 := [181, 0, 253, 42, 89, 180, 0, 137, 43, 29, 46, 4, 164, 0, 7, 4, 167, 0, 4, 3, 96, 181, 0, 137]
abbrev dktX2_move_1 : List UInt8 := dkwX2_move_1 ++ dktX2_move_2
def dkwX2_move_0 : List UInt8 := [42, 182, 0, 249, 76, 3, 61, 3, 62, 29, 7, 162, 0, 42, 42, 180, 0, 23, 29, 50, 43, 29, 46]
abbrev dktX2_move_0 : List UInt8 := dkwX2_move_0 ++ dktX2_move_1
theorem dksX2_move_0 : cX2_move.data.toList.drop 0 = dktX2_move_0 := by decide +kernel
theorem dksX2_move_1 : cX2_move.data.toList.drop 23 = dktX2_move_1 := dk_seg dksX2_move_0 23 rfl rfl
theorem dksX2_move_2 : cX2_move.data.toList.drop 47 = dktX2_move_2 := dk_seg dksX2_move_1 24 rfl rfl
theorem dksX2_move_3 : cX2_move.data.toList.drop 71 = dktX2_move_3 := dk_seg dksX2_move_2 24 rfl rfl
theorem dksX2_move_4 : cX2_move.data.toList.drop 95 = dktX2_move_4 := dk_seg dksX2_move_3 24 rfl rfl
theorem dksX2_move_5 : cX2_move.data.toList.drop 118 = dktX2_move_5 := dk_seg dksX2_move_4 23 rfl rfl
theorem dksX2_move_6 : cX2_move.data.toList.drop 142 = dktX2_move_6 := dk_seg dksX2_move_5 24 rfl rfl
theorem dX2_move_0 : decode cX2_move 0 = .ok (.aload_n 0, 1) := dk_42 (dk_at dksX2_move_0 0 rfl rfl)
theorem dX2_move_1 : decode cX2_move 1 = .ok (.invokevirtual 249, 3) := dk_182 0 249 (dk_at dksX2_move_0 1 rfl rfl)
theorem dX2_move_4 : decode cX2_move 4 = .ok (.astore_n 1, 1) := dk_76 (dk_at dksX2_move_0 4 rfl rfl)
theorem dX2_move_5 : decode cX2_move 5 = .ok (.iconst 0, 1) := dk_3 (dk_at dksX2_move_0 5 rfl rfl)
theorem dX2_move_6 : decode cX2_move 6 = .ok (.istore_n 2, 1) := dk_61 (dk_at dksX2_move_0 6 rfl rfl)
theorem dX2_move_7 : decode cX2_move 7 = .ok (.iconst 0, 1) := dk_3 (dk_at dksX2_move_0 7 rfl rfl)
theorem dX2_move_8 : decode cX2_move 8 = .ok (.istore_n 3, 1) := dk_62 (dk_at dksX2_move_0 8 rfl rfl)
theorem dX2_move_9 : decode cX2_move 9 = .ok (.iload_n 3, 1) := dk_29 (dk_at dksX2_move_0 9 rfl rfl)
theorem dX2_move_10 : decode cX2_move 10 = .ok (.iconst 4, 1) := dk_7 (dk_at dksX2_move_0 10 rfl rfl)
theorem dX2_move_11 : decode cX2_move 11 = .ok (.if_icmp .ge 42, 3) := dk_162 0 42 (dk_at dksX2_move_0 11 rfl rfl)
theorem dX2_move_14 : decode cX2_move 14 = .ok (.aload_n 0, 1) := dk_42 (dk_at dksX2_move_0 14 rfl rfl)
theorem dX2_move_15 : decode cX2_move 15 = .ok (.getfield 23, 3) := dk_180 0 23 (dk_at dksX2_move_0 15 rfl rfl)
theorem dX2_move_18 : decode cX2_move 18 = .ok (.iload_n 3, 1) := dk_29 (dk_at dksX2_move_0 18 rfl rfl)
theorem dX2_move_19 : decode cX2_move 19 = .ok (.aaload, 1) := dk_50 (dk_at dksX2_move_0 19 rfl rfl)
theorem dX2_move_20 : decode cX2_move 20 = .ok (.aload_n 1, 1) := dk_43 (dk_at dksX2_move_0 20 rfl rfl)
theorem dX2_move_21 : decode cX2_move 21 = .ok (.iload_n 3, 1) := dk_29 (dk_at dksX2_move_0 21 rfl rfl)
theorem dX2_move_22 : decode cX2_move 22 = .ok (.iaload, 1) := dk_46 (dk_at dksX2_move_0 22 rfl rfl)
theorem dX2_move_23 : decode cX2_move 23 = .ok (.putfield 253, 3) := dk_181 0 253 (dk_at dksX2_move_1 0 rfl rfl)
theorem dX2_move_26 : decode cX2_move 26 = .ok (.aload_n 0, 1) := dk_42 (dk_at dksX2_move_1 3 rfl rfl)
theorem dX2_move_27 : decode cX2_move 27 = .ok (.dup, 1) := dk_89 (dk_at dksX2_move_1 4 rfl rfl)
theorem dX2_move_28 : decode cX2_move 28 = .ok (.getfield 137, 3) := dk_180 0 137 (dk_at dksX2_move_1 5 rfl rfl)
theorem dX2_move_31 : decode cX2_move 31 = .ok (.aload_n 1, 1) := dk_43 (dk_at dksX2_move_1 8 rfl rfl)
theorem dX2_move_32 : decode cX2_move 32 = .ok (.iload_n 3, 1) := dk_29 (dk_at dksX2_move_1 9 rfl rfl)
theorem dX2_move_33 : decode cX2_move 33 = .ok (.iaload, 1) := dk_46 (dk_at dksX2_move_1 10 rfl rfl)
theorem dX2_move_34 : decode cX2_move 34 = .ok (.iconst 1, 1) := dk_4 (dk_at dksX2_move_1 11 rfl rfl)
theorem dX2_move_35 : decode cX2_move 35 = .ok (.if_icmp .le 7, 3) := dk_164 0 7 (dk_at dksX2_move_1 12 rfl rfl)
theorem dX2_move_38 : decode cX2_move 38 = .ok (.iconst 1, 1) := dk_4 (dk_at dksX2_move_1 15 rfl rfl)
theorem dX2_move_39 : decode cX2_move 39 = .ok (.goto 4, 3) := dk_167 0 4 (dk_at dksX2_move_1 16 rfl rfl)
theorem dX2_move_42 : decode cX2_move 42 = .ok (.iconst 0, 1) := dk_3 (dk_at dksX2_move_1 19 rfl rfl)
theorem dX2_move_43 : decode cX2_move 43 = .ok (.iadd, 1) := dk_96 (dk_at dksX2_move_1 20 rfl rfl)
theorem dX2_move_44 : decode cX2_move 44 = .ok (.putfield 137, 3) := dk_181 0 137 (dk_at dksX2_move_1 21 rfl rfl)
theorem dX2_move_47 : decode cX2_move 47 = .ok (.iinc 3 1, 3) := dk_132 3 1 (dk_at dksX2_move_2 0 rfl rfl)
theorem dX2_move_50 : decode cX2_move 50 = .ok (.goto (-41), 3) := dk_167 255 215 (dk_at dksX2_move_2 3 rfl rfl)
theorem dX2_move_53 : decode cX2_move 53 = .ok (.iconst 0, 1) := dk_3 (dk_at dksX2_move_2 6 rfl rfl)
theorem dX2_move_54 : decode cX2_move 54 = .ok (.istore_n 3, 1) := dk_62 (dk_at dksX2_move_2 7 rfl rfl)
theorem dX2_move_55 : decode cX2_move 55 = .ok (.iload_n 3, 1) := dk_29 (dk_at dksX2_move_2 8 rfl rfl)
theorem dX2_move_56 : decode cX2_move 56 = .ok (.iconst 4, 1) := dk_7 (dk_at dksX2_move_2 9 rfl rfl)
theorem dX2_move_57 : decode cX2_move 57 = .ok (.if_icmp .ge 47, 3) := dk_162 0 47 (dk_at dksX2_move_2 10 rfl rfl)
theorem dX2_move_60 : decode cX2_move 60 = .ok (.aload_n 1, 1) := dk_43 (dk_at dksX2_move_2 13 rfl rfl)
theorem dX2_move_61 : decode cX2_move 61 = .ok (.iload_n 3, 1) := dk_29 (dk_at dksX2_move_2 14 rfl rfl)
theorem dX2_move_62 : decode cX2_move 62 = .ok (.iaload, 1) := dk_46 (dk_at dksX2_move_2 15 rfl rfl)
theorem dX2_move_63 : decode cX2_move 63 = .ok (.ifCond .ne 35, 3) := dk_154 0 35 (dk_at dksX2_move_2 16 rfl rfl)
theorem dX2_move_66 : decode cX2_move 66 = .ok (.aload_n 0, 1) := dk_42 (dk_at dksX2_move_2 19 rfl rfl)
theorem dX2_move_67 : decode cX2_move 67 = .ok (.getfield 23, 3) := dk_180 0 23 (dk_at dksX2_move_2 20 rfl rfl)
theorem dX2_move_70 : decode cX2_move 70 = .ok (.iload_n 3, 1) := dk_29 (dk_at dksX2_move_2 23 rfl rfl)
theorem dX2_move_71 : decode cX2_move 71 = .ok (.aaload, 1) := dk_50 (dk_at dksX2_move_3 0 rfl rfl)
theorem dX2_move_72 : decode cX2_move 72 = .ok (.aload_n 0, 1) := dk_42 (dk_at dksX2_move_3 1 rfl rfl)
theorem dX2_move_73 : decode cX2_move 73 = .ok (.iload_n 3, 1) := dk_29 (dk_at dksX2_move_3 2 rfl rfl)
theorem dX2_move_74 : decode cX2_move 74 = .ok (.invokevirtual 230, 3) := dk_182 0 230 (dk_at dksX2_move_3 3 rfl rfl)
theorem dX2_move_77 : decode cX2_move 77 = .ok (.putfield 140, 3) := dk_181 0 140 (dk_at dksX2_move_3 6 rfl rfl)
theorem dX2_move_80 : decode cX2_move 80 = .ok (.aload_n 0, 1) := dk_42 (dk_at dksX2_move_3 9 rfl rfl)
theorem dX2_move_81 : decode cX2_move 81 = .ok (.getfield 23, 3) := dk_180 0 23 (dk_at dksX2_move_3 10 rfl rfl)
theorem dX2_move_84 : decode cX2_move 84 = .ok (.iload_n 3, 1) := dk_29 (dk_at dksX2_move_3 13 rfl rfl)
theorem dX2_move_85 : decode cX2_move 85 = .ok (.aaload, 1) := dk_50 (dk_at dksX2_move_3 14 rfl rfl)
theorem dX2_move_86 : decode cX2_move 86 = .ok (.dup, 1) := dk_89 (dk_at dksX2_move_3 15 rfl rfl)
theorem dX2_move_87 : decode cX2_move 87 = .ok (.getfield 256, 3) := dk_180 1 0 (dk_at dksX2_move_3 16 rfl rfl)
theorem dX2_move_90 : decode cX2_move 90 = .ok (.iconst 1, 1) := dk_4 (dk_at dksX2_move_3 19 rfl rfl)
theorem dX2_move_91 : decode cX2_move 91 = .ok (.iadd, 1) := dk_96 (dk_at dksX2_move_3 20 rfl rfl)
theorem dX2_move_92 : decode cX2_move 92 = .ok (.putfield 256, 3) := dk_181 1 0 (dk_at dksX2_move_3 21 rfl rfl)
theorem dX2_move_95 : decode cX2_move 95 = .ok (.iinc 2 1, 3) := dk_132 2 1 (dk_at dksX2_move_4 0 rfl rfl)
theorem dX2_move_98 : decode cX2_move 98 = .ok (.iinc 3 1, 3) := dk_132 3 1 (dk_at dksX2_move_4 3 rfl rfl)
theorem dX2_move_101 : decode cX2_move 101 = .ok (.goto (-46), 3) := dk_167 255 210 (dk_at dksX2_move_4 6 rfl rfl)
theorem dX2_move_104 : decode cX2_move 104 = .ok (.aload_n 0, 1) := dk_42 (dk_at dksX2_move_4 9 rfl rfl)
theorem dX2_move_105 : decode cX2_move 105 = .ok (.getfield 23, 3) := dk_180 0 23 (dk_at dksX2_move_4 10 rfl rfl)
theorem dX2_move_108 : decode cX2_move 108 = .ok (.astore_n 3, 1) := dk_78 (dk_at dksX2_move_4 13 rfl rfl)
theorem dX2_move_109 : decode cX2_move 109 = .ok (.aload_n 3, 1) := dk_45 (dk_at dksX2_move_4 14 rfl rfl)
theorem dX2_move_110 : decode cX2_move 110 = .ok (.arraylength, 1) := dk_190 (dk_at dksX2_move_4 15 rfl rfl)
theorem dX2_move_111 : decode cX2_move 111 = .ok (.istore 4, 2) := dk_54 4 (dk_at dksX2_move_4 16 rfl rfl)
theorem dX2_move_113 : decode cX2_move 113 = .ok (.iconst 0, 1) := dk_3 (dk_at dksX2_move_4 18 rfl rfl)
theorem dX2_move_114 : decode cX2_move 114 = .ok (.istore 5, 2) := dk_54 5 (dk_at dksX2_move_4 19 rfl rfl)
theorem dX2_move_116 : decode cX2_move 116 = .ok (.iload 5, 2) := dk_21 5 (dk_at dksX2_move_4 21 rfl rfl)
theorem dX2_move_118 : decode cX2_move 118 = .ok (.iload 4, 2) := dk_21 4 (dk_at dksX2_move_5 0 rfl rfl)
theorem dX2_move_120 : decode cX2_move 120 = .ok (.if_icmp .ge 21, 3) := dk_162 0 21 (dk_at dksX2_move_5 2 rfl rfl)
theorem dX2_move_123 : decode cX2_move 123 = .ok (.aload_n 3, 1) := dk_45 (dk_at dksX2_move_5 5 rfl rfl)
theorem dX2_move_124 : decode cX2_move 124 = .ok (.iload 5, 2) := dk_21 5 (dk_at dksX2_move_5 6 rfl rfl)
theorem dX2_move_126 : decode cX2_move 126 = .ok (.aaload, 1) := dk_50 (dk_at dksX2_move_5 8 rfl rfl)
theorem dX2_move_127 : decode cX2_move 127 = .ok (.astore 6, 2) := dk_58 6 (dk_at dksX2_move_5 9 rfl rfl)
theorem dX2_move_129 : decode cX2_move 129 = .ok (.aload 6, 2) := dk_25 6 (dk_at dksX2_move_5 11 rfl rfl)
theorem dX2_move_131 : decode cX2_move 131 = .ok (.iconst (-1), 1) := dk_2 (dk_at dksX2_move_5 13 rfl rfl)
theorem dX2_move_132 : decode cX2_move 132 = .ok (.putfield 188, 3) := dk_181 0 188 (dk_at dksX2_move_5 14 rfl rfl)
theorem dX2_move_135 : decode cX2_move 135 = .ok (.iinc 5 1, 3) := dk_132 5 1 (dk_at dksX2_move_5 17 rfl rfl)
theorem dX2_move_138 : decode cX2_move 138 = .ok (.goto (-22), 3) := dk_167 255 234 (dk_at dksX2_move_5 20 rfl rfl)
theorem dX2_move_141 : decode cX2_move 141 = .ok (.iload_n 2, 1) := dk_28 (dk_at dksX2_move_5 23 rfl rfl)
theorem dX2_move_142 : decode cX2_move 142 = .ok (.ireturn, 1) := dk_172 (dk_at dksX2_move_6 0 rfl rfl)
abbrev cX2_deliver : ByteArray := prog_8_method_26_code
def yX2_deliver : MethodName := ⟨RX2, "deliver", "(I)V"⟩
def dkwX2_deliver_3 : List UInt8 := [132, 2, 1, 167, 255, 186, 177]
abbrev dktX2_deliver_3 : List UInt8 := dkwX2_deliver_3 ++ []
def dkwX2_deliver_2 : List UInt8 := [160, 0, 23, 45, 4, 181, 0, 169, 42, 180, 0, 43, 27, 5, 108, 92, 46, 45, 180, 1, 6, 96, 79]
abbrev dktX2_deliver_2 : List UInt8 := dkwX2_deliver_2 ++ dktX2_deliver_3
def dkwX2_deliver_1 : List UInt8 := [78, 45, 27, 182, 0, 191, 153, 0, 39, 45, 180, 1, 3, 42, 180, 0, 23, 27, 50, 180, 0, 140]
abbrev dktX2_deliver_1 : List UInt8 := dkwX2_deliver_1 ++ dktX2_deliver_2
def dkwX2_deliver_0 : List UInt8 := [3, 61, 28, 42, 180, 0, 27, 182, 0, 69, 162, 0, 65, 42, 180, 0, 27, 28, 182, 0, 73, 192, 0, 91]
abbrev dktX2_deliver_0 : List UInt8 := dkwX2_deliver_0 ++ dktX2_deliver_1
theorem dksX2_deliver_0 : cX2_deliver.data.toList.drop 0 = dktX2_deliver_0 := by decide +kernel
theorem dksX2_deliver_1 : cX2_deliver.data.toList.drop 24 = dktX2_deliver_1 := dk_seg dksX2_deliver_0 24 rfl rfl
theorem dksX2_deliver_2 : cX2_deliver.data.toList.drop 46 = dktX2_deliver_2 := dk_seg dksX2_deliver_1 22 rfl rfl
theorem dksX2_deliver_3 : cX2_deliver.data.toList.drop 69 = dktX2_deliver_3 := dk_seg dksX2_deliver_2 23 rfl rfl
theorem dX2_deliver_0 : decode cX2_deliver 0 = .ok (.iconst 0, 1) := dk_3 (dk_at dksX2_deliver_0 0 rfl rfl)
theorem dX2_deliver_1 : decode cX2_deliver 1 = .ok (.istore_n 2, 1) := dk_61 (dk_at dksX2_deliver_0 1 rfl rfl)
theorem dX2_deliver_2 : decode cX2_deliver 2 = .ok (.iload_n 2, 1) := dk_28 (dk_at dksX2_deliver_0 2 rfl rfl)
theorem dX2_deliver_3 : decode cX2_deliver 3 = .ok (.aload_n 0, 1) := dk_42 (dk_at dksX2_deliver_0 3 rfl rfl)
theorem dX2_deliver_4 : decode cX2_deliver 4 = .ok (.getfield 27, 3) := dk_180 0 27 (dk_at dksX2_deliver_0 4 rfl rfl)
theorem dX2_deliver_7 : decode cX2_deliver 7 = .ok (.invokevirtual 69, 3) := dk_182 0 69 (dk_at dksX2_deliver_0 7 rfl rfl)
theorem dX2_deliver_10 : decode cX2_deliver 10 = .ok (.if_icmp .ge 65, 3) := dk_162 0 65 (dk_at dksX2_deliver_0 10 rfl rfl)
theorem dX2_deliver_13 : decode cX2_deliver 13 = .ok (.aload_n 0, 1) := dk_42 (dk_at dksX2_deliver_0 13 rfl rfl)
theorem dX2_deliver_14 : decode cX2_deliver 14 = .ok (.getfield 27, 3) := dk_180 0 27 (dk_at dksX2_deliver_0 14 rfl rfl)
theorem dX2_deliver_17 : decode cX2_deliver 17 = .ok (.iload_n 2, 1) := dk_28 (dk_at dksX2_deliver_0 17 rfl rfl)
theorem dX2_deliver_18 : decode cX2_deliver 18 = .ok (.invokevirtual 73, 3) := dk_182 0 73 (dk_at dksX2_deliver_0 18 rfl rfl)
theorem dX2_deliver_21 : decode cX2_deliver 21 = .ok (.checkcast 91, 3) := dk_192 0 91 (dk_at dksX2_deliver_0 21 rfl rfl)
theorem dX2_deliver_24 : decode cX2_deliver 24 = .ok (.astore_n 3, 1) := dk_78 (dk_at dksX2_deliver_1 0 rfl rfl)
theorem dX2_deliver_25 : decode cX2_deliver 25 = .ok (.aload_n 3, 1) := dk_45 (dk_at dksX2_deliver_1 1 rfl rfl)
theorem dX2_deliver_26 : decode cX2_deliver 26 = .ok (.iload_n 1, 1) := dk_27 (dk_at dksX2_deliver_1 2 rfl rfl)
theorem dX2_deliver_27 : decode cX2_deliver 27 = .ok (.invokevirtual 191, 3) := dk_182 0 191 (dk_at dksX2_deliver_1 3 rfl rfl)
theorem dX2_deliver_30 : decode cX2_deliver 30 = .ok (.ifCond .eq 39, 3) := dk_153 0 39 (dk_at dksX2_deliver_1 6 rfl rfl)
theorem dX2_deliver_33 : decode cX2_deliver 33 = .ok (.aload_n 3, 1) := dk_45 (dk_at dksX2_deliver_1 9 rfl rfl)
theorem dX2_deliver_34 : decode cX2_deliver 34 = .ok (.getfield 259, 3) := dk_180 1 3 (dk_at dksX2_deliver_1 10 rfl rfl)
theorem dX2_deliver_37 : decode cX2_deliver 37 = .ok (.aload_n 0, 1) := dk_42 (dk_at dksX2_deliver_1 13 rfl rfl)
theorem dX2_deliver_38 : decode cX2_deliver 38 = .ok (.getfield 23, 3) := dk_180 0 23 (dk_at dksX2_deliver_1 14 rfl rfl)
theorem dX2_deliver_41 : decode cX2_deliver 41 = .ok (.iload_n 1, 1) := dk_27 (dk_at dksX2_deliver_1 17 rfl rfl)
theorem dX2_deliver_42 : decode cX2_deliver 42 = .ok (.aaload, 1) := dk_50 (dk_at dksX2_deliver_1 18 rfl rfl)
theorem dX2_deliver_43 : decode cX2_deliver 43 = .ok (.getfield 140, 3) := dk_180 0 140 (dk_at dksX2_deliver_1 19 rfl rfl)
theorem dX2_deliver_46 : decode cX2_deliver 46 = .ok (.if_icmp .ne 23, 3) := dk_160 0 23 (dk_at dksX2_deliver_2 0 rfl rfl)
theorem dX2_deliver_49 : decode cX2_deliver 49 = .ok (.aload_n 3, 1) := dk_45 (dk_at dksX2_deliver_2 3 rfl rfl)
theorem dX2_deliver_50 : decode cX2_deliver 50 = .ok (.iconst 1, 1) := dk_4 (dk_at dksX2_deliver_2 4 rfl rfl)
theorem dX2_deliver_51 : decode cX2_deliver 51 = .ok (.putfield 169, 3) := dk_181 0 169 (dk_at dksX2_deliver_2 5 rfl rfl)
theorem dX2_deliver_54 : decode cX2_deliver 54 = .ok (.aload_n 0, 1) := dk_42 (dk_at dksX2_deliver_2 8 rfl rfl)
theorem dX2_deliver_55 : decode cX2_deliver 55 = .ok (.getfield 43, 3) := dk_180 0 43 (dk_at dksX2_deliver_2 9 rfl rfl)
theorem dX2_deliver_58 : decode cX2_deliver 58 = .ok (.iload_n 1, 1) := dk_27 (dk_at dksX2_deliver_2 12 rfl rfl)
theorem dX2_deliver_59 : decode cX2_deliver 59 = .ok (.iconst 2, 1) := dk_5 (dk_at dksX2_deliver_2 13 rfl rfl)
theorem dX2_deliver_60 : decode cX2_deliver 60 = .ok (.idiv, 1) := dk_108 (dk_at dksX2_deliver_2 14 rfl rfl)
theorem dX2_deliver_61 : decode cX2_deliver 61 = .ok (.dup2, 1) := dk_92 (dk_at dksX2_deliver_2 15 rfl rfl)
theorem dX2_deliver_62 : decode cX2_deliver 62 = .ok (.iaload, 1) := dk_46 (dk_at dksX2_deliver_2 16 rfl rfl)
theorem dX2_deliver_63 : decode cX2_deliver 63 = .ok (.aload_n 3, 1) := dk_45 (dk_at dksX2_deliver_2 17 rfl rfl)
theorem dX2_deliver_64 : decode cX2_deliver 64 = .ok (.getfield 262, 3) := dk_180 1 6 (dk_at dksX2_deliver_2 18 rfl rfl)
theorem dX2_deliver_67 : decode cX2_deliver 67 = .ok (.iadd, 1) := dk_96 (dk_at dksX2_deliver_2 21 rfl rfl)
theorem dX2_deliver_68 : decode cX2_deliver 68 = .ok (.iastore, 1) := dk_79 (dk_at dksX2_deliver_2 22 rfl rfl)
theorem dX2_deliver_69 : decode cX2_deliver 69 = .ok (.iinc 2 1, 3) := dk_132 2 1 (dk_at dksX2_deliver_3 0 rfl rfl)
theorem dX2_deliver_72 : decode cX2_deliver 72 = .ok (.goto (-70), 3) := dk_167 255 186 (dk_at dksX2_deliver_3 3 rfl rfl)
theorem dX2_deliver_75 : decode cX2_deliver 75 = .ok (.return_, 1) := dk_177 (dk_at dksX2_deliver_3 6 rfl rfl)
abbrev cX2_pickUp : ByteArray := prog_8_method_27_code
def yX2_pickUp : MethodName := ⟨RX2, "pickUp", "(I)V"⟩
def dkwX2_pickUp_5 : List UInt8 := [182, 1, 22, 192, 0, 91, 78, 167, 255, 217, 177]
abbrev dktX2_pickUp_5 : List UInt8 := dkwX2_pickUp_5 ++ []
def dkwX2_pickUp_4 : List UInt8 := [45, 180, 0, 195, 96, 42, 27, 182, 1, 25, 163, 0, 7, 27, 167, 0, 4, 2, 181, 1, 28, 44]
abbrev dktX2_pickUp_4 : List UInt8 := dkwX2_pickUp_4 ++ dktX2_pickUp_5
def dkwX2_pickUp_3 : List UInt8 := [132, 3, 1, 167, 255, 197, 44, 182, 1, 22, 192, 0, 91, 78, 45, 198, 0, 41, 45, 42, 27, 182, 0, 207]
abbrev dktX2_pickUp_3 : List UInt8 := dkwX2_pickUp_3 ++ dktX2_pickUp_4
def dkwX2_pickUp_2 : List UInt8 := [25, 4, 180, 1, 20, 42, 180, 0, 23, 27, 50, 180, 0, 140, 160, 0, 10, 44, 25, 4, 182, 1, 21, 87]
abbrev dktX2_pickUp_2 : List UInt8 := dkwX2_pickUp_2 ++ dktX2_pickUp_3
def dkwX2_pickUp_1 : List UInt8 := [162, 0, 54, 42, 180, 0, 27, 29, 182, 0, 73, 192, 0, 91, 58, 4, 25, 4, 182, 1, 17, 153, 0, 27]
abbrev dktX2_pickUp_1 : List UInt8 := dkwX2_pickUp_1 ++ dktX2_pickUp_2
def dkwX2_pickUp_0 : List UInt8 := [187, 1, 9, 89, 16, 8, 184, 1, 11, 183, 1, 14, 77, 3, 62, 29, 42, 180, 0, 27, 182, 0, 69]
abbrev dktX2_pickUp_0 : List UInt8 := dkwX2_pickUp_0 ++ dktX2_pickUp_1
theorem dksX2_pickUp_0 : cX2_pickUp.data.toList.drop 0 = dktX2_pickUp_0 := by decide +kernel
theorem dksX2_pickUp_1 : cX2_pickUp.data.toList.drop 23 = dktX2_pickUp_1 := dk_seg dksX2_pickUp_0 23 rfl rfl
theorem dksX2_pickUp_2 : cX2_pickUp.data.toList.drop 47 = dktX2_pickUp_2 := dk_seg dksX2_pickUp_1 24 rfl rfl
theorem dksX2_pickUp_3 : cX2_pickUp.data.toList.drop 71 = dktX2_pickUp_3 := dk_seg dksX2_pickUp_2 24 rfl rfl
theorem dksX2_pickUp_4 : cX2_pickUp.data.toList.drop 95 = dktX2_pickUp_4 := dk_seg dksX2_pickUp_3 24 rfl rfl
theorem dksX2_pickUp_5 : cX2_pickUp.data.toList.drop 117 = dktX2_pickUp_5 := dk_seg dksX2_pickUp_4 22 rfl rfl
theorem dX2_pickUp_0 : decode cX2_pickUp 0 = .ok (.new 265, 3) := dk_187 1 9 (dk_at dksX2_pickUp_0 0 rfl rfl)
theorem dX2_pickUp_3 : decode cX2_pickUp 3 = .ok (.dup, 1) := dk_89 (dk_at dksX2_pickUp_0 3 rfl rfl)
theorem dX2_pickUp_4 : decode cX2_pickUp 4 = .ok (.bipush 8, 2) := dk_16 8 (dk_at dksX2_pickUp_0 4 rfl rfl)
theorem dX2_pickUp_6 : decode cX2_pickUp 6 = .ok (.invokestatic 267, 3) := dk_184 1 11 (dk_at dksX2_pickUp_0 6 rfl rfl)
theorem dX2_pickUp_9 : decode cX2_pickUp 9 = .ok (.invokespecial 270, 3) := dk_183 1 14 (dk_at dksX2_pickUp_0 9 rfl rfl)
theorem dX2_pickUp_12 : decode cX2_pickUp 12 = .ok (.astore_n 2, 1) := dk_77 (dk_at dksX2_pickUp_0 12 rfl rfl)
theorem dX2_pickUp_13 : decode cX2_pickUp 13 = .ok (.iconst 0, 1) := dk_3 (dk_at dksX2_pickUp_0 13 rfl rfl)
theorem dX2_pickUp_14 : decode cX2_pickUp 14 = .ok (.istore_n 3, 1) := dk_62 (dk_at dksX2_pickUp_0 14 rfl rfl)
theorem dX2_pickUp_15 : decode cX2_pickUp 15 = .ok (.iload_n 3, 1) := dk_29 (dk_at dksX2_pickUp_0 15 rfl rfl)
theorem dX2_pickUp_16 : decode cX2_pickUp 16 = .ok (.aload_n 0, 1) := dk_42 (dk_at dksX2_pickUp_0 16 rfl rfl)
theorem dX2_pickUp_17 : decode cX2_pickUp 17 = .ok (.getfield 27, 3) := dk_180 0 27 (dk_at dksX2_pickUp_0 17 rfl rfl)
theorem dX2_pickUp_20 : decode cX2_pickUp 20 = .ok (.invokevirtual 69, 3) := dk_182 0 69 (dk_at dksX2_pickUp_0 20 rfl rfl)
theorem dX2_pickUp_23 : decode cX2_pickUp 23 = .ok (.if_icmp .ge 54, 3) := dk_162 0 54 (dk_at dksX2_pickUp_1 0 rfl rfl)
theorem dX2_pickUp_26 : decode cX2_pickUp 26 = .ok (.aload_n 0, 1) := dk_42 (dk_at dksX2_pickUp_1 3 rfl rfl)
theorem dX2_pickUp_27 : decode cX2_pickUp 27 = .ok (.getfield 27, 3) := dk_180 0 27 (dk_at dksX2_pickUp_1 4 rfl rfl)
theorem dX2_pickUp_30 : decode cX2_pickUp 30 = .ok (.iload_n 3, 1) := dk_29 (dk_at dksX2_pickUp_1 7 rfl rfl)
theorem dX2_pickUp_31 : decode cX2_pickUp 31 = .ok (.invokevirtual 73, 3) := dk_182 0 73 (dk_at dksX2_pickUp_1 8 rfl rfl)
theorem dX2_pickUp_34 : decode cX2_pickUp 34 = .ok (.checkcast 91, 3) := dk_192 0 91 (dk_at dksX2_pickUp_1 11 rfl rfl)
theorem dX2_pickUp_37 : decode cX2_pickUp 37 = .ok (.astore 4, 2) := dk_58 4 (dk_at dksX2_pickUp_1 14 rfl rfl)
theorem dX2_pickUp_39 : decode cX2_pickUp 39 = .ok (.aload 4, 2) := dk_25 4 (dk_at dksX2_pickUp_1 16 rfl rfl)
theorem dX2_pickUp_41 : decode cX2_pickUp 41 = .ok (.invokevirtual 273, 3) := dk_182 1 17 (dk_at dksX2_pickUp_1 18 rfl rfl)
theorem dX2_pickUp_44 : decode cX2_pickUp 44 = .ok (.ifCond .eq 27, 3) := dk_153 0 27 (dk_at dksX2_pickUp_1 21 rfl rfl)
theorem dX2_pickUp_47 : decode cX2_pickUp 47 = .ok (.aload 4, 2) := dk_25 4 (dk_at dksX2_pickUp_2 0 rfl rfl)
theorem dX2_pickUp_49 : decode cX2_pickUp 49 = .ok (.getfield 276, 3) := dk_180 1 20 (dk_at dksX2_pickUp_2 2 rfl rfl)
theorem dX2_pickUp_52 : decode cX2_pickUp 52 = .ok (.aload_n 0, 1) := dk_42 (dk_at dksX2_pickUp_2 5 rfl rfl)
theorem dX2_pickUp_53 : decode cX2_pickUp 53 = .ok (.getfield 23, 3) := dk_180 0 23 (dk_at dksX2_pickUp_2 6 rfl rfl)
theorem dX2_pickUp_56 : decode cX2_pickUp 56 = .ok (.iload_n 1, 1) := dk_27 (dk_at dksX2_pickUp_2 9 rfl rfl)
theorem dX2_pickUp_57 : decode cX2_pickUp 57 = .ok (.aaload, 1) := dk_50 (dk_at dksX2_pickUp_2 10 rfl rfl)
theorem dX2_pickUp_58 : decode cX2_pickUp 58 = .ok (.getfield 140, 3) := dk_180 0 140 (dk_at dksX2_pickUp_2 11 rfl rfl)
theorem dX2_pickUp_61 : decode cX2_pickUp 61 = .ok (.if_icmp .ne 10, 3) := dk_160 0 10 (dk_at dksX2_pickUp_2 14 rfl rfl)
theorem dX2_pickUp_64 : decode cX2_pickUp 64 = .ok (.aload_n 2, 1) := dk_44 (dk_at dksX2_pickUp_2 17 rfl rfl)
theorem dX2_pickUp_65 : decode cX2_pickUp 65 = .ok (.aload 4, 2) := dk_25 4 (dk_at dksX2_pickUp_2 18 rfl rfl)
theorem dX2_pickUp_67 : decode cX2_pickUp 67 = .ok (.invokevirtual 277, 3) := dk_182 1 21 (dk_at dksX2_pickUp_2 20 rfl rfl)
theorem dX2_pickUp_70 : decode cX2_pickUp 70 = .ok (.pop, 1) := dk_87 (dk_at dksX2_pickUp_2 23 rfl rfl)
theorem dX2_pickUp_71 : decode cX2_pickUp 71 = .ok (.iinc 3 1, 3) := dk_132 3 1 (dk_at dksX2_pickUp_3 0 rfl rfl)
theorem dX2_pickUp_74 : decode cX2_pickUp 74 = .ok (.goto (-59), 3) := dk_167 255 197 (dk_at dksX2_pickUp_3 3 rfl rfl)
theorem dX2_pickUp_77 : decode cX2_pickUp 77 = .ok (.aload_n 2, 1) := dk_44 (dk_at dksX2_pickUp_3 6 rfl rfl)
theorem dX2_pickUp_78 : decode cX2_pickUp 78 = .ok (.invokevirtual 278, 3) := dk_182 1 22 (dk_at dksX2_pickUp_3 7 rfl rfl)
theorem dX2_pickUp_81 : decode cX2_pickUp 81 = .ok (.checkcast 91, 3) := dk_192 0 91 (dk_at dksX2_pickUp_3 10 rfl rfl)
theorem dX2_pickUp_84 : decode cX2_pickUp 84 = .ok (.astore_n 3, 1) := dk_78 (dk_at dksX2_pickUp_3 13 rfl rfl)
theorem dX2_pickUp_85 : decode cX2_pickUp 85 = .ok (.aload_n 3, 1) := dk_45 (dk_at dksX2_pickUp_3 14 rfl rfl)
theorem dX2_pickUp_86 : decode cX2_pickUp 86 = .ok (.ifnull 41, 3) := dk_198 0 41 (dk_at dksX2_pickUp_3 15 rfl rfl)
theorem dX2_pickUp_89 : decode cX2_pickUp 89 = .ok (.aload_n 3, 1) := dk_45 (dk_at dksX2_pickUp_3 18 rfl rfl)
theorem dX2_pickUp_90 : decode cX2_pickUp 90 = .ok (.aload_n 0, 1) := dk_42 (dk_at dksX2_pickUp_3 19 rfl rfl)
theorem dX2_pickUp_91 : decode cX2_pickUp 91 = .ok (.iload_n 1, 1) := dk_27 (dk_at dksX2_pickUp_3 20 rfl rfl)
theorem dX2_pickUp_92 : decode cX2_pickUp 92 = .ok (.invokevirtual 207, 3) := dk_182 0 207 (dk_at dksX2_pickUp_3 21 rfl rfl)
theorem dX2_pickUp_95 : decode cX2_pickUp 95 = .ok (.aload_n 3, 1) := dk_45 (dk_at dksX2_pickUp_4 0 rfl rfl)
theorem dX2_pickUp_96 : decode cX2_pickUp 96 = .ok (.getfield 195, 3) := dk_180 0 195 (dk_at dksX2_pickUp_4 1 rfl rfl)
theorem dX2_pickUp_99 : decode cX2_pickUp 99 = .ok (.iadd, 1) := dk_96 (dk_at dksX2_pickUp_4 4 rfl rfl)
theorem dX2_pickUp_100 : decode cX2_pickUp 100 = .ok (.aload_n 0, 1) := dk_42 (dk_at dksX2_pickUp_4 5 rfl rfl)
theorem dX2_pickUp_101 : decode cX2_pickUp 101 = .ok (.iload_n 1, 1) := dk_27 (dk_at dksX2_pickUp_4 6 rfl rfl)
theorem dX2_pickUp_102 : decode cX2_pickUp 102 = .ok (.invokevirtual 281, 3) := dk_182 1 25 (dk_at dksX2_pickUp_4 7 rfl rfl)
theorem dX2_pickUp_105 : decode cX2_pickUp 105 = .ok (.if_icmp .gt 7, 3) := dk_163 0 7 (dk_at dksX2_pickUp_4 10 rfl rfl)
theorem dX2_pickUp_108 : decode cX2_pickUp 108 = .ok (.iload_n 1, 1) := dk_27 (dk_at dksX2_pickUp_4 13 rfl rfl)
theorem dX2_pickUp_109 : decode cX2_pickUp 109 = .ok (.goto 4, 3) := dk_167 0 4 (dk_at dksX2_pickUp_4 14 rfl rfl)
theorem dX2_pickUp_112 : decode cX2_pickUp 112 = .ok (.iconst (-1), 1) := dk_2 (dk_at dksX2_pickUp_4 17 rfl rfl)
theorem dX2_pickUp_113 : decode cX2_pickUp 113 = .ok (.putfield 284, 3) := dk_181 1 28 (dk_at dksX2_pickUp_4 18 rfl rfl)
theorem dX2_pickUp_116 : decode cX2_pickUp 116 = .ok (.aload_n 2, 1) := dk_44 (dk_at dksX2_pickUp_4 21 rfl rfl)
theorem dX2_pickUp_117 : decode cX2_pickUp 117 = .ok (.invokevirtual 278, 3) := dk_182 1 22 (dk_at dksX2_pickUp_5 0 rfl rfl)
theorem dX2_pickUp_120 : decode cX2_pickUp 120 = .ok (.checkcast 91, 3) := dk_192 0 91 (dk_at dksX2_pickUp_5 3 rfl rfl)
theorem dX2_pickUp_123 : decode cX2_pickUp 123 = .ok (.astore_n 3, 1) := dk_78 (dk_at dksX2_pickUp_5 6 rfl rfl)
theorem dX2_pickUp_124 : decode cX2_pickUp 124 = .ok (.goto (-39), 3) := dk_167 255 217 (dk_at dksX2_pickUp_5 7 rfl rfl)
theorem dX2_pickUp_127 : decode cX2_pickUp 127 = .ok (.return_, 1) := dk_177 (dk_at dksX2_pickUp_5 10 rfl rfl)
abbrev cX2_canCarry : ByteArray := prog_8_method_14_code
def yX2_canCarry : MethodName := ⟨RX2, "canCarry", "(I)I"⟩
def dkwX2_canCarry_0 : List UInt8 := [42, 180, 0, 47, 42, 180, 0, 23, 27, 50, 180, 0, 198, 182, 0, 202, 104, 172]
abbrev dktX2_canCarry_0 : List UInt8 := dkwX2_canCarry_0 ++ []
theorem dksX2_canCarry_0 : cX2_canCarry.data.toList.drop 0 = dktX2_canCarry_0 := by decide +kernel
theorem dX2_canCarry_0 : decode cX2_canCarry 0 = .ok (.aload_n 0, 1) := dk_42 (dk_at dksX2_canCarry_0 0 rfl rfl)
theorem dX2_canCarry_1 : decode cX2_canCarry 1 = .ok (.getfield 47, 3) := dk_180 0 47 (dk_at dksX2_canCarry_0 1 rfl rfl)
theorem dX2_canCarry_4 : decode cX2_canCarry 4 = .ok (.aload_n 0, 1) := dk_42 (dk_at dksX2_canCarry_0 4 rfl rfl)
theorem dX2_canCarry_5 : decode cX2_canCarry 5 = .ok (.getfield 23, 3) := dk_180 0 23 (dk_at dksX2_canCarry_0 5 rfl rfl)
theorem dX2_canCarry_8 : decode cX2_canCarry 8 = .ok (.iload_n 1, 1) := dk_27 (dk_at dksX2_canCarry_0 8 rfl rfl)
theorem dX2_canCarry_9 : decode cX2_canCarry 9 = .ok (.aaload, 1) := dk_50 (dk_at dksX2_canCarry_0 9 rfl rfl)
theorem dX2_canCarry_10 : decode cX2_canCarry 10 = .ok (.getfield 198, 3) := dk_180 0 198 (dk_at dksX2_canCarry_0 10 rfl rfl)
theorem dX2_canCarry_13 : decode cX2_canCarry 13 = .ok (.invokevirtual 202, 3) := dk_182 0 202 (dk_at dksX2_canCarry_0 13 rfl rfl)
theorem dX2_canCarry_16 : decode cX2_canCarry 16 = .ok (.imul, 1) := dk_104 (dk_at dksX2_canCarry_0 16 rfl rfl)
theorem dX2_canCarry_17 : decode cX2_canCarry 17 = .ok (.ireturn, 1) := dk_172 (dk_at dksX2_canCarry_0 17 rfl rfl)
theorem q97 : (Jvm.Cond.initialized "CourierClash$Game") ∈ lw_all := lw_g (lw_at lw_m1 2 rfl) rfl
theorem q161 : (Jvm.Cond.instantiable "CourierClash$Game" (13 : Nat)) ∈ lw_all := lw_g (lw_at lw_m1 66 rfl) rfl
theorem q163 : (Jvm.Cond.instanceMethod ({ cls := "CourierClash$Game", name := "<init>", desc := "()V" } : Jvm.MethodName)) ∈ lw_all := lw_g (lw_at lw_m1 68 rfl) rfl
theorem q164 : (Jvm.Cond.code ({ cls := "CourierClash$Game", name := "<init>", desc := "()V" } : Jvm.MethodName) prog_8_method_1_code (1 : Nat) (Option.none : Option Jvm.ClassFile.FieldType)) ∈ lw_all := lw_g (lw_at lw_m1 69 rfl) rfl
theorem q165 : (Jvm.Cond.methodLink "CourierClash$Game" (3 : Nat) ({ cls := "java/lang/Object", name := "<init>", desc := "()V" } : Jvm.MethodName)) ∈ lw_all := lw_g (lw_at lw_m1 70 rfl) rfl
theorem q166 : (Jvm.Cond.classLink "CourierClash$Game" (9 : Nat) "java/util/ArrayList") ∈ lw_all := lw_g (lw_at lw_m1 71 rfl) rfl
theorem q168 : (Jvm.Cond.methodLink "CourierClash$Game" (11 : Nat) ({ cls := "java/util/ArrayList", name := "<init>", desc := "()V" } : Jvm.MethodName)) ∈ lw_all := lw_g (lw_at lw_m1 73 rfl) rfl
theorem q192 : (Jvm.Cond.classLink "CourierClash$Game" (18 : Nat) "CourierClash$Courier") ∈ lw_all := lw_g (lw_at lw_m1 97 rfl) rfl
theorem q195 : (Jvm.Cond.methodLink "CourierClash$Game" (20 : Nat) ({ cls := "CourierClash$Courier", name := "<init>", desc := "(I)V" } : Jvm.MethodName)) ∈ lw_all := lw_g (lw_at lw_m1 100 rfl) rfl
theorem q210 : (Jvm.Cond.fieldLinkNest "CourierClash$Game" (140 : Nat) "CourierClash$Courier" "junction" "I" "CourierClash") ∈ lw_tbl := lw_at lw_m1 115 rfl
theorem q213 : (Jvm.Cond.fieldLinkNest "CourierClash$Game" (198 : Nat) "CourierClash$Courier" "vehicle" "LCourierClash$Vehicle;" "CourierClash") ∈ lw_tbl := lw_at lw_m1 118 rfl
theorem q216 : (Jvm.Cond.fieldLinkNest "CourierClash$Game" (188 : Nat) "CourierClash$Courier" "order" "I" "CourierClash") ∈ lw_tbl := lw_at lw_m1 121 rfl
theorem q219 : (Jvm.Cond.fieldLinkNest "CourierClash$Game" (256 : Nat) "CourierClash$Courier" "moves" "I" "CourierClash") ∈ lw_tbl := lw_at lw_m1 124 rfl
theorem q222 : (Jvm.Cond.fieldLinkNest "CourierClash$Game" (253 : Nat) "CourierClash$Courier" "outcome" "I" "CourierClash") ∈ lw_tbl := lw_at lw_m1 127 rfl
theorem q235 : (Jvm.Cond.classLink "CourierClash$Game" (30 : Nat) "java/util/TreeMap") ∈ lw_all := lw_g (lw_at lw_m1 140 rfl) rfl
theorem q237 : (Jvm.Cond.methodLinkNest "CourierClash$Game" (32 : Nat) ({ cls := "CourierClash", name := "byRows", desc := "()Ljava/util/Comparator;" } : Jvm.MethodName) "CourierClash") ∈ lw_tbl := lw_at lw_m1 142 rfl
theorem q247 : (Jvm.Cond.methodLink "CourierClash$Game" (36 : Nat) ({ cls := "java/util/TreeMap", name := "<init>", desc := "(Ljava/util/Comparator;)V" } : Jvm.MethodName)) ∈ lw_all := lw_g (lw_at lw_m1 152 rfl) rfl
theorem q279 : (Jvm.Cond.fieldLink "CourierClash$Game" (12 : Nat) "CourierClash$Game" "streets" "Ljava/util/ArrayList;") ∈ lw_all := lw_g (lw_at lw_m1 184 rfl) rfl
theorem q282 : (Jvm.Cond.fieldLink "CourierClash$Game" (23 : Nat) "CourierClash$Game" "couriers" "[LCourierClash$Courier;") ∈ lw_all := lw_g (lw_at lw_m1 187 rfl) rfl
theorem q284 : (Jvm.Cond.fieldLink "CourierClash$Game" (27 : Nat) "CourierClash$Game" "parcels" "Ljava/util/ArrayList;") ∈ lw_all := lw_g (lw_at lw_m1 189 rfl) rfl
theorem q286 : (Jvm.Cond.fieldLink "CourierClash$Game" (39 : Nat) "CourierClash$Game" "notes" "Ljava/util/TreeMap;") ∈ lw_all := lw_g (lw_at lw_m1 191 rfl) rfl
theorem q288 : (Jvm.Cond.fieldLink "CourierClash$Game" (43 : Nat) "CourierClash$Game" "points" "[I") ∈ lw_all := lw_g (lw_at lw_m1 193 rfl) rfl
theorem q290 : (Jvm.Cond.fieldLink "CourierClash$Game" (47 : Nat) "CourierClash$Game" "capacity" "I") ∈ lw_all := lw_g (lw_at lw_m1 195 rfl) rfl
theorem q292 : (Jvm.Cond.fieldLink "CourierClash$Game" (51 : Nat) "CourierClash$Game" "limit" "I") ∈ lw_all := lw_g (lw_at lw_m1 197 rfl) rfl
theorem q294 : (Jvm.Cond.fieldLink "CourierClash$Game" (134 : Nat) "CourierClash$Game" "turns" "I") ∈ lw_all := lw_g (lw_at lw_m1 199 rfl) rfl
theorem q296 : (Jvm.Cond.fieldLink "CourierClash$Game" (137 : Nat) "CourierClash$Game" "failed" "I") ∈ lw_all := lw_g (lw_at lw_m1 201 rfl) rfl
theorem q298 : (Jvm.Cond.fieldLink "CourierClash$Game" (54 : Nat) "CourierClash$Game" "stop" "I") ∈ lw_all := lw_g (lw_at lw_m1 203 rfl) rfl
theorem q300 : (Jvm.Cond.fieldLink "CourierClash$Game" (57 : Nat) "CourierClash$Game" "row" "[I") ∈ lw_all := lw_g (lw_at lw_m1 205 rfl) rfl
theorem q301 : (Jvm.Cond.fieldLink "CourierClash$Game" (60 : Nat) "CourierClash$Game" "why" "[I") ∈ lw_all := lw_g (lw_at lw_m1 206 rfl) rfl
theorem q302 : (Jvm.Cond.fieldLink "CourierClash$Game" (63 : Nat) "CourierClash$Game" "whyNext" "[I") ∈ lw_all := lw_g (lw_at lw_m1 207 rfl) rfl
theorem q303 : (Jvm.Cond.laysFinal "CourierClash$Game" "CourierClash$Game" "streets" "Ljava/util/ArrayList;") ∈ lw_all := lw_g (lw_at lw_m1 208 rfl) rfl
theorem q304 : (Jvm.Cond.soleField "CourierClash$Game" "streets") ∈ lw_all := lw_g (lw_at lw_m1 209 rfl) rfl
theorem q305 : (Jvm.Cond.laysFinal "CourierClash$Game" "CourierClash$Game" "couriers" "[LCourierClash$Courier;") ∈ lw_all := lw_g (lw_at lw_m1 210 rfl) rfl
theorem q306 : (Jvm.Cond.soleField "CourierClash$Game" "couriers") ∈ lw_all := lw_g (lw_at lw_m1 211 rfl) rfl
theorem q307 : (Jvm.Cond.laysFinal "CourierClash$Game" "CourierClash$Game" "parcels" "Ljava/util/ArrayList;") ∈ lw_all := lw_g (lw_at lw_m1 212 rfl) rfl
theorem q308 : (Jvm.Cond.soleField "CourierClash$Game" "parcels") ∈ lw_all := lw_g (lw_at lw_m1 213 rfl) rfl
theorem q309 : (Jvm.Cond.laysFinal "CourierClash$Game" "CourierClash$Game" "notes" "Ljava/util/TreeMap;") ∈ lw_all := lw_g (lw_at lw_m1 214 rfl) rfl
theorem q310 : (Jvm.Cond.soleField "CourierClash$Game" "notes") ∈ lw_all := lw_g (lw_at lw_m1 215 rfl) rfl
theorem q311 : (Jvm.Cond.laysFinal "CourierClash$Game" "CourierClash$Game" "points" "[I") ∈ lw_all := lw_g (lw_at lw_m1 216 rfl) rfl
theorem q312 : (Jvm.Cond.soleField "CourierClash$Game" "points") ∈ lw_all := lw_g (lw_at lw_m1 217 rfl) rfl
theorem q313 : (Jvm.Cond.lays "CourierClash$Game" "CourierClash$Game" "capacity" "I") ∈ lw_all := lw_g (lw_at lw_m1 218 rfl) rfl
theorem q314 : (Jvm.Cond.soleField "CourierClash$Game" "capacity") ∈ lw_all := lw_g (lw_at lw_m1 219 rfl) rfl
theorem q315 : (Jvm.Cond.lays "CourierClash$Game" "CourierClash$Game" "limit" "I") ∈ lw_all := lw_g (lw_at lw_m1 220 rfl) rfl
theorem q316 : (Jvm.Cond.soleField "CourierClash$Game" "limit") ∈ lw_all := lw_g (lw_at lw_m1 221 rfl) rfl
theorem q317 : (Jvm.Cond.lays "CourierClash$Game" "CourierClash$Game" "turns" "I") ∈ lw_all := lw_g (lw_at lw_m1 222 rfl) rfl
theorem q318 : (Jvm.Cond.soleField "CourierClash$Game" "turns") ∈ lw_all := lw_g (lw_at lw_m1 223 rfl) rfl
theorem q319 : (Jvm.Cond.lays "CourierClash$Game" "CourierClash$Game" "failed" "I") ∈ lw_all := lw_g (lw_at lw_m1 224 rfl) rfl
theorem q320 : (Jvm.Cond.soleField "CourierClash$Game" "failed") ∈ lw_all := lw_g (lw_at lw_m1 225 rfl) rfl
theorem q321 : (Jvm.Cond.lays "CourierClash$Game" "CourierClash$Game" "stop" "I") ∈ lw_all := lw_g (lw_at lw_m1 226 rfl) rfl
theorem q322 : (Jvm.Cond.soleField "CourierClash$Game" "stop") ∈ lw_all := lw_g (lw_at lw_m1 227 rfl) rfl
theorem q323 : (Jvm.Cond.laysFinal "CourierClash$Game" "CourierClash$Game" "row" "[I") ∈ lw_all := lw_g (lw_at lw_m1 228 rfl) rfl
theorem q324 : (Jvm.Cond.soleField "CourierClash$Game" "row") ∈ lw_all := lw_g (lw_at lw_m1 229 rfl) rfl
theorem q325 : (Jvm.Cond.laysFinal "CourierClash$Game" "CourierClash$Game" "why" "[I") ∈ lw_all := lw_g (lw_at lw_m1 230 rfl) rfl
theorem q326 : (Jvm.Cond.soleField "CourierClash$Game" "why") ∈ lw_all := lw_g (lw_at lw_m1 231 rfl) rfl
theorem q327 : (Jvm.Cond.laysFinal "CourierClash$Game" "CourierClash$Game" "whyNext" "[I") ∈ lw_all := lw_g (lw_at lw_m1 232 rfl) rfl
theorem q328 : (Jvm.Cond.soleField "CourierClash$Game" "whyNext") ∈ lw_all := lw_g (lw_at lw_m1 233 rfl) rfl
theorem q329 : (Jvm.Cond.superclass "CourierClash$Game" "java/lang/Object") ∈ lw_all := lw_g (lw_at lw_m1 234 rfl) rfl
theorem q384 : (Jvm.Cond.instanceMethod ({ cls := "CourierClash$Game", name := "noteAnew", desc := "()V" } : Jvm.MethodName)) ∈ lw_all := lw_g (lw_at lw_m2 49 rfl) rfl
theorem q385 : (Jvm.Cond.selects "CourierClash$Game" ({ cls := "CourierClash$Game", name := "noteAnew", desc := "()V" } : Jvm.MethodName) ({ cls := "CourierClash$Game", name := "noteAnew", desc := "()V" } : Jvm.MethodName)) ∈ lw_all := lw_g (lw_at lw_m2 50 rfl) rfl
theorem q386 : (Jvm.Cond.code ({ cls := "CourierClash$Game", name := "noteAnew", desc := "()V" } : Jvm.MethodName) prog_8_method_6_code (1 : Nat) (Option.none : Option Jvm.ClassFile.FieldType)) ∈ lw_all := lw_g (lw_at lw_m2 51 rfl) rfl
theorem q387 : (Jvm.Cond.methodLink "CourierClash$Game" (96 : Nat) ({ cls := "java/util/TreeMap", name := "clear", desc := "()V" } : Jvm.MethodName)) ∈ lw_all := lw_g (lw_at lw_m2 52 rfl) rfl
theorem q391 : (Jvm.Cond.methodLink "CourierClash$Game" (163 : Nat) ({ cls := "CourierClash$Game", name := "note", desc := "()V" } : Jvm.MethodName)) ∈ lw_all := lw_g (lw_at lw_m2 56 rfl) rfl
theorem q392 : (Jvm.Cond.privateMethod ({ cls := "CourierClash$Game", name := "note", desc := "()V" } : Jvm.MethodName)) ∈ lw_tbl := lw_at lw_m2 57 rfl
theorem q393 : (Jvm.Cond.instanceMethod ({ cls := "CourierClash$Game", name := "note", desc := "()V" } : Jvm.MethodName)) ∈ lw_all := lw_g (lw_at lw_m2 58 rfl) rfl
theorem q394 : (Jvm.Cond.code ({ cls := "CourierClash$Game", name := "note", desc := "()V" } : Jvm.MethodName) prog_8_method_5_code (1 : Nat) (Option.none : Option Jvm.ClassFile.FieldType)) ∈ lw_all := lw_g (lw_at lw_m2 59 rfl) rfl
theorem q395 : (Jvm.Cond.methodLink "CourierClash$Game" (149 : Nat) ({ cls := "CourierClash$Game", name := "position", desc := "()LCourierClash$Position;" } : Jvm.MethodName)) ∈ lw_all := lw_g (lw_at lw_m2 60 rfl) rfl
theorem q396 : (Jvm.Cond.privateMethod ({ cls := "CourierClash$Game", name := "position", desc := "()LCourierClash$Position;" } : Jvm.MethodName)) ∈ lw_tbl := lw_at lw_m2 61 rfl
theorem q397 : (Jvm.Cond.instanceMethod ({ cls := "CourierClash$Game", name := "position", desc := "()LCourierClash$Position;" } : Jvm.MethodName)) ∈ lw_all := lw_g (lw_at lw_m2 62 rfl) rfl
theorem q398 : (Jvm.Cond.code ({ cls := "CourierClash$Game", name := "position", desc := "()LCourierClash$Position;" } : Jvm.MethodName) prog_8_method_3_code (2 : Nat) (Option.some (Jvm.ClassFile.FieldType.object "CourierClash$Position"))) ∈ lw_all := lw_g (lw_at lw_m2 63 rfl) rfl
theorem q399 : (Jvm.Cond.methodLink "CourierClash$Game" (69 : Nat) ({ cls := "java/util/ArrayList", name := "size", desc := "()I" } : Jvm.MethodName)) ∈ lw_all := lw_g (lw_at lw_m2 64 rfl) rfl
theorem q403 : (Jvm.Cond.methodLink "CourierClash$Game" (73 : Nat) ({ cls := "java/util/ArrayList", name := "get", desc := "(I)Ljava/lang/Object;" } : Jvm.MethodName)) ∈ lw_all := lw_g (lw_at lw_m2 68 rfl) rfl
theorem q417 : (Jvm.Cond.classLink "CourierClash$Game" (91 : Nat) "CourierClash$Parcel") ∈ lw_all := lw_g (lw_at lw_m2 82 rfl) rfl
theorem q418 : (Jvm.Cond.methodLink "CourierClash$Game" (143 : Nat) ({ cls := "CourierClash$Parcel", name := "code", desc := "()I" } : Jvm.MethodName)) ∈ lw_all := lw_g (lw_at lw_m2 83 rfl) rfl
theorem q426 : (Jvm.Cond.classLink "CourierClash$Game" (117 : Nat) "CourierClash$Position") ∈ lw_all := lw_g (lw_at lw_m2 91 rfl) rfl
theorem q428 : (Jvm.Cond.methodLink "CourierClash$Game" (146 : Nat) ({ cls := "CourierClash$Position", name := "<init>", desc := "([I)V" } : Jvm.MethodName)) ∈ lw_all := lw_g (lw_at lw_m2 93 rfl) rfl
theorem q444 : (Jvm.Cond.methodLink "CourierClash$Game" (156 : Nat) ({ cls := "CourierClash$Game", name := "timesNoted", desc := "()I" } : Jvm.MethodName)) ∈ lw_all := lw_g (lw_at lw_m2 109 rfl) rfl
theorem q445 : (Jvm.Cond.instanceMethod ({ cls := "CourierClash$Game", name := "timesNoted", desc := "()I" } : Jvm.MethodName)) ∈ lw_all := lw_g (lw_at lw_m2 110 rfl) rfl
theorem q446 : (Jvm.Cond.selects "CourierClash$Game" ({ cls := "CourierClash$Game", name := "timesNoted", desc := "()I" } : Jvm.MethodName) ({ cls := "CourierClash$Game", name := "timesNoted", desc := "()I" } : Jvm.MethodName)) ∈ lw_all := lw_g (lw_at lw_m2 111 rfl) rfl
theorem q447 : (Jvm.Cond.code ({ cls := "CourierClash$Game", name := "timesNoted", desc := "()I" } : Jvm.MethodName) prog_8_method_4_code (2 : Nat) (Option.some Jvm.ClassFile.FieldType.int)) ∈ lw_all := lw_g (lw_at lw_m2 112 rfl) rfl
theorem q448 : (Jvm.Cond.methodLink "CourierClash$Game" (119 : Nat) ({ cls := "java/util/TreeMap", name := "get", desc := "(Ljava/lang/Object;)Ljava/lang/Object;" } : Jvm.MethodName)) ∈ lw_all := lw_g (lw_at lw_m2 113 rfl) rfl
theorem q730 : (Jvm.Cond.classLink "CourierClash$Game" (122 : Nat) "java/lang/Integer") ∈ lw_all := lw_g (lw_at lw_m3 155 rfl) rfl
theorem q731 : (Jvm.Cond.methodLink "CourierClash$Game" (153 : Nat) ({ cls := "java/lang/Integer", name := "intValue", desc := "()I" } : Jvm.MethodName)) ∈ lw_all := lw_g (lw_at lw_m3 156 rfl) rfl
theorem q735 : (Jvm.Cond.methodLink "CourierClash$Game" (159 : Nat) ({ cls := "java/lang/Integer", name := "valueOf", desc := "(I)Ljava/lang/Integer;" } : Jvm.MethodName)) ∈ lw_all := lw_g (lw_at lw_m3 160 rfl) rfl
theorem q754 : (Jvm.Cond.methodLink "CourierClash$Game" (124 : Nat) ({ cls := "java/util/TreeMap", name := "put", desc := "(Ljava/lang/Object;Ljava/lang/Object;)Ljava/lang/Object;" } : Jvm.MethodName)) ∈ lw_all := lw_g (lw_at lw_m3 179 rfl) rfl
theorem q1251 : (Jvm.Cond.instanceMethod ({ cls := "CourierClash$Game", name := "become", desc := "(LCourierClash$Game;)LCourierClash$Game;" } : Jvm.MethodName)) ∈ lw_all := lw_g (lw_at lw_m5 196 rfl) rfl
theorem q1252 : (Jvm.Cond.selects "CourierClash$Game" ({ cls := "CourierClash$Game", name := "become", desc := "(LCourierClash$Game;)LCourierClash$Game;" } : Jvm.MethodName) ({ cls := "CourierClash$Game", name := "become", desc := "(LCourierClash$Game;)LCourierClash$Game;" } : Jvm.MethodName)) ∈ lw_all := lw_g (lw_at lw_m5 197 rfl) rfl
theorem q1253 : (Jvm.Cond.code ({ cls := "CourierClash$Game", name := "become", desc := "(LCourierClash$Game;)LCourierClash$Game;" } : Jvm.MethodName) prog_8_method_2_code (4 : Nat) (Option.some (Jvm.ClassFile.FieldType.object "CourierClash$Game"))) ∈ lw_all := lw_g (lw_at lw_m5 198 rfl) rfl
theorem q1254 : (Jvm.Cond.methodLink "CourierClash$Game" (66 : Nat) ({ cls := "java/util/ArrayList", name := "clear", desc := "()V" } : Jvm.MethodName)) ∈ lw_all := lw_g (lw_at lw_m5 199 rfl) rfl
theorem q1258 : (Jvm.Cond.classLink "CourierClash$Game" (77 : Nat) "CourierClash$Street") ∈ lw_all := lw_g (lw_at lw_m5 203 rfl) rfl
theorem q1259 : (Jvm.Cond.methodLink "CourierClash$Game" (79 : Nat) ({ cls := "CourierClash$Street", name := "again", desc := "()LCourierClash$Street;" } : Jvm.MethodName)) ∈ lw_all := lw_g (lw_at lw_m5 204 rfl) rfl
theorem q1271 : (Jvm.Cond.fieldLinkNest "CourierClash$Game" (176 : Nat) "CourierClash$Street" "from" "I" "CourierClash") ∈ lw_tbl := lw_at lw_m5 216 rfl
theorem q1275 : (Jvm.Cond.fieldLinkNest "CourierClash$Game" (179 : Nat) "CourierClash$Street" "to" "I" "CourierClash") ∈ lw_tbl := lw_at lw_m5 220 rfl
theorem q1279 : (Jvm.Cond.fieldLinkNest "CourierClash$Game" (185 : Nat) "CourierClash$Street" "isOpen" "Z" "CourierClash") ∈ lw_tbl := lw_at lw_m5 224 rfl
theorem q1290 : (Jvm.Cond.methodLink "CourierClash$Game" (83 : Nat) ({ cls := "java/util/ArrayList", name := "add", desc := "(Ljava/lang/Object;)Z" } : Jvm.MethodName)) ∈ lw_all := lw_g (lw_at lw_m5 235 rfl) rfl
theorem q1320 : (Jvm.Cond.selects "CourierClash$Game" ({ cls := "java/lang/Object", name := "getClass", desc := "()Ljava/lang/Class;" } : Jvm.MethodName) ({ cls := "java/lang/Object", name := "getClass", desc := "()Ljava/lang/Class;" } : Jvm.MethodName)) ∈ lw_all := lw_g (lw_at lw_m6 25 rfl) rfl
theorem q1353 : (Jvm.Cond.methodLink "CourierClash$Game" (87 : Nat) ({ cls := "CourierClash$Courier", name := "become", desc := "(LCourierClash$Courier;)V" } : Jvm.MethodName)) ∈ lw_all := lw_g (lw_at lw_m6 58 rfl) rfl
theorem q1357 : (Jvm.Cond.methodLink "CourierClash$Game" (93 : Nat) ({ cls := "CourierClash$Parcel", name := "again", desc := "()LCourierClash$Parcel;" } : Jvm.MethodName)) ∈ lw_all := lw_g (lw_at lw_m6 62 rfl) rfl
theorem q1372 : (Jvm.Cond.fieldLinkNest "CourierClash$Game" (259 : Nat) "CourierClash$Parcel" "target" "I" "CourierClash") ∈ lw_tbl := lw_at lw_m6 77 rfl
theorem q1376 : (Jvm.Cond.fieldLinkNest "CourierClash$Game" (195 : Nat) "CourierClash$Parcel" "weight" "I" "CourierClash") ∈ lw_tbl := lw_at lw_m6 81 rfl
theorem q1381 : (Jvm.Cond.fieldLinkNest "CourierClash$Game" (262 : Nat) "CourierClash$Parcel" "value" "I" "CourierClash") ∈ lw_tbl := lw_at lw_m6 86 rfl
theorem q1383 : (Jvm.Cond.fieldLinkNest "CourierClash$Game" (276 : Nat) "CourierClash$Parcel" "junction" "I" "CourierClash") ∈ lw_tbl := lw_at lw_m6 88 rfl
theorem q1386 : (Jvm.Cond.fieldLinkNest "CourierClash$Game" (284 : Nat) "CourierClash$Parcel" "courier" "I" "CourierClash") ∈ lw_tbl := lw_at lw_m6 91 rfl
theorem q1389 : (Jvm.Cond.fieldLinkNest "CourierClash$Game" (169 : Nat) "CourierClash$Parcel" "isDelivered" "Z" "CourierClash") ∈ lw_tbl := lw_at lw_m6 94 rfl
theorem q1406 : (Jvm.Cond.methodLink "CourierClash$Game" (97 : Nat) ({ cls := "java/util/TreeMap", name := "keySet", desc := "()Ljava/util/Set;" } : Jvm.MethodName)) ∈ lw_all := lw_g (lw_at lw_m6 111 rfl) rfl
theorem q1427 : (Jvm.Cond.interfaceEntry "CourierClash$Game" (101 : Nat)) ∈ lw_tbl := lw_at lw_m6 132 rfl
theorem q1428 : (Jvm.Cond.methodLink "CourierClash$Game" (101 : Nat) ({ cls := "java/util/Set", name := "iterator", desc := "()Ljava/util/Iterator;" } : Jvm.MethodName)) ∈ lw_all := lw_g (lw_at lw_m6 133 rfl) rfl
theorem q1472 : (Jvm.Cond.interfaceEntry "CourierClash$Game" (107 : Nat)) ∈ lw_tbl := lw_at lw_m6 177 rfl
theorem q1473 : (Jvm.Cond.methodLink "CourierClash$Game" (107 : Nat) ({ cls := "java/util/Iterator", name := "hasNext", desc := "()Z" } : Jvm.MethodName)) ∈ lw_all := lw_g (lw_at lw_m6 178 rfl) rfl
theorem q1482 : (Jvm.Cond.interfaceEntry "CourierClash$Game" (113 : Nat)) ∈ lw_tbl := lw_at lw_m6 187 rfl
theorem q1483 : (Jvm.Cond.methodLink "CourierClash$Game" (113 : Nat) ({ cls := "java/util/Iterator", name := "next", desc := "()Ljava/lang/Object;" } : Jvm.MethodName)) ∈ lw_all := lw_g (lw_at lw_m6 188 rfl) rfl
theorem q1500 : (Jvm.Cond.methodLink "CourierClash$Game" (128 : Nat) ({ cls := "java/lang/System", name := "arraycopy", desc := "(Ljava/lang/Object;ILjava/lang/Object;II)V" } : Jvm.MethodName)) ∈ lw_all := lw_g (lw_at lw_m6 205 rfl) rfl
theorem q1540 : (Jvm.Cond.instanceMethod ({ cls := "CourierClash$Game", name := "whyOver", desc := "()I" } : Jvm.MethodName)) ∈ lw_all := lw_g (lw_at lw_m7 5 rfl) rfl
theorem q1541 : (Jvm.Cond.selects "CourierClash$Game" ({ cls := "CourierClash$Game", name := "whyOver", desc := "()I" } : Jvm.MethodName) ({ cls := "CourierClash$Game", name := "whyOver", desc := "()I" } : Jvm.MethodName)) ∈ lw_all := lw_g (lw_at lw_m7 6 rfl) rfl
theorem q1542 : (Jvm.Cond.code ({ cls := "CourierClash$Game", name := "whyOver", desc := "()I" } : Jvm.MethodName) prog_8_method_8_code (1 : Nat) (Option.some Jvm.ClassFile.FieldType.int)) ∈ lw_all := lw_g (lw_at lw_m7 7 rfl) rfl
theorem q1543 : (Jvm.Cond.methodLink "CourierClash$Game" (173 : Nat) ({ cls := "CourierClash$Game", name := "areAllDelivered", desc := "()Z" } : Jvm.MethodName)) ∈ lw_all := lw_g (lw_at lw_m7 8 rfl) rfl
theorem q1544 : (Jvm.Cond.privateMethod ({ cls := "CourierClash$Game", name := "areAllDelivered", desc := "()Z" } : Jvm.MethodName)) ∈ lw_tbl := lw_at lw_m7 9 rfl
theorem q1545 : (Jvm.Cond.instanceMethod ({ cls := "CourierClash$Game", name := "areAllDelivered", desc := "()Z" } : Jvm.MethodName)) ∈ lw_all := lw_g (lw_at lw_m7 10 rfl) rfl
theorem q1546 : (Jvm.Cond.code ({ cls := "CourierClash$Game", name := "areAllDelivered", desc := "()Z" } : Jvm.MethodName) prog_8_method_7_code (3 : Nat) (Option.some Jvm.ClassFile.FieldType.boolean)) ∈ lw_all := lw_g (lw_at lw_m7 11 rfl) rfl
theorem q1547 : (Jvm.Cond.methodLink "CourierClash$Game" (166 : Nat) ({ cls := "java/util/ArrayList", name := "isEmpty", desc := "()Z" } : Jvm.MethodName)) ∈ lw_all := lw_g (lw_at lw_m7 12 rfl) rfl
theorem q1560 : (Jvm.Cond.instanceMethod ({ cls := "CourierClash$Game", name := "loads", desc := "()I" } : Jvm.MethodName)) ∈ lw_all := lw_g (lw_at lw_m7 25 rfl) rfl
theorem q1561 : (Jvm.Cond.selects "CourierClash$Game" ({ cls := "CourierClash$Game", name := "loads", desc := "()I" } : Jvm.MethodName) ({ cls := "CourierClash$Game", name := "loads", desc := "()I" } : Jvm.MethodName)) ∈ lw_all := lw_g (lw_at lw_m7 26 rfl) rfl
theorem q1562 : (Jvm.Cond.code ({ cls := "CourierClash$Game", name := "loads", desc := "()I" } : Jvm.MethodName) prog_8_method_32_code (3 : Nat) (Option.some Jvm.ClassFile.FieldType.int)) ∈ lw_all := lw_g (lw_at lw_m7 27 rfl) rfl
theorem q1563 : (Jvm.Cond.methodLink "CourierClash$Game" (207 : Nat) ({ cls := "CourierClash$Game", name := "loadOf", desc := "(I)I" } : Jvm.MethodName)) ∈ lw_all := lw_g (lw_at lw_m7 28 rfl) rfl
theorem q1564 : (Jvm.Cond.instanceMethod ({ cls := "CourierClash$Game", name := "loadOf", desc := "(I)I" } : Jvm.MethodName)) ∈ lw_all := lw_g (lw_at lw_m7 29 rfl) rfl
theorem q1565 : (Jvm.Cond.selects "CourierClash$Game" ({ cls := "CourierClash$Game", name := "loadOf", desc := "(I)I" } : Jvm.MethodName) ({ cls := "CourierClash$Game", name := "loadOf", desc := "(I)I" } : Jvm.MethodName)) ∈ lw_all := lw_g (lw_at lw_m7 30 rfl) rfl
theorem q1566 : (Jvm.Cond.code ({ cls := "CourierClash$Game", name := "loadOf", desc := "(I)I" } : Jvm.MethodName) prog_8_method_13_code (4 : Nat) (Option.some Jvm.ClassFile.FieldType.int)) ∈ lw_all := lw_g (lw_at lw_m7 31 rfl) rfl
theorem q1567 : (Jvm.Cond.methodLink "CourierClash$Game" (191 : Nat) ({ cls := "CourierClash$Parcel", name := "isWith", desc := "(I)Z" } : Jvm.MethodName)) ∈ lw_all := lw_g (lw_at lw_m7 32 rfl) rfl
theorem q1581 : (Jvm.Cond.instanceMethod ({ cls := "CourierClash$Game", name := "delivered", desc := "()I" } : Jvm.MethodName)) ∈ lw_all := lw_g (lw_at lw_m7 46 rfl) rfl
theorem q1582 : (Jvm.Cond.selects "CourierClash$Game" ({ cls := "CourierClash$Game", name := "delivered", desc := "()I" } : Jvm.MethodName) ({ cls := "CourierClash$Game", name := "delivered", desc := "()I" } : Jvm.MethodName)) ∈ lw_all := lw_g (lw_at lw_m7 47 rfl) rfl
theorem q1583 : (Jvm.Cond.code ({ cls := "CourierClash$Game", name := "delivered", desc := "()I" } : Jvm.MethodName) prog_8_method_30_code (3 : Nat) (Option.some Jvm.ClassFile.FieldType.int)) ∈ lw_all := lw_g (lw_at lw_m7 48 rfl) rfl
theorem q1599 : (Jvm.Cond.instanceMethod ({ cls := "CourierClash$Game", name := "pointsByParcels", desc := "(I)I" } : Jvm.MethodName)) ∈ lw_all := lw_g (lw_at lw_m7 64 rfl) rfl
theorem q1600 : (Jvm.Cond.selects "CourierClash$Game" ({ cls := "CourierClash$Game", name := "pointsByParcels", desc := "(I)I" } : Jvm.MethodName) ({ cls := "CourierClash$Game", name := "pointsByParcels", desc := "(I)I" } : Jvm.MethodName)) ∈ lw_all := lw_g (lw_at lw_m7 65 rfl) rfl
theorem q1601 : (Jvm.Cond.code ({ cls := "CourierClash$Game", name := "pointsByParcels", desc := "(I)I" } : Jvm.MethodName) prog_8_method_29_code (5 : Nat) (Option.some Jvm.ClassFile.FieldType.int)) ∈ lw_all := lw_g (lw_at lw_m7 66 rfl) rfl
theorem q1666 : (Jvm.Cond.instanceMethod ({ cls := "CourierClash$Game", name := "outcomes", desc := "()[I" } : Jvm.MethodName)) ∈ lw_all := lw_g (lw_at lw_m7 131 rfl) rfl
theorem q1667 : (Jvm.Cond.selects "CourierClash$Game" ({ cls := "CourierClash$Game", name := "outcomes", desc := "()[I" } : Jvm.MethodName) ({ cls := "CourierClash$Game", name := "outcomes", desc := "()[I" } : Jvm.MethodName)) ∈ lw_all := lw_g (lw_at lw_m7 132 rfl) rfl
theorem q1668 : (Jvm.Cond.code ({ cls := "CourierClash$Game", name := "outcomes", desc := "()[I" } : Jvm.MethodName) prog_8_method_24_code (2 : Nat) (Option.some (Jvm.ClassFile.FieldType.array Jvm.ClassFile.FieldType.int))) ∈ lw_all := lw_g (lw_at lw_m7 133 rfl) rfl
theorem q1669 : (Jvm.Cond.methodLink "CourierClash$Game" (246 : Nat) ({ cls := "CourierClash$Game", name := "round", desc := "()Z" } : Jvm.MethodName)) ∈ lw_all := lw_g (lw_at lw_m7 134 rfl) rfl
theorem q1670 : (Jvm.Cond.privateMethod ({ cls := "CourierClash$Game", name := "round", desc := "()Z" } : Jvm.MethodName)) ∈ lw_tbl := lw_at lw_m7 135 rfl
theorem q1671 : (Jvm.Cond.instanceMethod ({ cls := "CourierClash$Game", name := "round", desc := "()Z" } : Jvm.MethodName)) ∈ lw_all := lw_g (lw_at lw_m7 136 rfl) rfl
theorem q1672 : (Jvm.Cond.code ({ cls := "CourierClash$Game", name := "round", desc := "()Z" } : Jvm.MethodName) prog_8_method_23_code (3 : Nat) (Option.some Jvm.ClassFile.FieldType.boolean)) ∈ lw_all := lw_g (lw_at lw_m7 137 rfl) rfl
theorem q1673 : (Jvm.Cond.methodLink "CourierClash$Game" (243 : Nat) ({ cls := "CourierClash$Game", name := "inRound", desc := "(I)I" } : Jvm.MethodName)) ∈ lw_all := lw_g (lw_at lw_m7 138 rfl) rfl
theorem q1674 : (Jvm.Cond.privateMethod ({ cls := "CourierClash$Game", name := "inRound", desc := "(I)I" } : Jvm.MethodName)) ∈ lw_tbl := lw_at lw_m7 139 rfl
theorem q1675 : (Jvm.Cond.instanceMethod ({ cls := "CourierClash$Game", name := "inRound", desc := "(I)I" } : Jvm.MethodName)) ∈ lw_all := lw_g (lw_at lw_m7 140 rfl) rfl
theorem q1676 : (Jvm.Cond.code ({ cls := "CourierClash$Game", name := "inRound", desc := "(I)I" } : Jvm.MethodName) prog_8_method_22_code (3 : Nat) (Option.some Jvm.ClassFile.FieldType.int)) ∈ lw_all := lw_g (lw_at lw_m7 141 rfl) rfl
theorem q1677 : (Jvm.Cond.methodLink "CourierClash$Game" (233 : Nat) ({ cls := "CourierClash$Game", name := "exchanges", desc := "(I)Z" } : Jvm.MethodName)) ∈ lw_all := lw_g (lw_at lw_m7 142 rfl) rfl
theorem q1678 : (Jvm.Cond.privateMethod ({ cls := "CourierClash$Game", name := "exchanges", desc := "(I)Z" } : Jvm.MethodName)) ∈ lw_tbl := lw_at lw_m7 143 rfl
theorem q1679 : (Jvm.Cond.instanceMethod ({ cls := "CourierClash$Game", name := "exchanges", desc := "(I)Z" } : Jvm.MethodName)) ∈ lw_all := lw_g (lw_at lw_m7 144 rfl) rfl
theorem q1680 : (Jvm.Cond.code ({ cls := "CourierClash$Game", name := "exchanges", desc := "(I)Z" } : Jvm.MethodName) prog_8_method_21_code (4 : Nat) (Option.some Jvm.ClassFile.FieldType.boolean)) ∈ lw_all := lw_g (lw_at lw_m7 145 rfl) rfl
theorem q1681 : (Jvm.Cond.methodLink "CourierClash$Game" (230 : Nat) ({ cls := "CourierClash$Game", name := "endOf", desc := "(I)I" } : Jvm.MethodName)) ∈ lw_all := lw_g (lw_at lw_m7 146 rfl) rfl
theorem q1682 : (Jvm.Cond.privateMethod ({ cls := "CourierClash$Game", name := "endOf", desc := "(I)I" } : Jvm.MethodName)) ∈ lw_tbl := lw_at lw_m7 147 rfl
theorem q1683 : (Jvm.Cond.instanceMethod ({ cls := "CourierClash$Game", name := "endOf", desc := "(I)I" } : Jvm.MethodName)) ∈ lw_all := lw_g (lw_at lw_m7 148 rfl) rfl
theorem q1684 : (Jvm.Cond.code ({ cls := "CourierClash$Game", name := "endOf", desc := "(I)I" } : Jvm.MethodName) prog_8_method_19_code (2 : Nat) (Option.some Jvm.ClassFile.FieldType.int)) ∈ lw_all := lw_g (lw_at lw_m7 149 rfl) rfl
theorem q1685 : (Jvm.Cond.methodLink "CourierClash$Game" (236 : Nat) ({ cls := "CourierClash$Game", name := "hasRival", desc := "(IZ)Z" } : Jvm.MethodName)) ∈ lw_all := lw_g (lw_at lw_m7 150 rfl) rfl
theorem q1686 : (Jvm.Cond.privateMethod ({ cls := "CourierClash$Game", name := "hasRival", desc := "(IZ)Z" } : Jvm.MethodName)) ∈ lw_tbl := lw_at lw_m7 151 rfl
theorem q1687 : (Jvm.Cond.instanceMethod ({ cls := "CourierClash$Game", name := "hasRival", desc := "(IZ)Z" } : Jvm.MethodName)) ∈ lw_all := lw_g (lw_at lw_m7 152 rfl) rfl
theorem q1688 : (Jvm.Cond.code ({ cls := "CourierClash$Game", name := "hasRival", desc := "(IZ)Z" } : Jvm.MethodName) prog_8_method_20_code (6 : Nat) (Option.some Jvm.ClassFile.FieldType.boolean)) ∈ lw_all := lw_g (lw_at lw_m7 153 rfl) rfl
theorem q1689 : (Jvm.Cond.methodLink "CourierClash$Game" (240 : Nat) ({ cls := "CourierClash$Game", name := "courierAt", desc := "(I)I" } : Jvm.MethodName)) ∈ lw_all := lw_g (lw_at lw_m7 154 rfl) rfl
theorem q1690 : (Jvm.Cond.instanceMethod ({ cls := "CourierClash$Game", name := "courierAt", desc := "(I)I" } : Jvm.MethodName)) ∈ lw_all := lw_g (lw_at lw_m7 155 rfl) rfl
theorem q1691 : (Jvm.Cond.selects "CourierClash$Game" ({ cls := "CourierClash$Game", name := "courierAt", desc := "(I)I" } : Jvm.MethodName) ({ cls := "CourierClash$Game", name := "courierAt", desc := "(I)I" } : Jvm.MethodName)) ∈ lw_all := lw_g (lw_at lw_m7 156 rfl) rfl
theorem q1692 : (Jvm.Cond.code ({ cls := "CourierClash$Game", name := "courierAt", desc := "(I)I" } : Jvm.MethodName) prog_8_method_12_code (4 : Nat) (Option.some Jvm.ClassFile.FieldType.int)) ∈ lw_all := lw_g (lw_at lw_m7 157 rfl) rfl
theorem q1700 : (Jvm.Cond.instanceMethod ({ cls := "CourierClash$Game", name := "placeOf", desc := "(LCourierClash$Parcel;)I" } : Jvm.MethodName)) ∈ lw_all := lw_g (lw_at lw_m7 165 rfl) rfl
theorem q1701 : (Jvm.Cond.selects "CourierClash$Game" ({ cls := "CourierClash$Game", name := "placeOf", desc := "(LCourierClash$Parcel;)I" } : Jvm.MethodName) ({ cls := "CourierClash$Game", name := "placeOf", desc := "(LCourierClash$Parcel;)I" } : Jvm.MethodName)) ∈ lw_all := lw_g (lw_at lw_m7 166 rfl) rfl
theorem q1702 : (Jvm.Cond.code ({ cls := "CourierClash$Game", name := "placeOf", desc := "(LCourierClash$Parcel;)I" } : Jvm.MethodName) prog_8_method_31_code (2 : Nat) (Option.some Jvm.ClassFile.FieldType.int)) ∈ lw_all := lw_g (lw_at lw_m7 167 rfl) rfl
theorem q1703 : (Jvm.Cond.methodLink "CourierClash$Game" (273 : Nat) ({ cls := "CourierClash$Parcel", name := "isWaiting", desc := "()Z" } : Jvm.MethodName)) ∈ lw_all := lw_g (lw_at lw_m7 168 rfl) rfl
theorem q1774 : (Jvm.Cond.instanceMethod ({ cls := "CourierClash$Game", name := "street", desc := "(II)I" } : Jvm.MethodName)) ∈ lw_all := lw_g (lw_at lw_m7 239 rfl) rfl
theorem q1775 : (Jvm.Cond.selects "CourierClash$Game" ({ cls := "CourierClash$Game", name := "street", desc := "(II)I" } : Jvm.MethodName) ({ cls := "CourierClash$Game", name := "street", desc := "(II)I" } : Jvm.MethodName)) ∈ lw_all := lw_g (lw_at lw_m8 0 rfl) rfl
theorem q1776 : (Jvm.Cond.code ({ cls := "CourierClash$Game", name := "street", desc := "(II)I" } : Jvm.MethodName) prog_8_method_9_code (5 : Nat) (Option.some Jvm.ClassFile.FieldType.int)) ∈ lw_all := lw_g (lw_at lw_m8 1 rfl) rfl
theorem q1810 : (Jvm.Cond.instanceMethod ({ cls := "CourierClash$Game", name := "add", desc := "(IIZ)I" } : Jvm.MethodName)) ∈ lw_all := lw_g (lw_at lw_m8 35 rfl) rfl
theorem q1811 : (Jvm.Cond.selects "CourierClash$Game" ({ cls := "CourierClash$Game", name := "add", desc := "(IIZ)I" } : Jvm.MethodName) ({ cls := "CourierClash$Game", name := "add", desc := "(IIZ)I" } : Jvm.MethodName)) ∈ lw_all := lw_g (lw_at lw_m8 36 rfl) rfl
theorem q1812 : (Jvm.Cond.code ({ cls := "CourierClash$Game", name := "add", desc := "(IIZ)I" } : Jvm.MethodName) prog_8_method_10_code (4 : Nat) (Option.some Jvm.ClassFile.FieldType.int)) ∈ lw_all := lw_g (lw_at lw_m8 37 rfl) rfl
theorem q1813 : (Jvm.Cond.methodLink "CourierClash$Game" (182 : Nat) ({ cls := "CourierClash$Street", name := "<init>", desc := "(IIZ)V" } : Jvm.MethodName)) ∈ lw_all := lw_g (lw_at lw_m8 38 rfl) rfl
theorem q1830 : (Jvm.Cond.instanceMethod ({ cls := "CourierClash$Game", name := "toggle", desc := "(I)Z" } : Jvm.MethodName)) ∈ lw_all := lw_g (lw_at lw_m8 55 rfl) rfl
theorem q1831 : (Jvm.Cond.selects "CourierClash$Game" ({ cls := "CourierClash$Game", name := "toggle", desc := "(I)Z" } : Jvm.MethodName) ({ cls := "CourierClash$Game", name := "toggle", desc := "(I)Z" } : Jvm.MethodName)) ∈ lw_all := lw_g (lw_at lw_m8 56 rfl) rfl
theorem q1832 : (Jvm.Cond.code ({ cls := "CourierClash$Game", name := "toggle", desc := "(I)Z" } : Jvm.MethodName) prog_8_method_11_code (7 : Nat) (Option.some Jvm.ClassFile.FieldType.boolean)) ∈ lw_all := lw_g (lw_at lw_m8 57 rfl) rfl
theorem q1845 : (Jvm.Cond.instanceMethod ({ cls := "CourierClash$Game", name := "place", desc := "(II)I" } : Jvm.MethodName)) ∈ lw_all := lw_g (lw_at lw_m8 70 rfl) rfl
theorem q1846 : (Jvm.Cond.selects "CourierClash$Game" ({ cls := "CourierClash$Game", name := "place", desc := "(II)I" } : Jvm.MethodName) ({ cls := "CourierClash$Game", name := "place", desc := "(II)I" } : Jvm.MethodName)) ∈ lw_all := lw_g (lw_at lw_m8 71 rfl) rfl
theorem q1847 : (Jvm.Cond.code ({ cls := "CourierClash$Game", name := "place", desc := "(II)I" } : Jvm.MethodName) prog_8_method_16_code (4 : Nat) (Option.some Jvm.ClassFile.FieldType.int)) ∈ lw_all := lw_g (lw_at lw_m8 72 rfl) rfl
theorem q1848 : (Jvm.Cond.methodLink "CourierClash$Game" (211 : Nat) ({ cls := "CourierClash$Game", name := "noteAnew", desc := "()V" } : Jvm.MethodName)) ∈ lw_all := lw_g (lw_at lw_m8 73 rfl) rfl
theorem q1861 : (Jvm.Cond.instanceMethod ({ cls := "CourierClash$Game", name := "toggleVan", desc := "(I)Z" } : Jvm.MethodName)) ∈ lw_all := lw_g (lw_at lw_m8 86 rfl) rfl
theorem q1862 : (Jvm.Cond.selects "CourierClash$Game" ({ cls := "CourierClash$Game", name := "toggleVan", desc := "(I)Z" } : Jvm.MethodName) ({ cls := "CourierClash$Game", name := "toggleVan", desc := "(I)Z" } : Jvm.MethodName)) ∈ lw_all := lw_g (lw_at lw_m8 87 rfl) rfl
theorem q1863 : (Jvm.Cond.code ({ cls := "CourierClash$Game", name := "toggleVan", desc := "(I)Z" } : Jvm.MethodName) prog_8_method_17_code (3 : Nat) (Option.some Jvm.ClassFile.FieldType.boolean)) ∈ lw_all := lw_g (lw_at lw_m8 88 rfl) rfl
theorem q1864 : (Jvm.Cond.methodLink "CourierClash$Game" (214 : Nat) ({ cls := "CourierClash$Vehicle", name := "isVan", desc := "()Z" } : Jvm.MethodName)) ∈ lw_all := lw_g (lw_at lw_m8 89 rfl) rfl
theorem q1865 : (Jvm.Cond.classLink "CourierClash$Game" (217 : Nat) "CourierClash$Bicycle") ∈ lw_all := lw_g (lw_at lw_m8 90 rfl) rfl
theorem q1866 : (Jvm.Cond.methodLinkNest "CourierClash$Game" (219 : Nat) ({ cls := "CourierClash$Bicycle", name := "<init>", desc := "()V" } : Jvm.MethodName) "CourierClash") ∈ lw_tbl := lw_at lw_m8 91 rfl
theorem q1867 : (Jvm.Cond.classLink "CourierClash$Game" (220 : Nat) "CourierClash$Van") ∈ lw_all := lw_g (lw_at lw_m8 92 rfl) rfl
theorem q1869 : (Jvm.Cond.methodLinkNest "CourierClash$Game" (222 : Nat) ({ cls := "CourierClash$Van", name := "<init>", desc := "()V" } : Jvm.MethodName) "CourierClash") ∈ lw_tbl := lw_at lw_m8 94 rfl
theorem q1874 : (Jvm.Cond.methodLink "CourierClash$Game" (223 : Nat) ({ cls := "CourierClash$Street", name := "takes", desc := "(LCourierClash$Vehicle;)Z" } : Jvm.MethodName)) ∈ lw_all := lw_g (lw_at lw_m8 99 rfl) rfl
theorem q1904 : (Jvm.Cond.instanceMethod ({ cls := "CourierClash$Game", name := "isEnough", desc := "(I)Z" } : Jvm.MethodName)) ∈ lw_all := lw_g (lw_at lw_m8 129 rfl) rfl
theorem q1905 : (Jvm.Cond.selects "CourierClash$Game" ({ cls := "CourierClash$Game", name := "isEnough", desc := "(I)Z" } : Jvm.MethodName) ({ cls := "CourierClash$Game", name := "isEnough", desc := "(I)Z" } : Jvm.MethodName)) ∈ lw_all := lw_g (lw_at lw_m8 130 rfl) rfl
theorem q1906 : (Jvm.Cond.code ({ cls := "CourierClash$Game", name := "isEnough", desc := "(I)Z" } : Jvm.MethodName) prog_8_method_15_code (4 : Nat) (Option.some Jvm.ClassFile.FieldType.boolean)) ∈ lw_all := lw_g (lw_at lw_m8 131 rfl) rfl
theorem q1907 : (Jvm.Cond.methodLink "CourierClash$Game" (202 : Nat) ({ cls := "CourierClash$Vehicle", name := "times", desc := "()I" } : Jvm.MethodName)) ∈ lw_all := lw_g (lw_at lw_m8 132 rfl) rfl
theorem q1931 : (Jvm.Cond.instanceMethod ({ cls := "CourierClash$Game", name := "noOrder", desc := "(II)I" } : Jvm.MethodName)) ∈ lw_all := lw_g (lw_at lw_m8 156 rfl) rfl
theorem q1932 : (Jvm.Cond.selects "CourierClash$Game" ({ cls := "CourierClash$Game", name := "noOrder", desc := "(II)I" } : Jvm.MethodName) ({ cls := "CourierClash$Game", name := "noOrder", desc := "(II)I" } : Jvm.MethodName)) ∈ lw_all := lw_g (lw_at lw_m8 157 rfl) rfl
theorem q1933 : (Jvm.Cond.code ({ cls := "CourierClash$Game", name := "noOrder", desc := "(II)I" } : Jvm.MethodName) prog_8_method_18_code (5 : Nat) (Option.some Jvm.ClassFile.FieldType.int)) ∈ lw_all := lw_g (lw_at lw_m8 158 rfl) rfl
theorem q1934 : (Jvm.Cond.methodLink "CourierClash$Game" (227 : Nat) ({ cls := "CourierClash$Game", name := "whyOver", desc := "()I" } : Jvm.MethodName)) ∈ lw_all := lw_g (lw_at lw_m8 159 rfl) rfl
theorem q1950 : (Jvm.Cond.instanceMethod ({ cls := "CourierClash$Game", name := "turn", desc := "()I" } : Jvm.MethodName)) ∈ lw_all := lw_g (lw_at lw_m8 175 rfl) rfl
theorem q1951 : (Jvm.Cond.selects "CourierClash$Game" ({ cls := "CourierClash$Game", name := "turn", desc := "()I" } : Jvm.MethodName) ({ cls := "CourierClash$Game", name := "turn", desc := "()I" } : Jvm.MethodName)) ∈ lw_all := lw_g (lw_at lw_m8 176 rfl) rfl
theorem q1952 : (Jvm.Cond.code ({ cls := "CourierClash$Game", name := "turn", desc := "()I" } : Jvm.MethodName) prog_8_method_28_code (3 : Nat) (Option.some Jvm.ClassFile.FieldType.int)) ∈ lw_all := lw_g (lw_at lw_m8 177 rfl) rfl
theorem q1953 : (Jvm.Cond.methodLink "CourierClash$Game" (287 : Nat) ({ cls := "CourierClash$Game", name := "move", desc := "()I" } : Jvm.MethodName)) ∈ lw_all := lw_g (lw_at lw_m8 178 rfl) rfl
theorem q1954 : (Jvm.Cond.privateMethod ({ cls := "CourierClash$Game", name := "move", desc := "()I" } : Jvm.MethodName)) ∈ lw_tbl := lw_at lw_m8 179 rfl
theorem q1955 : (Jvm.Cond.instanceMethod ({ cls := "CourierClash$Game", name := "move", desc := "()I" } : Jvm.MethodName)) ∈ lw_all := lw_g (lw_at lw_m8 180 rfl) rfl
theorem q1956 : (Jvm.Cond.code ({ cls := "CourierClash$Game", name := "move", desc := "()I" } : Jvm.MethodName) prog_8_method_25_code (7 : Nat) (Option.some Jvm.ClassFile.FieldType.int)) ∈ lw_all := lw_g (lw_at lw_m8 181 rfl) rfl
theorem q1957 : (Jvm.Cond.methodLink "CourierClash$Game" (249 : Nat) ({ cls := "CourierClash$Game", name := "outcomes", desc := "()[I" } : Jvm.MethodName)) ∈ lw_all := lw_g (lw_at lw_m8 182 rfl) rfl
theorem q1958 : (Jvm.Cond.methodLink "CourierClash$Game" (290 : Nat) ({ cls := "CourierClash$Game", name := "deliver", desc := "(I)V" } : Jvm.MethodName)) ∈ lw_all := lw_g (lw_at lw_m8 183 rfl) rfl
theorem q1959 : (Jvm.Cond.privateMethod ({ cls := "CourierClash$Game", name := "deliver", desc := "(I)V" } : Jvm.MethodName)) ∈ lw_tbl := lw_at lw_m8 184 rfl
theorem q1960 : (Jvm.Cond.instanceMethod ({ cls := "CourierClash$Game", name := "deliver", desc := "(I)V" } : Jvm.MethodName)) ∈ lw_all := lw_g (lw_at lw_m8 185 rfl) rfl
theorem q1961 : (Jvm.Cond.code ({ cls := "CourierClash$Game", name := "deliver", desc := "(I)V" } : Jvm.MethodName) prog_8_method_26_code (4 : Nat) (Option.none : Option Jvm.ClassFile.FieldType)) ∈ lw_all := lw_g (lw_at lw_m8 186 rfl) rfl
theorem q1962 : (Jvm.Cond.methodLink "CourierClash$Game" (293 : Nat) ({ cls := "CourierClash$Game", name := "pickUp", desc := "(I)V" } : Jvm.MethodName)) ∈ lw_all := lw_g (lw_at lw_m8 187 rfl) rfl
theorem q1963 : (Jvm.Cond.privateMethod ({ cls := "CourierClash$Game", name := "pickUp", desc := "(I)V" } : Jvm.MethodName)) ∈ lw_tbl := lw_at lw_m8 188 rfl
theorem q1964 : (Jvm.Cond.instanceMethod ({ cls := "CourierClash$Game", name := "pickUp", desc := "(I)V" } : Jvm.MethodName)) ∈ lw_all := lw_g (lw_at lw_m8 189 rfl) rfl
theorem q1965 : (Jvm.Cond.code ({ cls := "CourierClash$Game", name := "pickUp", desc := "(I)V" } : Jvm.MethodName) prog_8_method_27_code (5 : Nat) (Option.none : Option Jvm.ClassFile.FieldType)) ∈ lw_all := lw_g (lw_at lw_m8 190 rfl) rfl
theorem q1966 : (Jvm.Cond.classLink "CourierClash$Game" (265 : Nat) "java/util/PriorityQueue") ∈ lw_all := lw_g (lw_at lw_m8 191 rfl) rfl
theorem q1968 : (Jvm.Cond.methodLinkNest "CourierClash$Game" (267 : Nat) ({ cls := "CourierClash", name := "asPickedUp", desc := "()Ljava/util/Comparator;" } : Jvm.MethodName) "CourierClash") ∈ lw_tbl := lw_at lw_m8 193 rfl
theorem q1978 : (Jvm.Cond.methodLink "CourierClash$Game" (270 : Nat) ({ cls := "java/util/PriorityQueue", name := "<init>", desc := "(ILjava/util/Comparator;)V" } : Jvm.MethodName)) ∈ lw_all := lw_g (lw_at lw_m8 203 rfl) rfl
theorem q2001 : (Jvm.Cond.methodLink "CourierClash$Game" (277 : Nat) ({ cls := "java/util/PriorityQueue", name := "add", desc := "(Ljava/lang/Object;)Z" } : Jvm.MethodName)) ∈ lw_all := lw_g (lw_at lw_m8 226 rfl) rfl
theorem q2030 : (Jvm.Cond.methodLink "CourierClash$Game" (278 : Nat) ({ cls := "java/util/PriorityQueue", name := "poll", desc := "()Ljava/lang/Object;" } : Jvm.MethodName)) ∈ lw_all := lw_g (lw_at lw_m9 15 rfl) rfl
theorem q2040 : (Jvm.Cond.methodLink "CourierClash$Game" (281 : Nat) ({ cls := "CourierClash$Game", name := "canCarry", desc := "(I)I" } : Jvm.MethodName)) ∈ lw_all := lw_g (lw_at lw_m9 25 rfl) rfl
theorem q2041 : (Jvm.Cond.instanceMethod ({ cls := "CourierClash$Game", name := "canCarry", desc := "(I)I" } : Jvm.MethodName)) ∈ lw_all := lw_g (lw_at lw_m9 26 rfl) rfl
theorem q2042 : (Jvm.Cond.selects "CourierClash$Game" ({ cls := "CourierClash$Game", name := "canCarry", desc := "(I)I" } : Jvm.MethodName) ({ cls := "CourierClash$Game", name := "canCarry", desc := "(I)I" } : Jvm.MethodName)) ∈ lw_all := lw_g (lw_at lw_m9 27 rfl) rfl
theorem q2043 : (Jvm.Cond.code ({ cls := "CourierClash$Game", name := "canCarry", desc := "(I)I" } : Jvm.MethodName) prog_8_method_14_code (2 : Nat) (Option.some Jvm.ClassFile.FieldType.int)) ∈ lw_all := lw_g (lw_at lw_m9 28 rfl) rfl
theorem q2820 : (Jvm.Cond.castable "CourierClash$Game" "java/lang/Object") ∈ lw_tbl := lw_at lw_m12 85 rfl
theorem in_X2 : ∀ w ∈ wsX20, w ∈ lw_all := lw_in wsX20 [303, 305, 307, 309, 311, 313, 315, 317, 319, 321, 323, 325, 327] (by decide +kernel) (by decide +kernel)
