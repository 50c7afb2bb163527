/-! CourierClash -/
set_option maxRecDepth 100000
def RX1 : String := "CourierClash"
def TX1 : u_T := fun k => match k with
  | 0 => ("CourierClash", "now", "LCourierClash$Game;", true)
  | 1 => ("CourierClash", "ways", "LCourierClash$Ways;", true)
  | 2 => ("CourierClash", "masks", "[I", true)
  | 3 => ("CourierClash", "saved", "Ljava/util/ArrayList;", true)
  | 4 => ("CourierClash", "snapshot", "LCourierClash$Game;", false)
  | 5 => ("CourierClash", "text", "Ljava/lang/StringBuilder;", true)
  | _ => ("CourierClash", "hash", "J", false)
def tyX1 : Nat → FieldType := fun k => match k with
  | 0 => .object "CourierClash$Game"
  | 1 => .object "CourierClash$Ways"
  | 2 => .array .int
  | 3 => .object "java/util/ArrayList"
  | 4 => .object "CourierClash$Game"
  | 5 => .object "java/lang/StringBuilder"
  | _ => .long
abbrev wsX10 : List Cond := u_ws RX1 TX1 7
theorem nmX1 : ∀ a, a < 7 → ∀ b, b < 7 → a ≠ b → (TX1 a).2.1 ≠ (TX1 b).2.1 := by decide +kernel
theorem tyX1_ok : ∀ k, k < 7 → parseFieldDescriptor (TX1 k).2.2.1 = some (tyX1 k) := by decide +kernel
abbrev cX1_init : ByteArray := prog_1_method_5_code
def yX1_init : MethodName := ⟨RX1, "<init>", "()V"⟩
def dkwX1_init_2 : List UInt8 := [187, 0, 43, 89, 16, 60, 183, 0, 45, 181, 0, 48, 42, 180, 0, 19, 182, 0, 52, 177]
abbrev dktX1_init_2 : List UInt8 := dkwX1_init_2 ++ []
def dkwX1_init_1 : List UInt8 := [181, 0, 28, 42, 16, 10, 188, 10, 181, 0, 32, 42, 187, 0, 36, 89, 183, 0, 38, 181, 0, 39, 42]
abbrev dktX1_init_1 : List UInt8 := dkwX1_init_1 ++ dktX1_init_2
def dkwX1_init_0 : List UInt8 := [42, 183, 0, 13, 42, 187, 0, 16, 89, 183, 0, 18, 181, 0, 19, 42, 187, 0, 25, 89, 183, 0, 27]
abbrev dktX1_init_0 : List UInt8 := dkwX1_init_0 ++ dktX1_init_1
theorem dksX1_init_0 : cX1_init.data.toList.drop 0 = dktX1_init_0 := by decide +kernel
theorem dksX1_init_1 : cX1_init.data.toList.drop 23 = dktX1_init_1 := dk_seg dksX1_init_0 23 rfl rfl
theorem dksX1_init_2 : cX1_init.data.toList.drop 46 = dktX1_init_2 := dk_seg dksX1_init_1 23 rfl rfl
theorem dX1_init_0 : decode cX1_init 0 = .ok (.aload_n 0, 1) := dk_42 (dk_at dksX1_init_0 0 rfl rfl)
theorem dX1_init_1 : decode cX1_init 1 = .ok (.invokespecial 13, 3) := dk_183 0 13 (dk_at dksX1_init_0 1 rfl rfl)
theorem dX1_init_4 : decode cX1_init 4 = .ok (.aload_n 0, 1) := dk_42 (dk_at dksX1_init_0 4 rfl rfl)
theorem dX1_init_5 : decode cX1_init 5 = .ok (.new 16, 3) := dk_187 0 16 (dk_at dksX1_init_0 5 rfl rfl)
theorem dX1_init_8 : decode cX1_init 8 = .ok (.dup, 1) := dk_89 (dk_at dksX1_init_0 8 rfl rfl)
theorem dX1_init_9 : decode cX1_init 9 = .ok (.invokespecial 18, 3) := dk_183 0 18 (dk_at dksX1_init_0 9 rfl rfl)
theorem dX1_init_12 : decode cX1_init 12 = .ok (.putfield 19, 3) := dk_181 0 19 (dk_at dksX1_init_0 12 rfl rfl)
theorem dX1_init_15 : decode cX1_init 15 = .ok (.aload_n 0, 1) := dk_42 (dk_at dksX1_init_0 15 rfl rfl)
theorem dX1_init_16 : decode cX1_init 16 = .ok (.new 25, 3) := dk_187 0 25 (dk_at dksX1_init_0 16 rfl rfl)
theorem dX1_init_19 : decode cX1_init 19 = .ok (.dup, 1) := dk_89 (dk_at dksX1_init_0 19 rfl rfl)
theorem dX1_init_20 : decode cX1_init 20 = .ok (.invokespecial 27, 3) := dk_183 0 27 (dk_at dksX1_init_0 20 rfl rfl)
theorem dX1_init_23 : decode cX1_init 23 = .ok (.putfield 28, 3) := dk_181 0 28 (dk_at dksX1_init_1 0 rfl rfl)
theorem dX1_init_26 : decode cX1_init 26 = .ok (.aload_n 0, 1) := dk_42 (dk_at dksX1_init_1 3 rfl rfl)
theorem dX1_init_27 : decode cX1_init 27 = .ok (.bipush 10, 2) := dk_16 10 (dk_at dksX1_init_1 4 rfl rfl)
theorem dX1_init_29 : decode cX1_init 29 = .ok (.newarray .int, 2) := dk_188_10 (dk_at dksX1_init_1 6 rfl rfl)
theorem dX1_init_31 : decode cX1_init 31 = .ok (.putfield 32, 3) := dk_181 0 32 (dk_at dksX1_init_1 8 rfl rfl)
theorem dX1_init_34 : decode cX1_init 34 = .ok (.aload_n 0, 1) := dk_42 (dk_at dksX1_init_1 11 rfl rfl)
theorem dX1_init_35 : decode cX1_init 35 = .ok (.new 36, 3) := dk_187 0 36 (dk_at dksX1_init_1 12 rfl rfl)
theorem dX1_init_38 : decode cX1_init 38 = .ok (.dup, 1) := dk_89 (dk_at dksX1_init_1 15 rfl rfl)
theorem dX1_init_39 : decode cX1_init 39 = .ok (.invokespecial 38, 3) := dk_183 0 38 (dk_at dksX1_init_1 16 rfl rfl)
theorem dX1_init_42 : decode cX1_init 42 = .ok (.putfield 39, 3) := dk_181 0 39 (dk_at dksX1_init_1 19 rfl rfl)
theorem dX1_init_45 : decode cX1_init 45 = .ok (.aload_n 0, 1) := dk_42 (dk_at dksX1_init_1 22 rfl rfl)
theorem dX1_init_46 : decode cX1_init 46 = .ok (.new 43, 3) := dk_187 0 43 (dk_at dksX1_init_2 0 rfl rfl)
theorem dX1_init_49 : decode cX1_init 49 = .ok (.dup, 1) := dk_89 (dk_at dksX1_init_2 3 rfl rfl)
theorem dX1_init_50 : decode cX1_init 50 = .ok (.bipush 60, 2) := dk_16 60 (dk_at dksX1_init_2 4 rfl rfl)
theorem dX1_init_52 : decode cX1_init 52 = .ok (.invokespecial 45, 3) := dk_183 0 45 (dk_at dksX1_init_2 6 rfl rfl)
theorem dX1_init_55 : decode cX1_init 55 = .ok (.putfield 48, 3) := dk_181 0 48 (dk_at dksX1_init_2 9 rfl rfl)
theorem dX1_init_58 : decode cX1_init 58 = .ok (.aload_n 0, 1) := dk_42 (dk_at dksX1_init_2 12 rfl rfl)
theorem dX1_init_59 : decode cX1_init 59 = .ok (.getfield 19, 3) := dk_180 0 19 (dk_at dksX1_init_2 13 rfl rfl)
theorem dX1_init_62 : decode cX1_init 62 = .ok (.invokevirtual 52, 3) := dk_182 0 52 (dk_at dksX1_init_2 16 rfl rfl)
theorem dX1_init_65 : decode cX1_init 65 = .ok (.return_, 1) := dk_177 (dk_at dksX1_init_2 19 rfl rfl)
abbrev cX1_byRows : ByteArray := prog_1_method_4_code
def yX1_byRows : MethodName := ⟨RX1, "byRows", "()Ljava/util/Comparator;"⟩
def dkwX1_byRows_0 : List UInt8 := [187, 0, 10, 89, 183, 0, 12, 176]
abbrev dktX1_byRows_0 : List UInt8 := dkwX1_byRows_0 ++ []
theorem dksX1_byRows_0 : cX1_byRows.data.toList.drop 0 = dktX1_byRows_0 := by decide +kernel
theorem dX1_byRows_0 : decode cX1_byRows 0 = .ok (.new 10, 3) := dk_187 0 10 (dk_at dksX1_byRows_0 0 rfl rfl)
theorem dX1_byRows_3 : decode cX1_byRows 3 = .ok (.dup, 1) := dk_89 (dk_at dksX1_byRows_0 3 rfl rfl)
theorem dX1_byRows_4 : decode cX1_byRows 4 = .ok (.invokespecial 12, 3) := dk_183 0 12 (dk_at dksX1_byRows_0 4 rfl rfl)
theorem dX1_byRows_7 : decode cX1_byRows 7 = .ok (.areturn, 1) := dk_176 (dk_at dksX1_byRows_0 7 rfl rfl)
abbrev cX1_clearBuffer : ByteArray := prog_1_method_28_code
def yX1_clearBuffer : MethodName := ⟨RX1, "clearBuffer", "()I"⟩
def dkwX1_clearBuffer_0 : List UInt8 := [42, 180, 0, 48, 182, 0, 195, 60, 42, 180, 0, 48, 3, 182, 0, 202, 27, 172]
abbrev dktX1_clearBuffer_0 : List UInt8 := dkwX1_clearBuffer_0 ++ []
theorem dksX1_clearBuffer_0 : cX1_clearBuffer.data.toList.drop 0 = dktX1_clearBuffer_0 := by decide +kernel
theorem dX1_clearBuffer_0 : decode cX1_clearBuffer 0 = .ok (.aload_n 0, 1) := dk_42 (dk_at dksX1_clearBuffer_0 0 rfl rfl)
theorem dX1_clearBuffer_1 : decode cX1_clearBuffer 1 = .ok (.getfield 48, 3) := dk_180 0 48 (dk_at dksX1_clearBuffer_0 1 rfl rfl)
theorem dX1_clearBuffer_4 : decode cX1_clearBuffer 4 = .ok (.invokevirtual 195, 3) := dk_182 0 195 (dk_at dksX1_clearBuffer_0 4 rfl rfl)
theorem dX1_clearBuffer_7 : decode cX1_clearBuffer 7 = .ok (.istore_n 1, 1) := dk_60 (dk_at dksX1_clearBuffer_0 7 rfl rfl)
theorem dX1_clearBuffer_8 : decode cX1_clearBuffer 8 = .ok (.aload_n 0, 1) := dk_42 (dk_at dksX1_clearBuffer_0 8 rfl rfl)
theorem dX1_clearBuffer_9 : decode cX1_clearBuffer 9 = .ok (.getfield 48, 3) := dk_180 0 48 (dk_at dksX1_clearBuffer_0 9 rfl rfl)
theorem dX1_clearBuffer_12 : decode cX1_clearBuffer 12 = .ok (.iconst 0, 1) := dk_3 (dk_at dksX1_clearBuffer_0 12 rfl rfl)
theorem dX1_clearBuffer_13 : decode cX1_clearBuffer 13 = .ok (.invokevirtual 202, 3) := dk_182 0 202 (dk_at dksX1_clearBuffer_0 13 rfl rfl)
theorem dX1_clearBuffer_16 : decode cX1_clearBuffer 16 = .ok (.iload_n 1, 1) := dk_27 (dk_at dksX1_clearBuffer_0 16 rfl rfl)
theorem dX1_clearBuffer_17 : decode cX1_clearBuffer 17 = .ok (.ireturn, 1) := dk_172 (dk_at dksX1_clearBuffer_0 17 rfl rfl)
abbrev cX1_firstError : ByteArray := prog_1_method_29_code
def yX1_firstError : MethodName := ⟨RX1, "firstError", "()I"⟩
def dkwX1_firstError_1 : List UInt8 := [167, 0, 7, 43, 180, 0, 213, 172]
abbrev dktX1_firstError_1 : List UInt8 := dkwX1_firstError_1 ++ []
def dkwX1_firstError_0 : List UInt8 := [187, 0, 205, 89, 42, 183, 0, 207, 76, 43, 182, 0, 210, 153, 0, 13, 42, 180, 0, 48, 182, 0, 195]
abbrev dktX1_firstError_0 : List UInt8 := dkwX1_firstError_0 ++ dktX1_firstError_1
theorem dksX1_firstError_0 : cX1_firstError.data.toList.drop 0 = dktX1_firstError_0 := by decide +kernel
theorem dksX1_firstError_1 : cX1_firstError.data.toList.drop 23 = dktX1_firstError_1 := dk_seg dksX1_firstError_0 23 rfl rfl
theorem dX1_firstError_0 : decode cX1_firstError 0 = .ok (.new 205, 3) := dk_187 0 205 (dk_at dksX1_firstError_0 0 rfl rfl)
theorem dX1_firstError_3 : decode cX1_firstError 3 = .ok (.dup, 1) := dk_89 (dk_at dksX1_firstError_0 3 rfl rfl)
theorem dX1_firstError_4 : decode cX1_firstError 4 = .ok (.aload_n 0, 1) := dk_42 (dk_at dksX1_firstError_0 4 rfl rfl)
theorem dX1_firstError_5 : decode cX1_firstError 5 = .ok (.invokespecial 207, 3) := dk_183 0 207 (dk_at dksX1_firstError_0 5 rfl rfl)
theorem dX1_firstError_8 : decode cX1_firstError 8 = .ok (.astore_n 1, 1) := dk_76 (dk_at dksX1_firstError_0 8 rfl rfl)
theorem dX1_firstError_9 : decode cX1_firstError 9 = .ok (.aload_n 1, 1) := dk_43 (dk_at dksX1_firstError_0 9 rfl rfl)
theorem dX1_firstError_10 : decode cX1_firstError 10 = .ok (.invokevirtual 210, 3) := dk_182 0 210 (dk_at dksX1_firstError_0 10 rfl rfl)
theorem dX1_firstError_13 : decode cX1_firstError 13 = .ok (.ifCond .eq 13, 3) := dk_153 0 13 (dk_at dksX1_firstError_0 13 rfl rfl)
theorem dX1_firstError_16 : decode cX1_firstError 16 = .ok (.aload_n 0, 1) := dk_42 (dk_at dksX1_firstError_0 16 rfl rfl)
theorem dX1_firstError_17 : decode cX1_firstError 17 = .ok (.getfield 48, 3) := dk_180 0 48 (dk_at dksX1_firstError_0 17 rfl rfl)
theorem dX1_firstError_20 : decode cX1_firstError 20 = .ok (.invokevirtual 195, 3) := dk_182 0 195 (dk_at dksX1_firstError_0 20 rfl rfl)
theorem dX1_firstError_23 : decode cX1_firstError 23 = .ok (.goto 7, 3) := dk_167 0 7 (dk_at dksX1_firstError_1 0 rfl rfl)
theorem dX1_firstError_26 : decode cX1_firstError 26 = .ok (.aload_n 1, 1) := dk_43 (dk_at dksX1_firstError_1 3 rfl rfl)
theorem dX1_firstError_27 : decode cX1_firstError 27 = .ok (.getfield 213, 3) := dk_180 0 213 (dk_at dksX1_firstError_1 4 rfl rfl)
theorem dX1_firstError_30 : decode cX1_firstError 30 = .ok (.ireturn, 1) := dk_172 (dk_at dksX1_firstError_1 7 rfl rfl)
abbrev cX1_in : ByteArray := prog_1_method_1_code
def yX1_in : MethodName := ⟨RX1, "in", "(III)Z"⟩
def dkwX1_in_0 : List UInt8 := [26, 27, 161, 0, 12, 26, 28, 163, 0, 7, 4, 167, 0, 4, 3, 172]
abbrev dktX1_in_0 : List UInt8 := dkwX1_in_0 ++ []
theorem dksX1_in_0 : cX1_in.data.toList.drop 0 = dktX1_in_0 := by decide +kernel
theorem dX1_in_0 : decode cX1_in 0 = .ok (.iload_n 0, 1) := dk_26 (dk_at dksX1_in_0 0 rfl rfl)
theorem dX1_in_1 : decode cX1_in 1 = .ok (.iload_n 1, 1) := dk_27 (dk_at dksX1_in_0 1 rfl rfl)
theorem dX1_in_2 : decode cX1_in 2 = .ok (.if_icmp .lt 12, 3) := dk_161 0 12 (dk_at dksX1_in_0 2 rfl rfl)
theorem dX1_in_5 : decode cX1_in 5 = .ok (.iload_n 0, 1) := dk_26 (dk_at dksX1_in_0 5 rfl rfl)
theorem dX1_in_6 : decode cX1_in 6 = .ok (.iload_n 2, 1) := dk_28 (dk_at dksX1_in_0 6 rfl rfl)
theorem dX1_in_7 : decode cX1_in 7 = .ok (.if_icmp .gt 7, 3) := dk_163 0 7 (dk_at dksX1_in_0 7 rfl rfl)
theorem dX1_in_10 : decode cX1_in 10 = .ok (.iconst 1, 1) := dk_4 (dk_at dksX1_in_0 10 rfl rfl)
theorem dX1_in_11 : decode cX1_in 11 = .ok (.goto 4, 3) := dk_167 0 4 (dk_at dksX1_in_0 11 rfl rfl)
theorem dX1_in_14 : decode cX1_in 14 = .ok (.iconst 0, 1) := dk_3 (dk_at dksX1_in_0 14 rfl rfl)
theorem dX1_in_15 : decode cX1_in 15 = .ok (.ireturn, 1) := dk_172 (dk_at dksX1_in_0 15 rfl rfl)
abbrev cX1_hasStopped : ByteArray := prog_1_method_33_code
def yX1_hasStopped : MethodName := ⟨RX1, "hasStopped", "()Z"⟩
def dkwX1_hasStopped_0 : List UInt8 := [42, 180, 0, 19, 180, 0, 228, 2, 159, 0, 7, 4, 167, 0, 4, 3, 172]
abbrev dktX1_hasStopped_0 : List UInt8 := dkwX1_hasStopped_0 ++ []
theorem dksX1_hasStopped_0 : cX1_hasStopped.data.toList.drop 0 = dktX1_hasStopped_0 := by decide +kernel
theorem dX1_hasStopped_0 : decode cX1_hasStopped 0 = .ok (.aload_n 0, 1) := dk_42 (dk_at dksX1_hasStopped_0 0 rfl rfl)
theorem dX1_hasStopped_1 : decode cX1_hasStopped 1 = .ok (.getfield 19, 3) := dk_180 0 19 (dk_at dksX1_hasStopped_0 1 rfl rfl)
theorem dX1_hasStopped_4 : decode cX1_hasStopped 4 = .ok (.getfield 228, 3) := dk_180 0 228 (dk_at dksX1_hasStopped_0 4 rfl rfl)
theorem dX1_hasStopped_7 : decode cX1_hasStopped 7 = .ok (.iconst (-1), 1) := dk_2 (dk_at dksX1_hasStopped_0 7 rfl rfl)
theorem dX1_hasStopped_8 : decode cX1_hasStopped 8 = .ok (.if_icmp .eq 7, 3) := dk_159 0 7 (dk_at dksX1_hasStopped_0 8 rfl rfl)
theorem dX1_hasStopped_11 : decode cX1_hasStopped 11 = .ok (.iconst 1, 1) := dk_4 (dk_at dksX1_hasStopped_0 11 rfl rfl)
theorem dX1_hasStopped_12 : decode cX1_hasStopped 12 = .ok (.goto 4, 3) := dk_167 0 4 (dk_at dksX1_hasStopped_0 12 rfl rfl)
theorem dX1_hasStopped_15 : decode cX1_hasStopped 15 = .ok (.iconst 0, 1) := dk_3 (dk_at dksX1_hasStopped_0 15 rfl rfl)
theorem dX1_hasStopped_16 : decode cX1_hasStopped 16 = .ok (.ireturn, 1) := dk_172 (dk_at dksX1_hasStopped_0 16 rfl rfl)
abbrev cX1_keep : ByteArray := prog_1_method_36_code
def yX1_keep : MethodName := ⟨RX1, "keep", "()I"⟩
def dkwX1_keep_1 : List UInt8 := [180, 0, 19, 182, 0, 63, 180, 0, 237, 172]
abbrev dktX1_keep_1 : List UInt8 := dkwX1_keep_1 ++ []
def dkwX1_keep_0 : List UInt8 := [42, 180, 0, 234, 199, 0, 14, 42, 187, 0, 16, 89, 183, 0, 18, 181, 0, 234, 42, 180, 0, 234, 42]
abbrev dktX1_keep_0 : List UInt8 := dkwX1_keep_0 ++ dktX1_keep_1
theorem dksX1_keep_0 : cX1_keep.data.toList.drop 0 = dktX1_keep_0 := by decide +kernel
theorem dksX1_keep_1 : cX1_keep.data.toList.drop 23 = dktX1_keep_1 := dk_seg dksX1_keep_0 23 rfl rfl
theorem dX1_keep_0 : decode cX1_keep 0 = .ok (.aload_n 0, 1) := dk_42 (dk_at dksX1_keep_0 0 rfl rfl)
theorem dX1_keep_1 : decode cX1_keep 1 = .ok (.getfield 234, 3) := dk_180 0 234 (dk_at dksX1_keep_0 1 rfl rfl)
theorem dX1_keep_4 : decode cX1_keep 4 = .ok (.ifnonnull 14, 3) := dk_199 0 14 (dk_at dksX1_keep_0 4 rfl rfl)
theorem dX1_keep_7 : decode cX1_keep 7 = .ok (.aload_n 0, 1) := dk_42 (dk_at dksX1_keep_0 7 rfl rfl)
theorem dX1_keep_8 : decode cX1_keep 8 = .ok (.new 16, 3) := dk_187 0 16 (dk_at dksX1_keep_0 8 rfl rfl)
theorem dX1_keep_11 : decode cX1_keep 11 = .ok (.dup, 1) := dk_89 (dk_at dksX1_keep_0 11 rfl rfl)
theorem dX1_keep_12 : decode cX1_keep 12 = .ok (.invokespecial 18, 3) := dk_183 0 18 (dk_at dksX1_keep_0 12 rfl rfl)
theorem dX1_keep_15 : decode cX1_keep 15 = .ok (.putfield 234, 3) := dk_181 0 234 (dk_at dksX1_keep_0 15 rfl rfl)
theorem dX1_keep_18 : decode cX1_keep 18 = .ok (.aload_n 0, 1) := dk_42 (dk_at dksX1_keep_0 18 rfl rfl)
theorem dX1_keep_19 : decode cX1_keep 19 = .ok (.getfield 234, 3) := dk_180 0 234 (dk_at dksX1_keep_0 19 rfl rfl)
theorem dX1_keep_22 : decode cX1_keep 22 = .ok (.aload_n 0, 1) := dk_42 (dk_at dksX1_keep_0 22 rfl rfl)
theorem dX1_keep_23 : decode cX1_keep 23 = .ok (.getfield 19, 3) := dk_180 0 19 (dk_at dksX1_keep_1 0 rfl rfl)
theorem dX1_keep_26 : decode cX1_keep 26 = .ok (.invokevirtual 63, 3) := dk_182 0 63 (dk_at dksX1_keep_1 3 rfl rfl)
theorem dX1_keep_29 : decode cX1_keep 29 = .ok (.getfield 237, 3) := dk_180 0 237 (dk_at dksX1_keep_1 6 rfl rfl)
theorem dX1_keep_32 : decode cX1_keep 32 = .ok (.ireturn, 1) := dk_172 (dk_at dksX1_keep_1 9 rfl rfl)
abbrev cX1_savedStates : ByteArray := prog_1_method_38_code
def yX1_savedStates : MethodName := ⟨RX1, "savedStates", "()I"⟩
def dkwX1_savedStates_0 : List UInt8 := [42, 180, 0, 39, 182, 0, 55, 172]
abbrev dktX1_savedStates_0 : List UInt8 := dkwX1_savedStates_0 ++ []
theorem dksX1_savedStates_0 : cX1_savedStates.data.toList.drop 0 = dktX1_savedStates_0 := by decide +kernel
theorem dX1_savedStates_0 : decode cX1_savedStates 0 = .ok (.aload_n 0, 1) := dk_42 (dk_at dksX1_savedStates_0 0 rfl rfl)
theorem dX1_savedStates_1 : decode cX1_savedStates 1 = .ok (.getfield 39, 3) := dk_180 0 39 (dk_at dksX1_savedStates_0 1 rfl rfl)
theorem dX1_savedStates_4 : decode cX1_savedStates 4 = .ok (.invokevirtual 55, 3) := dk_182 0 55 (dk_at dksX1_savedStates_0 4 rfl rfl)
theorem dX1_savedStates_7 : decode cX1_savedStates 7 = .ok (.ireturn, 1) := dk_172 (dk_at dksX1_savedStates_0 7 rfl rfl)
abbrev cX1_streets : ByteArray := prog_1_method_39_code
def yX1_streets : MethodName := ⟨RX1, "streets", "()I"⟩
def dkwX1_streets_0 : List UInt8 := [42, 180, 0, 19, 180, 0, 84, 182, 0, 55, 172]
abbrev dktX1_streets_0 : List UInt8 := dkwX1_streets_0 ++ []
theorem dksX1_streets_0 : cX1_streets.data.toList.drop 0 = dktX1_streets_0 := by decide +kernel
theorem dX1_streets_0 : decode cX1_streets 0 = .ok (.aload_n 0, 1) := dk_42 (dk_at dksX1_streets_0 0 rfl rfl)
theorem dX1_streets_1 : decode cX1_streets 1 = .ok (.getfield 19, 3) := dk_180 0 19 (dk_at dksX1_streets_0 1 rfl rfl)
theorem dX1_streets_4 : decode cX1_streets 4 = .ok (.getfield 84, 3) := dk_180 0 84 (dk_at dksX1_streets_0 4 rfl rfl)
theorem dX1_streets_7 : decode cX1_streets 7 = .ok (.invokevirtual 55, 3) := dk_182 0 55 (dk_at dksX1_streets_0 7 rfl rfl)
theorem dX1_streets_10 : decode cX1_streets 10 = .ok (.ireturn, 1) := dk_172 (dk_at dksX1_streets_0 10 rfl rfl)
abbrev cX1_parcels : ByteArray := prog_1_method_50_code
def yX1_parcels : MethodName := ⟨RX1, "parcels", "()I"⟩
def dkwX1_parcels_0 : List UInt8 := [42, 180, 0, 19, 180, 0, 107, 182, 0, 55, 172]
abbrev dktX1_parcels_0 : List UInt8 := dkwX1_parcels_0 ++ []
theorem dksX1_parcels_0 : cX1_parcels.data.toList.drop 0 = dktX1_parcels_0 := by decide +kernel
theorem dX1_parcels_0 : decode cX1_parcels 0 = .ok (.aload_n 0, 1) := dk_42 (dk_at dksX1_parcels_0 0 rfl rfl)
theorem dX1_parcels_1 : decode cX1_parcels 1 = .ok (.getfield 19, 3) := dk_180 0 19 (dk_at dksX1_parcels_0 1 rfl rfl)
theorem dX1_parcels_4 : decode cX1_parcels 4 = .ok (.getfield 107, 3) := dk_180 0 107 (dk_at dksX1_parcels_0 4 rfl rfl)
theorem dX1_parcels_7 : decode cX1_parcels 7 = .ok (.invokevirtual 55, 3) := dk_182 0 55 (dk_at dksX1_parcels_0 7 rfl rfl)
theorem dX1_parcels_10 : decode cX1_parcels 10 = .ok (.ireturn, 1) := dk_172 (dk_at dksX1_parcels_0 10 rfl rfl)
abbrev cX1_turnsPassed : ByteArray := prog_1_method_57_code
def yX1_turnsPassed : MethodName := ⟨RX1, "turnsPassed", "()I"⟩
def dkwX1_turnsPassed_0 : List UInt8 := [42, 180, 0, 19, 180, 0, 237, 172]
abbrev dktX1_turnsPassed_0 : List UInt8 := dkwX1_turnsPassed_0 ++ []
theorem dksX1_turnsPassed_0 : cX1_turnsPassed.data.toList.drop 0 = dktX1_turnsPassed_0 := by decide +kernel
theorem dX1_turnsPassed_0 : decode cX1_turnsPassed 0 = .ok (.aload_n 0, 1) := dk_42 (dk_at dksX1_turnsPassed_0 0 rfl rfl)
theorem dX1_turnsPassed_1 : decode cX1_turnsPassed 1 = .ok (.getfield 19, 3) := dk_180 0 19 (dk_at dksX1_turnsPassed_0 1 rfl rfl)
theorem dX1_turnsPassed_4 : decode cX1_turnsPassed 4 = .ok (.getfield 237, 3) := dk_180 0 237 (dk_at dksX1_turnsPassed_0 4 rfl rfl)
theorem dX1_turnsPassed_7 : decode cX1_turnsPassed 7 = .ok (.ireturn, 1) := dk_172 (dk_at dksX1_turnsPassed_0 7 rfl rfl)
abbrev cX1_failedMoves : ByteArray := prog_1_method_58_code
def yX1_failedMoves : MethodName := ⟨RX1, "failedMoves", "()I"⟩
def dkwX1_failedMoves_0 : List UInt8 := [42, 180, 0, 19, 180, 1, 26, 172]
abbrev dktX1_failedMoves_0 : List UInt8 := dkwX1_failedMoves_0 ++ []
theorem dksX1_failedMoves_0 : cX1_failedMoves.data.toList.drop 0 = dktX1_failedMoves_0 := by decide +kernel
theorem dX1_failedMoves_0 : decode cX1_failedMoves 0 = .ok (.aload_n 0, 1) := dk_42 (dk_at dksX1_failedMoves_0 0 rfl rfl)
theorem dX1_failedMoves_1 : decode cX1_failedMoves 1 = .ok (.getfield 19, 3) := dk_180 0 19 (dk_at dksX1_failedMoves_0 1 rfl rfl)
theorem dX1_failedMoves_4 : decode cX1_failedMoves 4 = .ok (.getfield 282, 3) := dk_180 1 26 (dk_at dksX1_failedMoves_0 4 rfl rfl)
theorem dX1_failedMoves_7 : decode cX1_failedMoves 7 = .ok (.ireturn, 1) := dk_172 (dk_at dksX1_failedMoves_0 7 rfl rfl)
abbrev cX1_timesNoted : ByteArray := prog_1_method_59_code
def yX1_timesNoted : MethodName := ⟨RX1, "timesNoted", "()I"⟩
def dkwX1_timesNoted_0 : List UInt8 := [42, 180, 0, 19, 182, 1, 29, 172]
abbrev dktX1_timesNoted_0 : List UInt8 := dkwX1_timesNoted_0 ++ []
theorem dksX1_timesNoted_0 : cX1_timesNoted.data.toList.drop 0 = dktX1_timesNoted_0 := by decide +kernel
theorem dX1_timesNoted_0 : decode cX1_timesNoted 0 = .ok (.aload_n 0, 1) := dk_42 (dk_at dksX1_timesNoted_0 0 rfl rfl)
theorem dX1_timesNoted_1 : decode cX1_timesNoted 1 = .ok (.getfield 19, 3) := dk_180 0 19 (dk_at dksX1_timesNoted_0 1 rfl rfl)
theorem dX1_timesNoted_4 : decode cX1_timesNoted 4 = .ok (.invokevirtual 285, 3) := dk_182 1 29 (dk_at dksX1_timesNoted_0 4 rfl rfl)
theorem dX1_timesNoted_7 : decode cX1_timesNoted 7 = .ok (.ireturn, 1) := dk_172 (dk_at dksX1_timesNoted_0 7 rfl rfl)
abbrev cX1_positionsNoted : ByteArray := prog_1_method_60_code
def yX1_positionsNoted : MethodName := ⟨RX1, "positionsNoted", "()I"⟩
def dkwX1_positionsNoted_0 : List UInt8 := [42, 180, 0, 19, 180, 1, 32, 182, 1, 36, 172]
abbrev dktX1_positionsNoted_0 : List UInt8 := dkwX1_positionsNoted_0 ++ []
theorem dksX1_positionsNoted_0 : cX1_positionsNoted.data.toList.drop 0 = dktX1_positionsNoted_0 := by decide +kernel
theorem dX1_positionsNoted_0 : decode cX1_positionsNoted 0 = .ok (.aload_n 0, 1) := dk_42 (dk_at dksX1_positionsNoted_0 0 rfl rfl)
theorem dX1_positionsNoted_1 : decode cX1_positionsNoted 1 = .ok (.getfield 19, 3) := dk_180 0 19 (dk_at dksX1_positionsNoted_0 1 rfl rfl)
theorem dX1_positionsNoted_4 : decode cX1_positionsNoted 4 = .ok (.getfield 288, 3) := dk_180 1 32 (dk_at dksX1_positionsNoted_0 4 rfl rfl)
theorem dX1_positionsNoted_7 : decode cX1_positionsNoted 7 = .ok (.invokevirtual 292, 3) := dk_182 1 36 (dk_at dksX1_positionsNoted_0 7 rfl rfl)
theorem dX1_positionsNoted_10 : decode cX1_positionsNoted 10 = .ok (.ireturn, 1) := dk_172 (dk_at dksX1_positionsNoted_0 10 rfl rfl)
abbrev cX1_whyOver : ByteArray := prog_1_method_61_code
def yX1_whyOver : MethodName := ⟨RX1, "whyOver", "()I"⟩
def dkwX1_whyOver_0 : List UInt8 := [42, 180, 0, 19, 182, 0, 189, 172]
abbrev dktX1_whyOver_0 : List UInt8 := dkwX1_whyOver_0 ++ []
theorem dksX1_whyOver_0 : cX1_whyOver.data.toList.drop 0 = dktX1_whyOver_0 := by decide +kernel
theorem dX1_whyOver_0 : decode cX1_whyOver 0 = .ok (.aload_n 0, 1) := dk_42 (dk_at dksX1_whyOver_0 0 rfl rfl)
theorem dX1_whyOver_1 : decode cX1_whyOver 1 = .ok (.getfield 19, 3) := dk_180 0 19 (dk_at dksX1_whyOver_0 1 rfl rfl)
theorem dX1_whyOver_4 : decode cX1_whyOver 4 = .ok (.invokevirtual 189, 3) := dk_182 0 189 (dk_at dksX1_whyOver_0 4 rfl rfl)
theorem dX1_whyOver_7 : decode cX1_whyOver 7 = .ok (.ireturn, 1) := dk_172 (dk_at dksX1_whyOver_0 7 rfl rfl)
abbrev cX1_meanLoad : ByteArray := prog_1_method_75_code
def yX1_meanLoad : MethodName := ⟨RX1, "meanLoad", "()F"⟩
theorem dX1_meanLoad_0 : decode cX1_meanLoad 0 = .ok (.aload_n 0, 1) := by decide +kernel
theorem dX1_meanLoad_1 : decode cX1_meanLoad 1 = .ok (.invokevirtual 373, 3) := by decide +kernel
theorem dX1_meanLoad_4 : decode cX1_meanLoad 4 = .ok (.freturn, 1) := by decide +kernel
abbrev cX1_meanTold : ByteArray := prog_1_method_74_code
def yX1_meanTold : MethodName := ⟨RX1, "meanTold", "()F"⟩
def dkwX1_meanTold_0 : List UInt8 := [42, 180, 0, 19, 182, 1, 113, 134, 19, 1, 116, 110, 174]
abbrev dktX1_meanTold_0 : List UInt8 := dkwX1_meanTold_0 ++ []
theorem dksX1_meanTold_0 : cX1_meanTold.data.toList.drop 0 = dktX1_meanTold_0 := by decide +kernel
theorem dX1_meanTold_0 : decode cX1_meanTold 0 = .ok (.aload_n 0, 1) := dk_42 (dk_at dksX1_meanTold_0 0 rfl rfl)
theorem dX1_meanTold_1 : decode cX1_meanTold 1 = .ok (.getfield 19, 3) := dk_180 0 19 (dk_at dksX1_meanTold_0 1 rfl rfl)
theorem dX1_meanTold_4 : decode cX1_meanTold 4 = .ok (.invokevirtual 369, 3) := dk_182 1 113 (dk_at dksX1_meanTold_0 4 rfl rfl)
theorem dX1_meanTold_7 : decode cX1_meanTold 7 = .ok (.i2f, 1) := dk_134 (dk_at dksX1_meanTold_0 7 rfl rfl)
theorem dX1_meanTold_8 : decode cX1_meanTold 8 = .ok (.ldc_w 372, 3) := dk_19 1 116 (dk_at dksX1_meanTold_0 8 rfl rfl)
theorem dX1_meanTold_11 : decode cX1_meanTold 11 = .ok (.fdiv, 1) := dk_110 (dk_at dksX1_meanTold_0 11 rfl rfl)
theorem dX1_meanTold_12 : decode cX1_meanTold 12 = .ok (.freturn, 1) := dk_174 (dk_at dksX1_meanTold_0 12 rfl rfl)
abbrev cX1_deliveredShare : ByteArray := prog_1_method_77_code
def yX1_deliveredShare : MethodName := ⟨RX1, "deliveredShare", "()D"⟩
theorem dX1_deliveredShare_0 : decode cX1_deliveredShare 0 = .ok (.aload_n 0, 1) := by decide +kernel
theorem dX1_deliveredShare_1 : decode cX1_deliveredShare 1 = .ok (.invokevirtual 380, 3) := by decide +kernel
theorem dX1_deliveredShare_4 : decode cX1_deliveredShare 4 = .ok (.dreturn, 1) := by decide +kernel
abbrev cX1_shareTold : ByteArray := prog_1_method_76_code
def yX1_shareTold : MethodName := ⟨RX1, "shareTold", "()D"⟩
def dkwX1_shareTold_1 : List UInt8 := [182, 1, 121, 135, 27, 135, 111, 175]
abbrev dktX1_shareTold_1 : List UInt8 := dkwX1_shareTold_1 ++ []
def dkwX1_shareTold_0 : List UInt8 := [42, 180, 0, 19, 180, 0, 107, 182, 0, 55, 60, 27, 154, 0, 7, 14, 167, 0, 14, 42, 180, 0, 19]
abbrev dktX1_shareTold_0 : List UInt8 := dkwX1_shareTold_0 ++ dktX1_shareTold_1
theorem dksX1_shareTold_0 : cX1_shareTold.data.toList.drop 0 = dktX1_shareTold_0 := by decide +kernel
theorem dksX1_shareTold_1 : cX1_shareTold.data.toList.drop 23 = dktX1_shareTold_1 := dk_seg dksX1_shareTold_0 23 rfl rfl
theorem dX1_shareTold_0 : decode cX1_shareTold 0 = .ok (.aload_n 0, 1) := dk_42 (dk_at dksX1_shareTold_0 0 rfl rfl)
theorem dX1_shareTold_1 : decode cX1_shareTold 1 = .ok (.getfield 19, 3) := dk_180 0 19 (dk_at dksX1_shareTold_0 1 rfl rfl)
theorem dX1_shareTold_4 : decode cX1_shareTold 4 = .ok (.getfield 107, 3) := dk_180 0 107 (dk_at dksX1_shareTold_0 4 rfl rfl)
theorem dX1_shareTold_7 : decode cX1_shareTold 7 = .ok (.invokevirtual 55, 3) := dk_182 0 55 (dk_at dksX1_shareTold_0 7 rfl rfl)
theorem dX1_shareTold_10 : decode cX1_shareTold 10 = .ok (.istore_n 1, 1) := dk_60 (dk_at dksX1_shareTold_0 10 rfl rfl)
theorem dX1_shareTold_11 : decode cX1_shareTold 11 = .ok (.iload_n 1, 1) := dk_27 (dk_at dksX1_shareTold_0 11 rfl rfl)
theorem dX1_shareTold_12 : decode cX1_shareTold 12 = .ok (.ifCond .ne 7, 3) := dk_154 0 7 (dk_at dksX1_shareTold_0 12 rfl rfl)
theorem dX1_shareTold_15 : decode cX1_shareTold 15 = .ok (.dconst 0, 1) := dk_14 (dk_at dksX1_shareTold_0 15 rfl rfl)
theorem dX1_shareTold_16 : decode cX1_shareTold 16 = .ok (.goto 14, 3) := dk_167 0 14 (dk_at dksX1_shareTold_0 16 rfl rfl)
theorem dX1_shareTold_19 : decode cX1_shareTold 19 = .ok (.aload_n 0, 1) := dk_42 (dk_at dksX1_shareTold_0 19 rfl rfl)
theorem dX1_shareTold_20 : decode cX1_shareTold 20 = .ok (.getfield 19, 3) := dk_180 0 19 (dk_at dksX1_shareTold_0 20 rfl rfl)
theorem dX1_shareTold_23 : decode cX1_shareTold 23 = .ok (.invokevirtual 377, 3) := dk_182 1 121 (dk_at dksX1_shareTold_1 0 rfl rfl)
theorem dX1_shareTold_26 : decode cX1_shareTold 26 = .ok (.i2d, 1) := dk_135 (dk_at dksX1_shareTold_1 3 rfl rfl)
theorem dX1_shareTold_27 : decode cX1_shareTold 27 = .ok (.iload_n 1, 1) := dk_27 (dk_at dksX1_shareTold_1 4 rfl rfl)
theorem dX1_shareTold_28 : decode cX1_shareTold 28 = .ok (.i2d, 1) := dk_135 (dk_at dksX1_shareTold_1 5 rfl rfl)
theorem dX1_shareTold_29 : decode cX1_shareTold 29 = .ok (.ddiv, 1) := dk_111 (dk_at dksX1_shareTold_1 6 rfl rfl)
theorem dX1_shareTold_30 : decode cX1_shareTold 30 = .ok (.dreturn, 1) := dk_175 (dk_at dksX1_shareTold_1 7 rfl rfl)
abbrev cX1_digest : ByteArray := prog_1_method_83_code
def yX1_digest : MethodName := ⟨RX1, "digest", "()J"⟩
def dkwX1_digest_11 : List UInt8 := [132, 1, 1, 167, 255, 229, 42, 180, 1, 130, 173]
abbrev dktX1_digest_11 : List UInt8 := dkwX1_digest_11 ++ []
def dkwX1_digest_10 : List UInt8 := [27, 42, 180, 0, 48, 182, 0, 195, 162, 0, 22, 42, 42, 180, 0, 48, 27, 182, 1, 165, 133, 182, 1, 134]
abbrev dktX1_digest_10 : List UInt8 := dkwX1_digest_10 ++ dktX1_digest_11
def dkwX1_digest_9 : List UInt8 := [42, 182, 1, 124, 184, 1, 159, 182, 1, 134, 42, 42, 180, 0, 48, 182, 0, 195, 133, 182, 1, 134, 3, 60]
abbrev dktX1_digest_9 : List UInt8 := dkwX1_digest_9 ++ dktX1_digest_10
def dkwX1_digest_8 : List UInt8 := [42, 180, 0, 19, 180, 0, 228, 133, 182, 1, 134, 42, 42, 182, 1, 117, 184, 1, 153, 133, 182, 1, 134, 42]
abbrev dktX1_digest_8 : List UInt8 := dkwX1_digest_8 ++ dktX1_digest_9
def dkwX1_digest_7 : List UInt8 := [2, 159, 0, 7, 4, 167, 0, 4, 3, 182, 1, 138, 42, 180, 0, 19, 180, 0, 228, 2, 159, 0, 15, 42]
abbrev dktX1_digest_7 : List UInt8 := dkwX1_digest_7 ++ dktX1_digest_8
def dkwX1_digest_6 : List UInt8 := [27, 182, 0, 95, 192, 0, 110, 182, 1, 149, 132, 1, 1, 167, 255, 221, 42, 42, 180, 0, 19, 180, 0, 228]
abbrev dktX1_digest_6 : List UInt8 := dkwX1_digest_6 ++ dktX1_digest_7
def dkwX1_digest_5 : List UInt8 := [3, 60, 27, 42, 180, 0, 19, 180, 0, 107, 182, 0, 55, 162, 0, 27, 42, 42, 180, 0, 19, 180, 0, 107]
abbrev dktX1_digest_5 : List UInt8 := dkwX1_digest_5 ++ dktX1_digest_6
def dkwX1_digest_4 : List UInt8 := [132, 1, 1, 167, 255, 174, 3, 60, 27, 7, 162, 0, 14, 42, 27, 182, 1, 146, 132, 1, 1, 167, 255, 243]
abbrev dktX1_digest_4 : List UInt8 := dkwX1_digest_4 ++ dktX1_digest_5
def dkwX1_digest_3 : List UInt8 := [182, 1, 134, 42, 42, 180, 0, 19, 180, 0, 84, 27, 182, 0, 95, 192, 0, 98, 180, 0, 243, 182, 1, 138]
abbrev dktX1_digest_3 : List UInt8 := dkwX1_digest_3 ++ dktX1_digest_4
def dkwX1_digest_2 : List UInt8 := [182, 1, 134, 42, 42, 180, 0, 19, 180, 0, 84, 27, 182, 0, 95, 192, 0, 98, 180, 0, 186, 133]
abbrev dktX1_digest_2 : List UInt8 := dkwX1_digest_2 ++ dktX1_digest_3
def dkwX1_digest_1 : List UInt8 := [162, 0, 74, 42, 42, 180, 0, 19, 180, 0, 84, 27, 182, 0, 95, 192, 0, 98, 180, 0, 240, 133]
abbrev dktX1_digest_1 : List UInt8 := dkwX1_digest_1 ++ dktX1_digest_2
def dkwX1_digest_0 : List UInt8 := [42, 20, 1, 141, 181, 1, 130, 42, 182, 1, 143, 3, 60, 27, 42, 180, 0, 19, 180, 0, 84, 182, 0, 55]
abbrev dktX1_digest_0 : List UInt8 := dkwX1_digest_0 ++ dktX1_digest_1
theorem dksX1_digest_0 : cX1_digest.data.toList.drop 0 = dktX1_digest_0 := by decide +kernel
theorem dksX1_digest_1 : cX1_digest.data.toList.drop 24 = dktX1_digest_1 := dk_seg dksX1_digest_0 24 rfl rfl
theorem dksX1_digest_2 : cX1_digest.data.toList.drop 46 = dktX1_digest_2 := dk_seg dksX1_digest_1 22 rfl rfl
theorem dksX1_digest_3 : cX1_digest.data.toList.drop 68 = dktX1_digest_3 := dk_seg dksX1_digest_2 22 rfl rfl
theorem dksX1_digest_4 : cX1_digest.data.toList.drop 92 = dktX1_digest_4 := dk_seg dksX1_digest_3 24 rfl rfl
theorem dksX1_digest_5 : cX1_digest.data.toList.drop 116 = dktX1_digest_5 := dk_seg dksX1_digest_4 24 rfl rfl
theorem dksX1_digest_6 : cX1_digest.data.toList.drop 140 = dktX1_digest_6 := dk_seg dksX1_digest_5 24 rfl rfl
theorem dksX1_digest_7 : cX1_digest.data.toList.drop 164 = dktX1_digest_7 := dk_seg dksX1_digest_6 24 rfl rfl
theorem dksX1_digest_8 : cX1_digest.data.toList.drop 188 = dktX1_digest_8 := dk_seg dksX1_digest_7 24 rfl rfl
theorem dksX1_digest_9 : cX1_digest.data.toList.drop 212 = dktX1_digest_9 := dk_seg dksX1_digest_8 24 rfl rfl
theorem dksX1_digest_10 : cX1_digest.data.toList.drop 236 = dktX1_digest_10 := dk_seg dksX1_digest_9 24 rfl rfl
theorem dksX1_digest_11 : cX1_digest.data.toList.drop 260 = dktX1_digest_11 := dk_seg dksX1_digest_10 24 rfl rfl
theorem dX1_digest_0 : decode cX1_digest 0 = .ok (.aload_n 0, 1) := dk_42 (dk_at dksX1_digest_0 0 rfl rfl)
theorem dX1_digest_1 : decode cX1_digest 1 = .ok (.ldc2_w 397, 3) := dk_20 1 141 (dk_at dksX1_digest_0 1 rfl rfl)
theorem dX1_digest_4 : decode cX1_digest 4 = .ok (.putfield 386, 3) := dk_181 1 130 (dk_at dksX1_digest_0 4 rfl rfl)
theorem dX1_digest_7 : decode cX1_digest 7 = .ok (.aload_n 0, 1) := dk_42 (dk_at dksX1_digest_0 7 rfl rfl)
theorem dX1_digest_8 : decode cX1_digest 8 = .ok (.invokevirtual 399, 3) := dk_182 1 143 (dk_at dksX1_digest_0 8 rfl rfl)
theorem dX1_digest_11 : decode cX1_digest 11 = .ok (.iconst 0, 1) := dk_3 (dk_at dksX1_digest_0 11 rfl rfl)
theorem dX1_digest_12 : decode cX1_digest 12 = .ok (.istore_n 1, 1) := dk_60 (dk_at dksX1_digest_0 12 rfl rfl)
theorem dX1_digest_13 : decode cX1_digest 13 = .ok (.iload_n 1, 1) := dk_27 (dk_at dksX1_digest_0 13 rfl rfl)
theorem dX1_digest_14 : decode cX1_digest 14 = .ok (.aload_n 0, 1) := dk_42 (dk_at dksX1_digest_0 14 rfl rfl)
theorem dX1_digest_15 : decode cX1_digest 15 = .ok (.getfield 19, 3) := dk_180 0 19 (dk_at dksX1_digest_0 15 rfl rfl)
theorem dX1_digest_18 : decode cX1_digest 18 = .ok (.getfield 84, 3) := dk_180 0 84 (dk_at dksX1_digest_0 18 rfl rfl)
theorem dX1_digest_21 : decode cX1_digest 21 = .ok (.invokevirtual 55, 3) := dk_182 0 55 (dk_at dksX1_digest_0 21 rfl rfl)
theorem dX1_digest_24 : decode cX1_digest 24 = .ok (.if_icmp .ge 74, 3) := dk_162 0 74 (dk_at dksX1_digest_1 0 rfl rfl)
theorem dX1_digest_27 : decode cX1_digest 27 = .ok (.aload_n 0, 1) := dk_42 (dk_at dksX1_digest_1 3 rfl rfl)
theorem dX1_digest_28 : decode cX1_digest 28 = .ok (.aload_n 0, 1) := dk_42 (dk_at dksX1_digest_1 4 rfl rfl)
theorem dX1_digest_29 : decode cX1_digest 29 = .ok (.getfield 19, 3) := dk_180 0 19 (dk_at dksX1_digest_1 5 rfl rfl)
theorem dX1_digest_32 : decode cX1_digest 32 = .ok (.getfield 84, 3) := dk_180 0 84 (dk_at dksX1_digest_1 8 rfl rfl)
theorem dX1_digest_35 : decode cX1_digest 35 = .ok (.iload_n 1, 1) := dk_27 (dk_at dksX1_digest_1 11 rfl rfl)
theorem dX1_digest_36 : decode cX1_digest 36 = .ok (.invokevirtual 95, 3) := dk_182 0 95 (dk_at dksX1_digest_1 12 rfl rfl)
theorem dX1_digest_39 : decode cX1_digest 39 = .ok (.checkcast 98, 3) := dk_192 0 98 (dk_at dksX1_digest_1 15 rfl rfl)
theorem dX1_digest_42 : decode cX1_digest 42 = .ok (.getfield 240, 3) := dk_180 0 240 (dk_at dksX1_digest_1 18 rfl rfl)
theorem dX1_digest_45 : decode cX1_digest 45 = .ok (.i2l, 1) := dk_133 (dk_at dksX1_digest_1 21 rfl rfl)
theorem dX1_digest_46 : decode cX1_digest 46 = .ok (.invokevirtual 390, 3) := dk_182 1 134 (dk_at dksX1_digest_2 0 rfl rfl)
theorem dX1_digest_49 : decode cX1_digest 49 = .ok (.aload_n 0, 1) := dk_42 (dk_at dksX1_digest_2 3 rfl rfl)
theorem dX1_digest_50 : decode cX1_digest 50 = .ok (.aload_n 0, 1) := dk_42 (dk_at dksX1_digest_2 4 rfl rfl)
theorem dX1_digest_51 : decode cX1_digest 51 = .ok (.getfield 19, 3) := dk_180 0 19 (dk_at dksX1_digest_2 5 rfl rfl)
theorem dX1_digest_54 : decode cX1_digest 54 = .ok (.getfield 84, 3) := dk_180 0 84 (dk_at dksX1_digest_2 8 rfl rfl)
theorem dX1_digest_57 : decode cX1_digest 57 = .ok (.iload_n 1, 1) := dk_27 (dk_at dksX1_digest_2 11 rfl rfl)
theorem dX1_digest_58 : decode cX1_digest 58 = .ok (.invokevirtual 95, 3) := dk_182 0 95 (dk_at dksX1_digest_2 12 rfl rfl)
theorem dX1_digest_61 : decode cX1_digest 61 = .ok (.checkcast 98, 3) := dk_192 0 98 (dk_at dksX1_digest_2 15 rfl rfl)
theorem dX1_digest_64 : decode cX1_digest 64 = .ok (.getfield 186, 3) := dk_180 0 186 (dk_at dksX1_digest_2 18 rfl rfl)
theorem dX1_digest_67 : decode cX1_digest 67 = .ok (.i2l, 1) := dk_133 (dk_at dksX1_digest_2 21 rfl rfl)
theorem dX1_digest_68 : decode cX1_digest 68 = .ok (.invokevirtual 390, 3) := dk_182 1 134 (dk_at dksX1_digest_3 0 rfl rfl)
theorem dX1_digest_71 : decode cX1_digest 71 = .ok (.aload_n 0, 1) := dk_42 (dk_at dksX1_digest_3 3 rfl rfl)
theorem dX1_digest_72 : decode cX1_digest 72 = .ok (.aload_n 0, 1) := dk_42 (dk_at dksX1_digest_3 4 rfl rfl)
theorem dX1_digest_73 : decode cX1_digest 73 = .ok (.getfield 19, 3) := dk_180 0 19 (dk_at dksX1_digest_3 5 rfl rfl)
theorem dX1_digest_76 : decode cX1_digest 76 = .ok (.getfield 84, 3) := dk_180 0 84 (dk_at dksX1_digest_3 8 rfl rfl)
theorem dX1_digest_79 : decode cX1_digest 79 = .ok (.iload_n 1, 1) := dk_27 (dk_at dksX1_digest_3 11 rfl rfl)
theorem dX1_digest_80 : decode cX1_digest 80 = .ok (.invokevirtual 95, 3) := dk_182 0 95 (dk_at dksX1_digest_3 12 rfl rfl)
theorem dX1_digest_83 : decode cX1_digest 83 = .ok (.checkcast 98, 3) := dk_192 0 98 (dk_at dksX1_digest_3 15 rfl rfl)
theorem dX1_digest_86 : decode cX1_digest 86 = .ok (.getfield 243, 3) := dk_180 0 243 (dk_at dksX1_digest_3 18 rfl rfl)
theorem dX1_digest_89 : decode cX1_digest 89 = .ok (.invokevirtual 394, 3) := dk_182 1 138 (dk_at dksX1_digest_3 21 rfl rfl)
theorem dX1_digest_92 : decode cX1_digest 92 = .ok (.iinc 1 1, 3) := dk_132 1 1 (dk_at dksX1_digest_4 0 rfl rfl)
theorem dX1_digest_95 : decode cX1_digest 95 = .ok (.goto (-82), 3) := dk_167 255 174 (dk_at dksX1_digest_4 3 rfl rfl)
theorem dX1_digest_98 : decode cX1_digest 98 = .ok (.iconst 0, 1) := dk_3 (dk_at dksX1_digest_4 6 rfl rfl)
theorem dX1_digest_99 : decode cX1_digest 99 = .ok (.istore_n 1, 1) := dk_60 (dk_at dksX1_digest_4 7 rfl rfl)
theorem dX1_digest_100 : decode cX1_digest 100 = .ok (.iload_n 1, 1) := dk_27 (dk_at dksX1_digest_4 8 rfl rfl)
theorem dX1_digest_101 : decode cX1_digest 101 = .ok (.iconst 4, 1) := dk_7 (dk_at dksX1_digest_4 9 rfl rfl)
theorem dX1_digest_102 : decode cX1_digest 102 = .ok (.if_icmp .ge 14, 3) := dk_162 0 14 (dk_at dksX1_digest_4 10 rfl rfl)
theorem dX1_digest_105 : decode cX1_digest 105 = .ok (.aload_n 0, 1) := dk_42 (dk_at dksX1_digest_4 13 rfl rfl)
theorem dX1_digest_106 : decode cX1_digest 106 = .ok (.iload_n 1, 1) := dk_27 (dk_at dksX1_digest_4 14 rfl rfl)
theorem dX1_digest_107 : decode cX1_digest 107 = .ok (.invokevirtual 402, 3) := dk_182 1 146 (dk_at dksX1_digest_4 15 rfl rfl)
theorem dX1_digest_110 : decode cX1_digest 110 = .ok (.iinc 1 1, 3) := dk_132 1 1 (dk_at dksX1_digest_4 18 rfl rfl)
theorem dX1_digest_113 : decode cX1_digest 113 = .ok (.goto (-13), 3) := dk_167 255 243 (dk_at dksX1_digest_4 21 rfl rfl)
theorem dX1_digest_116 : decode cX1_digest 116 = .ok (.iconst 0, 1) := dk_3 (dk_at dksX1_digest_5 0 rfl rfl)
theorem dX1_digest_117 : decode cX1_digest 117 = .ok (.istore_n 1, 1) := dk_60 (dk_at dksX1_digest_5 1 rfl rfl)
theorem dX1_digest_118 : decode cX1_digest 118 = .ok (.iload_n 1, 1) := dk_27 (dk_at dksX1_digest_5 2 rfl rfl)
theorem dX1_digest_119 : decode cX1_digest 119 = .ok (.aload_n 0, 1) := dk_42 (dk_at dksX1_digest_5 3 rfl rfl)
theorem dX1_digest_120 : decode cX1_digest 120 = .ok (.getfield 19, 3) := dk_180 0 19 (dk_at dksX1_digest_5 4 rfl rfl)
theorem dX1_digest_123 : decode cX1_digest 123 = .ok (.getfield 107, 3) := dk_180 0 107 (dk_at dksX1_digest_5 7 rfl rfl)
theorem dX1_digest_126 : decode cX1_digest 126 = .ok (.invokevirtual 55, 3) := dk_182 0 55 (dk_at dksX1_digest_5 10 rfl rfl)
theorem dX1_digest_129 : decode cX1_digest 129 = .ok (.if_icmp .ge 27, 3) := dk_162 0 27 (dk_at dksX1_digest_5 13 rfl rfl)
theorem dX1_digest_132 : decode cX1_digest 132 = .ok (.aload_n 0, 1) := dk_42 (dk_at dksX1_digest_5 16 rfl rfl)
theorem dX1_digest_133 : decode cX1_digest 133 = .ok (.aload_n 0, 1) := dk_42 (dk_at dksX1_digest_5 17 rfl rfl)
theorem dX1_digest_134 : decode cX1_digest 134 = .ok (.getfield 19, 3) := dk_180 0 19 (dk_at dksX1_digest_5 18 rfl rfl)
theorem dX1_digest_137 : decode cX1_digest 137 = .ok (.getfield 107, 3) := dk_180 0 107 (dk_at dksX1_digest_5 21 rfl rfl)
theorem dX1_digest_140 : decode cX1_digest 140 = .ok (.iload_n 1, 1) := dk_27 (dk_at dksX1_digest_6 0 rfl rfl)
theorem dX1_digest_141 : decode cX1_digest 141 = .ok (.invokevirtual 95, 3) := dk_182 0 95 (dk_at dksX1_digest_6 1 rfl rfl)
theorem dX1_digest_144 : decode cX1_digest 144 = .ok (.checkcast 110, 3) := dk_192 0 110 (dk_at dksX1_digest_6 4 rfl rfl)
theorem dX1_digest_147 : decode cX1_digest 147 = .ok (.invokevirtual 405, 3) := dk_182 1 149 (dk_at dksX1_digest_6 7 rfl rfl)
theorem dX1_digest_150 : decode cX1_digest 150 = .ok (.iinc 1 1, 3) := dk_132 1 1 (dk_at dksX1_digest_6 10 rfl rfl)
theorem dX1_digest_153 : decode cX1_digest 153 = .ok (.goto (-35), 3) := dk_167 255 221 (dk_at dksX1_digest_6 13 rfl rfl)
theorem dX1_digest_156 : decode cX1_digest 156 = .ok (.aload_n 0, 1) := dk_42 (dk_at dksX1_digest_6 16 rfl rfl)
theorem dX1_digest_157 : decode cX1_digest 157 = .ok (.aload_n 0, 1) := dk_42 (dk_at dksX1_digest_6 17 rfl rfl)
theorem dX1_digest_158 : decode cX1_digest 158 = .ok (.getfield 19, 3) := dk_180 0 19 (dk_at dksX1_digest_6 18 rfl rfl)
theorem dX1_digest_161 : decode cX1_digest 161 = .ok (.getfield 228, 3) := dk_180 0 228 (dk_at dksX1_digest_6 21 rfl rfl)
theorem dX1_digest_164 : decode cX1_digest 164 = .ok (.iconst (-1), 1) := dk_2 (dk_at dksX1_digest_7 0 rfl rfl)
theorem dX1_digest_165 : decode cX1_digest 165 = .ok (.if_icmp .eq 7, 3) := dk_159 0 7 (dk_at dksX1_digest_7 1 rfl rfl)
theorem dX1_digest_168 : decode cX1_digest 168 = .ok (.iconst 1, 1) := dk_4 (dk_at dksX1_digest_7 4 rfl rfl)
theorem dX1_digest_169 : decode cX1_digest 169 = .ok (.goto 4, 3) := dk_167 0 4 (dk_at dksX1_digest_7 5 rfl rfl)
theorem dX1_digest_172 : decode cX1_digest 172 = .ok (.iconst 0, 1) := dk_3 (dk_at dksX1_digest_7 8 rfl rfl)
theorem dX1_digest_173 : decode cX1_digest 173 = .ok (.invokevirtual 394, 3) := dk_182 1 138 (dk_at dksX1_digest_7 9 rfl rfl)
theorem dX1_digest_176 : decode cX1_digest 176 = .ok (.aload_n 0, 1) := dk_42 (dk_at dksX1_digest_7 12 rfl rfl)
theorem dX1_digest_177 : decode cX1_digest 177 = .ok (.getfield 19, 3) := dk_180 0 19 (dk_at dksX1_digest_7 13 rfl rfl)
theorem dX1_digest_180 : decode cX1_digest 180 = .ok (.getfield 228, 3) := dk_180 0 228 (dk_at dksX1_digest_7 16 rfl rfl)
theorem dX1_digest_183 : decode cX1_digest 183 = .ok (.iconst (-1), 1) := dk_2 (dk_at dksX1_digest_7 19 rfl rfl)
theorem dX1_digest_184 : decode cX1_digest 184 = .ok (.if_icmp .eq 15, 3) := dk_159 0 15 (dk_at dksX1_digest_7 20 rfl rfl)
theorem dX1_digest_187 : decode cX1_digest 187 = .ok (.aload_n 0, 1) := dk_42 (dk_at dksX1_digest_7 23 rfl rfl)
theorem dX1_digest_188 : decode cX1_digest 188 = .ok (.aload_n 0, 1) := dk_42 (dk_at dksX1_digest_8 0 rfl rfl)
theorem dX1_digest_189 : decode cX1_digest 189 = .ok (.getfield 19, 3) := dk_180 0 19 (dk_at dksX1_digest_8 1 rfl rfl)
theorem dX1_digest_192 : decode cX1_digest 192 = .ok (.getfield 228, 3) := dk_180 0 228 (dk_at dksX1_digest_8 4 rfl rfl)
theorem dX1_digest_195 : decode cX1_digest 195 = .ok (.i2l, 1) := dk_133 (dk_at dksX1_digest_8 7 rfl rfl)
theorem dX1_digest_196 : decode cX1_digest 196 = .ok (.invokevirtual 390, 3) := dk_182 1 134 (dk_at dksX1_digest_8 8 rfl rfl)
theorem dX1_digest_199 : decode cX1_digest 199 = .ok (.aload_n 0, 1) := dk_42 (dk_at dksX1_digest_8 11 rfl rfl)
theorem dX1_digest_200 : decode cX1_digest 200 = .ok (.aload_n 0, 1) := dk_42 (dk_at dksX1_digest_8 12 rfl rfl)
theorem dX1_digest_201 : decode cX1_digest 201 = .ok (.invokevirtual 373, 3) := dk_182 1 117 (dk_at dksX1_digest_8 13 rfl rfl)
theorem dX1_digest_204 : decode cX1_digest 204 = .ok (.invokestatic 409, 3) := dk_184 1 153 (dk_at dksX1_digest_8 16 rfl rfl)
theorem dX1_digest_207 : decode cX1_digest 207 = .ok (.i2l, 1) := dk_133 (dk_at dksX1_digest_8 19 rfl rfl)
theorem dX1_digest_208 : decode cX1_digest 208 = .ok (.invokevirtual 390, 3) := dk_182 1 134 (dk_at dksX1_digest_8 20 rfl rfl)
theorem dX1_digest_211 : decode cX1_digest 211 = .ok (.aload_n 0, 1) := dk_42 (dk_at dksX1_digest_8 23 rfl rfl)
theorem dX1_digest_212 : decode cX1_digest 212 = .ok (.aload_n 0, 1) := dk_42 (dk_at dksX1_digest_9 0 rfl rfl)
theorem dX1_digest_213 : decode cX1_digest 213 = .ok (.invokevirtual 380, 3) := dk_182 1 124 (dk_at dksX1_digest_9 1 rfl rfl)
theorem dX1_digest_216 : decode cX1_digest 216 = .ok (.invokestatic 415, 3) := dk_184 1 159 (dk_at dksX1_digest_9 4 rfl rfl)
theorem dX1_digest_219 : decode cX1_digest 219 = .ok (.invokevirtual 390, 3) := dk_182 1 134 (dk_at dksX1_digest_9 7 rfl rfl)
theorem dX1_digest_222 : decode cX1_digest 222 = .ok (.aload_n 0, 1) := dk_42 (dk_at dksX1_digest_9 10 rfl rfl)
theorem dX1_digest_223 : decode cX1_digest 223 = .ok (.aload_n 0, 1) := dk_42 (dk_at dksX1_digest_9 11 rfl rfl)
theorem dX1_digest_224 : decode cX1_digest 224 = .ok (.getfield 48, 3) := dk_180 0 48 (dk_at dksX1_digest_9 12 rfl rfl)
theorem dX1_digest_227 : decode cX1_digest 227 = .ok (.invokevirtual 195, 3) := dk_182 0 195 (dk_at dksX1_digest_9 15 rfl rfl)
theorem dX1_digest_230 : decode cX1_digest 230 = .ok (.i2l, 1) := dk_133 (dk_at dksX1_digest_9 18 rfl rfl)
theorem dX1_digest_231 : decode cX1_digest 231 = .ok (.invokevirtual 390, 3) := dk_182 1 134 (dk_at dksX1_digest_9 19 rfl rfl)
theorem dX1_digest_234 : decode cX1_digest 234 = .ok (.iconst 0, 1) := dk_3 (dk_at dksX1_digest_9 22 rfl rfl)
theorem dX1_digest_235 : decode cX1_digest 235 = .ok (.istore_n 1, 1) := dk_60 (dk_at dksX1_digest_9 23 rfl rfl)
theorem dX1_digest_236 : decode cX1_digest 236 = .ok (.iload_n 1, 1) := dk_27 (dk_at dksX1_digest_10 0 rfl rfl)
theorem dX1_digest_237 : decode cX1_digest 237 = .ok (.aload_n 0, 1) := dk_42 (dk_at dksX1_digest_10 1 rfl rfl)
theorem dX1_digest_238 : decode cX1_digest 238 = .ok (.getfield 48, 3) := dk_180 0 48 (dk_at dksX1_digest_10 2 rfl rfl)
theorem dX1_digest_241 : decode cX1_digest 241 = .ok (.invokevirtual 195, 3) := dk_182 0 195 (dk_at dksX1_digest_10 5 rfl rfl)
theorem dX1_digest_244 : decode cX1_digest 244 = .ok (.if_icmp .ge 22, 3) := dk_162 0 22 (dk_at dksX1_digest_10 8 rfl rfl)
theorem dX1_digest_247 : decode cX1_digest 247 = .ok (.aload_n 0, 1) := dk_42 (dk_at dksX1_digest_10 11 rfl rfl)
theorem dX1_digest_248 : decode cX1_digest 248 = .ok (.aload_n 0, 1) := dk_42 (dk_at dksX1_digest_10 12 rfl rfl)
theorem dX1_digest_249 : decode cX1_digest 249 = .ok (.getfield 48, 3) := dk_180 0 48 (dk_at dksX1_digest_10 13 rfl rfl)
theorem dX1_digest_252 : decode cX1_digest 252 = .ok (.iload_n 1, 1) := dk_27 (dk_at dksX1_digest_10 16 rfl rfl)
theorem dX1_digest_253 : decode cX1_digest 253 = .ok (.invokevirtual 421, 3) := dk_182 1 165 (dk_at dksX1_digest_10 17 rfl rfl)
theorem dX1_digest_256 : decode cX1_digest 256 = .ok (.i2l, 1) := dk_133 (dk_at dksX1_digest_10 20 rfl rfl)
theorem dX1_digest_257 : decode cX1_digest 257 = .ok (.invokevirtual 390, 3) := dk_182 1 134 (dk_at dksX1_digest_10 21 rfl rfl)
theorem dX1_digest_260 : decode cX1_digest 260 = .ok (.iinc 1 1, 3) := dk_132 1 1 (dk_at dksX1_digest_11 0 rfl rfl)
theorem dX1_digest_263 : decode cX1_digest 263 = .ok (.goto (-27), 3) := dk_167 255 229 (dk_at dksX1_digest_11 3 rfl rfl)
theorem dX1_digest_266 : decode cX1_digest 266 = .ok (.aload_n 0, 1) := dk_42 (dk_at dksX1_digest_11 6 rfl rfl)
theorem dX1_digest_267 : decode cX1_digest 267 = .ok (.getfield 386, 3) := dk_180 1 130 (dk_at dksX1_digest_11 7 rfl rfl)
theorem dX1_digest_270 : decode cX1_digest 270 = .ok (.lreturn, 1) := dk_173 (dk_at dksX1_digest_11 10 rfl rfl)
abbrev cX1_mixSums : ByteArray := prog_1_method_80_code
def yX1_mixSums : MethodName := ⟨RX1, "mixSums", "()V"⟩
def dkwX1_mixSums_6 : List UInt8 := [182, 1, 134, 177]
abbrev dktX1_mixSums_6 : List UInt8 := dkwX1_mixSums_6 ++ []
def dkwX1_mixSums_5 : List UInt8 := [27, 182, 1, 23, 133, 182, 1, 134, 132, 1, 1, 167, 255, 221, 42, 42, 180, 0, 39, 182, 0, 55, 133]
abbrev dktX1_mixSums_5 : List UInt8 := dkwX1_mixSums_5 ++ dktX1_mixSums_6
def dkwX1_mixSums_4 : List UInt8 := [27, 5, 162, 0, 36, 42, 42, 180, 0, 19, 180, 1, 20, 27, 46, 133, 182, 1, 134, 42, 42, 180, 0, 19]
abbrev dktX1_mixSums_4 : List UInt8 := dkwX1_mixSums_4 ++ dktX1_mixSums_5
def dkwX1_mixSums_3 : List UInt8 := [180, 1, 32, 182, 1, 36, 133, 182, 1, 134, 42, 42, 180, 0, 19, 182, 0, 189, 133, 182, 1, 134, 3, 60]
abbrev dktX1_mixSums_3 : List UInt8 := dkwX1_mixSums_3 ++ dktX1_mixSums_4
def dkwX1_mixSums_2 : List UInt8 := [180, 1, 26, 133, 182, 1, 134, 42, 42, 180, 0, 19, 182, 1, 29, 133, 182, 1, 134, 42, 42, 180, 0, 19]
abbrev dktX1_mixSums_2 : List UInt8 := dkwX1_mixSums_2 ++ dktX1_mixSums_3
def dkwX1_mixSums_1 : List UInt8 := [182, 0, 55, 133, 182, 1, 134, 42, 42, 180, 0, 19, 180, 0, 237, 133, 182, 1, 134, 42, 42, 180, 0, 19]
abbrev dktX1_mixSums_1 : List UInt8 := dkwX1_mixSums_1 ++ dktX1_mixSums_2
def dkwX1_mixSums_0 : List UInt8 := [42, 42, 180, 0, 19, 180, 0, 84, 182, 0, 55, 133, 182, 1, 134, 42, 42, 180, 0, 19, 180, 0, 107]
abbrev dktX1_mixSums_0 : List UInt8 := dkwX1_mixSums_0 ++ dktX1_mixSums_1
theorem dksX1_mixSums_0 : cX1_mixSums.data.toList.drop 0 = dktX1_mixSums_0 := by decide +kernel
theorem dksX1_mixSums_1 : cX1_mixSums.data.toList.drop 23 = dktX1_mixSums_1 := dk_seg dksX1_mixSums_0 23 rfl rfl
theorem dksX1_mixSums_2 : cX1_mixSums.data.toList.drop 47 = dktX1_mixSums_2 := dk_seg dksX1_mixSums_1 24 rfl rfl
theorem dksX1_mixSums_3 : cX1_mixSums.data.toList.drop 71 = dktX1_mixSums_3 := dk_seg dksX1_mixSums_2 24 rfl rfl
theorem dksX1_mixSums_4 : cX1_mixSums.data.toList.drop 95 = dktX1_mixSums_4 := dk_seg dksX1_mixSums_3 24 rfl rfl
theorem dksX1_mixSums_5 : cX1_mixSums.data.toList.drop 119 = dktX1_mixSums_5 := dk_seg dksX1_mixSums_4 24 rfl rfl
theorem dksX1_mixSums_6 : cX1_mixSums.data.toList.drop 142 = dktX1_mixSums_6 := dk_seg dksX1_mixSums_5 23 rfl rfl
theorem dX1_mixSums_0 : decode cX1_mixSums 0 = .ok (.aload_n 0, 1) := dk_42 (dk_at dksX1_mixSums_0 0 rfl rfl)
theorem dX1_mixSums_1 : decode cX1_mixSums 1 = .ok (.aload_n 0, 1) := dk_42 (dk_at dksX1_mixSums_0 1 rfl rfl)
theorem dX1_mixSums_2 : decode cX1_mixSums 2 = .ok (.getfield 19, 3) := dk_180 0 19 (dk_at dksX1_mixSums_0 2 rfl rfl)
theorem dX1_mixSums_5 : decode cX1_mixSums 5 = .ok (.getfield 84, 3) := dk_180 0 84 (dk_at dksX1_mixSums_0 5 rfl rfl)
theorem dX1_mixSums_8 : decode cX1_mixSums 8 = .ok (.invokevirtual 55, 3) := dk_182 0 55 (dk_at dksX1_mixSums_0 8 rfl rfl)
theorem dX1_mixSums_11 : decode cX1_mixSums 11 = .ok (.i2l, 1) := dk_133 (dk_at dksX1_mixSums_0 11 rfl rfl)
theorem dX1_mixSums_12 : decode cX1_mixSums 12 = .ok (.invokevirtual 390, 3) := dk_182 1 134 (dk_at dksX1_mixSums_0 12 rfl rfl)
theorem dX1_mixSums_15 : decode cX1_mixSums 15 = .ok (.aload_n 0, 1) := dk_42 (dk_at dksX1_mixSums_0 15 rfl rfl)
theorem dX1_mixSums_16 : decode cX1_mixSums 16 = .ok (.aload_n 0, 1) := dk_42 (dk_at dksX1_mixSums_0 16 rfl rfl)
theorem dX1_mixSums_17 : decode cX1_mixSums 17 = .ok (.getfield 19, 3) := dk_180 0 19 (dk_at dksX1_mixSums_0 17 rfl rfl)
theorem dX1_mixSums_20 : decode cX1_mixSums 20 = .ok (.getfield 107, 3) := dk_180 0 107 (dk_at dksX1_mixSums_0 20 rfl rfl)
theorem dX1_mixSums_23 : decode cX1_mixSums 23 = .ok (.invokevirtual 55, 3) := dk_182 0 55 (dk_at dksX1_mixSums_1 0 rfl rfl)
theorem dX1_mixSums_26 : decode cX1_mixSums 26 = .ok (.i2l, 1) := dk_133 (dk_at dksX1_mixSums_1 3 rfl rfl)
theorem dX1_mixSums_27 : decode cX1_mixSums 27 = .ok (.invokevirtual 390, 3) := dk_182 1 134 (dk_at dksX1_mixSums_1 4 rfl rfl)
theorem dX1_mixSums_30 : decode cX1_mixSums 30 = .ok (.aload_n 0, 1) := dk_42 (dk_at dksX1_mixSums_1 7 rfl rfl)
theorem dX1_mixSums_31 : decode cX1_mixSums 31 = .ok (.aload_n 0, 1) := dk_42 (dk_at dksX1_mixSums_1 8 rfl rfl)
theorem dX1_mixSums_32 : decode cX1_mixSums 32 = .ok (.getfield 19, 3) := dk_180 0 19 (dk_at dksX1_mixSums_1 9 rfl rfl)
theorem dX1_mixSums_35 : decode cX1_mixSums 35 = .ok (.getfield 237, 3) := dk_180 0 237 (dk_at dksX1_mixSums_1 12 rfl rfl)
theorem dX1_mixSums_38 : decode cX1_mixSums 38 = .ok (.i2l, 1) := dk_133 (dk_at dksX1_mixSums_1 15 rfl rfl)
theorem dX1_mixSums_39 : decode cX1_mixSums 39 = .ok (.invokevirtual 390, 3) := dk_182 1 134 (dk_at dksX1_mixSums_1 16 rfl rfl)
theorem dX1_mixSums_42 : decode cX1_mixSums 42 = .ok (.aload_n 0, 1) := dk_42 (dk_at dksX1_mixSums_1 19 rfl rfl)
theorem dX1_mixSums_43 : decode cX1_mixSums 43 = .ok (.aload_n 0, 1) := dk_42 (dk_at dksX1_mixSums_1 20 rfl rfl)
theorem dX1_mixSums_44 : decode cX1_mixSums 44 = .ok (.getfield 19, 3) := dk_180 0 19 (dk_at dksX1_mixSums_1 21 rfl rfl)
theorem dX1_mixSums_47 : decode cX1_mixSums 47 = .ok (.getfield 282, 3) := dk_180 1 26 (dk_at dksX1_mixSums_2 0 rfl rfl)
theorem dX1_mixSums_50 : decode cX1_mixSums 50 = .ok (.i2l, 1) := dk_133 (dk_at dksX1_mixSums_2 3 rfl rfl)
theorem dX1_mixSums_51 : decode cX1_mixSums 51 = .ok (.invokevirtual 390, 3) := dk_182 1 134 (dk_at dksX1_mixSums_2 4 rfl rfl)
theorem dX1_mixSums_54 : decode cX1_mixSums 54 = .ok (.aload_n 0, 1) := dk_42 (dk_at dksX1_mixSums_2 7 rfl rfl)
theorem dX1_mixSums_55 : decode cX1_mixSums 55 = .ok (.aload_n 0, 1) := dk_42 (dk_at dksX1_mixSums_2 8 rfl rfl)
theorem dX1_mixSums_56 : decode cX1_mixSums 56 = .ok (.getfield 19, 3) := dk_180 0 19 (dk_at dksX1_mixSums_2 9 rfl rfl)
theorem dX1_mixSums_59 : decode cX1_mixSums 59 = .ok (.invokevirtual 285, 3) := dk_182 1 29 (dk_at dksX1_mixSums_2 12 rfl rfl)
theorem dX1_mixSums_62 : decode cX1_mixSums 62 = .ok (.i2l, 1) := dk_133 (dk_at dksX1_mixSums_2 15 rfl rfl)
theorem dX1_mixSums_63 : decode cX1_mixSums 63 = .ok (.invokevirtual 390, 3) := dk_182 1 134 (dk_at dksX1_mixSums_2 16 rfl rfl)
theorem dX1_mixSums_66 : decode cX1_mixSums 66 = .ok (.aload_n 0, 1) := dk_42 (dk_at dksX1_mixSums_2 19 rfl rfl)
theorem dX1_mixSums_67 : decode cX1_mixSums 67 = .ok (.aload_n 0, 1) := dk_42 (dk_at dksX1_mixSums_2 20 rfl rfl)
theorem dX1_mixSums_68 : decode cX1_mixSums 68 = .ok (.getfield 19, 3) := dk_180 0 19 (dk_at dksX1_mixSums_2 21 rfl rfl)
theorem dX1_mixSums_71 : decode cX1_mixSums 71 = .ok (.getfield 288, 3) := dk_180 1 32 (dk_at dksX1_mixSums_3 0 rfl rfl)
theorem dX1_mixSums_74 : decode cX1_mixSums 74 = .ok (.invokevirtual 292, 3) := dk_182 1 36 (dk_at dksX1_mixSums_3 3 rfl rfl)
theorem dX1_mixSums_77 : decode cX1_mixSums 77 = .ok (.i2l, 1) := dk_133 (dk_at dksX1_mixSums_3 6 rfl rfl)
theorem dX1_mixSums_78 : decode cX1_mixSums 78 = .ok (.invokevirtual 390, 3) := dk_182 1 134 (dk_at dksX1_mixSums_3 7 rfl rfl)
theorem dX1_mixSums_81 : decode cX1_mixSums 81 = .ok (.aload_n 0, 1) := dk_42 (dk_at dksX1_mixSums_3 10 rfl rfl)
theorem dX1_mixSums_82 : decode cX1_mixSums 82 = .ok (.aload_n 0, 1) := dk_42 (dk_at dksX1_mixSums_3 11 rfl rfl)
theorem dX1_mixSums_83 : decode cX1_mixSums 83 = .ok (.getfield 19, 3) := dk_180 0 19 (dk_at dksX1_mixSums_3 12 rfl rfl)
theorem dX1_mixSums_86 : decode cX1_mixSums 86 = .ok (.invokevirtual 189, 3) := dk_182 0 189 (dk_at dksX1_mixSums_3 15 rfl rfl)
theorem dX1_mixSums_89 : decode cX1_mixSums 89 = .ok (.i2l, 1) := dk_133 (dk_at dksX1_mixSums_3 18 rfl rfl)
theorem dX1_mixSums_90 : decode cX1_mixSums 90 = .ok (.invokevirtual 390, 3) := dk_182 1 134 (dk_at dksX1_mixSums_3 19 rfl rfl)
theorem dX1_mixSums_93 : decode cX1_mixSums 93 = .ok (.iconst 0, 1) := dk_3 (dk_at dksX1_mixSums_3 22 rfl rfl)
theorem dX1_mixSums_94 : decode cX1_mixSums 94 = .ok (.istore_n 1, 1) := dk_60 (dk_at dksX1_mixSums_3 23 rfl rfl)
theorem dX1_mixSums_95 : decode cX1_mixSums 95 = .ok (.iload_n 1, 1) := dk_27 (dk_at dksX1_mixSums_4 0 rfl rfl)
theorem dX1_mixSums_96 : decode cX1_mixSums 96 = .ok (.iconst 2, 1) := dk_5 (dk_at dksX1_mixSums_4 1 rfl rfl)
theorem dX1_mixSums_97 : decode cX1_mixSums 97 = .ok (.if_icmp .ge 36, 3) := dk_162 0 36 (dk_at dksX1_mixSums_4 2 rfl rfl)
theorem dX1_mixSums_100 : decode cX1_mixSums 100 = .ok (.aload_n 0, 1) := dk_42 (dk_at dksX1_mixSums_4 5 rfl rfl)
theorem dX1_mixSums_101 : decode cX1_mixSums 101 = .ok (.aload_n 0, 1) := dk_42 (dk_at dksX1_mixSums_4 6 rfl rfl)
theorem dX1_mixSums_102 : decode cX1_mixSums 102 = .ok (.getfield 19, 3) := dk_180 0 19 (dk_at dksX1_mixSums_4 7 rfl rfl)
theorem dX1_mixSums_105 : decode cX1_mixSums 105 = .ok (.getfield 276, 3) := dk_180 1 20 (dk_at dksX1_mixSums_4 10 rfl rfl)
theorem dX1_mixSums_108 : decode cX1_mixSums 108 = .ok (.iload_n 1, 1) := dk_27 (dk_at dksX1_mixSums_4 13 rfl rfl)
theorem dX1_mixSums_109 : decode cX1_mixSums 109 = .ok (.iaload, 1) := dk_46 (dk_at dksX1_mixSums_4 14 rfl rfl)
theorem dX1_mixSums_110 : decode cX1_mixSums 110 = .ok (.i2l, 1) := dk_133 (dk_at dksX1_mixSums_4 15 rfl rfl)
theorem dX1_mixSums_111 : decode cX1_mixSums 111 = .ok (.invokevirtual 390, 3) := dk_182 1 134 (dk_at dksX1_mixSums_4 16 rfl rfl)
theorem dX1_mixSums_114 : decode cX1_mixSums 114 = .ok (.aload_n 0, 1) := dk_42 (dk_at dksX1_mixSums_4 19 rfl rfl)
theorem dX1_mixSums_115 : decode cX1_mixSums 115 = .ok (.aload_n 0, 1) := dk_42 (dk_at dksX1_mixSums_4 20 rfl rfl)
theorem dX1_mixSums_116 : decode cX1_mixSums 116 = .ok (.getfield 19, 3) := dk_180 0 19 (dk_at dksX1_mixSums_4 21 rfl rfl)
theorem dX1_mixSums_119 : decode cX1_mixSums 119 = .ok (.iload_n 1, 1) := dk_27 (dk_at dksX1_mixSums_5 0 rfl rfl)
theorem dX1_mixSums_120 : decode cX1_mixSums 120 = .ok (.invokevirtual 279, 3) := dk_182 1 23 (dk_at dksX1_mixSums_5 1 rfl rfl)
theorem dX1_mixSums_123 : decode cX1_mixSums 123 = .ok (.i2l, 1) := dk_133 (dk_at dksX1_mixSums_5 4 rfl rfl)
theorem dX1_mixSums_124 : decode cX1_mixSums 124 = .ok (.invokevirtual 390, 3) := dk_182 1 134 (dk_at dksX1_mixSums_5 5 rfl rfl)
theorem dX1_mixSums_127 : decode cX1_mixSums 127 = .ok (.iinc 1 1, 3) := dk_132 1 1 (dk_at dksX1_mixSums_5 8 rfl rfl)
theorem dX1_mixSums_130 : decode cX1_mixSums 130 = .ok (.goto (-35), 3) := dk_167 255 221 (dk_at dksX1_mixSums_5 11 rfl rfl)
theorem dX1_mixSums_133 : decode cX1_mixSums 133 = .ok (.aload_n 0, 1) := dk_42 (dk_at dksX1_mixSums_5 14 rfl rfl)
theorem dX1_mixSums_134 : decode cX1_mixSums 134 = .ok (.aload_n 0, 1) := dk_42 (dk_at dksX1_mixSums_5 15 rfl rfl)
theorem dX1_mixSums_135 : decode cX1_mixSums 135 = .ok (.getfield 39, 3) := dk_180 0 39 (dk_at dksX1_mixSums_5 16 rfl rfl)
theorem dX1_mixSums_138 : decode cX1_mixSums 138 = .ok (.invokevirtual 55, 3) := dk_182 0 55 (dk_at dksX1_mixSums_5 19 rfl rfl)
theorem dX1_mixSums_141 : decode cX1_mixSums 141 = .ok (.i2l, 1) := dk_133 (dk_at dksX1_mixSums_5 22 rfl rfl)
theorem dX1_mixSums_142 : decode cX1_mixSums 142 = .ok (.invokevirtual 390, 3) := dk_182 1 134 (dk_at dksX1_mixSums_6 0 rfl rfl)
theorem dX1_mixSums_145 : decode cX1_mixSums 145 = .ok (.return_, 1) := dk_177 (dk_at dksX1_mixSums_6 3 rfl rfl)
abbrev cX1_mix : ByteArray := prog_1_method_78_code
def yX1_mix : MethodName := ⟨RX1, "mix", "(J)V"⟩
def dkwX1_mix_0 : List UInt8 := [42, 20, 1, 128, 42, 180, 1, 130, 105, 31, 97, 181, 1, 130, 177]
abbrev dktX1_mix_0 : List UInt8 := dkwX1_mix_0 ++ []
theorem dksX1_mix_0 : cX1_mix.data.toList.drop 0 = dktX1_mix_0 := by decide +kernel
theorem dX1_mix_0 : decode cX1_mix 0 = .ok (.aload_n 0, 1) := dk_42 (dk_at dksX1_mix_0 0 rfl rfl)
theorem dX1_mix_1 : decode cX1_mix 1 = .ok (.ldc2_w 384, 3) := dk_20 1 128 (dk_at dksX1_mix_0 1 rfl rfl)
theorem dX1_mix_4 : decode cX1_mix 4 = .ok (.aload_n 0, 1) := dk_42 (dk_at dksX1_mix_0 4 rfl rfl)
theorem dX1_mix_5 : decode cX1_mix 5 = .ok (.getfield 386, 3) := dk_180 1 130 (dk_at dksX1_mix_0 5 rfl rfl)
theorem dX1_mix_8 : decode cX1_mix 8 = .ok (.lmul, 1) := dk_105 (dk_at dksX1_mix_0 8 rfl rfl)
theorem dX1_mix_9 : decode cX1_mix 9 = .ok (.lload_n 1, 1) := dk_31 (dk_at dksX1_mix_0 9 rfl rfl)
theorem dX1_mix_10 : decode cX1_mix 10 = .ok (.ladd, 1) := dk_97 (dk_at dksX1_mix_0 10 rfl rfl)
theorem dX1_mix_11 : decode cX1_mix 11 = .ok (.putfield 386, 3) := dk_181 1 130 (dk_at dksX1_mix_0 11 rfl rfl)
theorem dX1_mix_14 : decode cX1_mix 14 = .ok (.return_, 1) := dk_177 (dk_at dksX1_mix_0 14 rfl rfl)
abbrev cX1_mixIf : ByteArray := prog_1_method_79_code
def yX1_mixIf : MethodName := ⟨RX1, "mixIf", "(Z)V"⟩
def dkwX1_mixIf_0 : List UInt8 := [42, 27, 153, 0, 7, 10, 167, 0, 4, 9, 182, 1, 134, 177]
abbrev dktX1_mixIf_0 : List UInt8 := dkwX1_mixIf_0 ++ []
theorem dksX1_mixIf_0 : cX1_mixIf.data.toList.drop 0 = dktX1_mixIf_0 := by decide +kernel
theorem dX1_mixIf_0 : decode cX1_mixIf 0 = .ok (.aload_n 0, 1) := dk_42 (dk_at dksX1_mixIf_0 0 rfl rfl)
theorem dX1_mixIf_1 : decode cX1_mixIf 1 = .ok (.iload_n 1, 1) := dk_27 (dk_at dksX1_mixIf_0 1 rfl rfl)
theorem dX1_mixIf_2 : decode cX1_mixIf 2 = .ok (.ifCond .eq 7, 3) := dk_153 0 7 (dk_at dksX1_mixIf_0 2 rfl rfl)
theorem dX1_mixIf_5 : decode cX1_mixIf 5 = .ok (.lconst 1, 1) := dk_10 (dk_at dksX1_mixIf_0 5 rfl rfl)
theorem dX1_mixIf_6 : decode cX1_mixIf 6 = .ok (.goto 4, 3) := dk_167 0 4 (dk_at dksX1_mixIf_0 6 rfl rfl)
theorem dX1_mixIf_9 : decode cX1_mixIf 9 = .ok (.lconst 0, 1) := dk_9 (dk_at dksX1_mixIf_0 9 rfl rfl)
theorem dX1_mixIf_10 : decode cX1_mixIf 10 = .ok (.invokevirtual 390, 3) := dk_182 1 134 (dk_at dksX1_mixIf_0 10 rfl rfl)
theorem dX1_mixIf_13 : decode cX1_mixIf 13 = .ok (.return_, 1) := dk_177 (dk_at dksX1_mixIf_0 13 rfl rfl)
abbrev cX1_mixCourier : ByteArray := prog_1_method_81_code
def yX1_mixCourier : MethodName := ⟨RX1, "mixCourier", "(I)V"⟩
def dkwX1_mixCourier_7 : List UInt8 := [167, 255, 233, 177]
abbrev dktX1_mixCourier_7 : List UInt8 := dkwX1_mixCourier_7 ++ []
def dkwX1_mixCourier_6 : List UInt8 := [62, 29, 16, 10, 162, 0, 23, 42, 42, 180, 0, 28, 180, 1, 61, 29, 46, 133, 182, 1, 134, 132, 3, 1]
abbrev dktX1_mixCourier_6 : List UInt8 := dkwX1_mixCourier_6 ++ dktX1_mixCourier_7
def dkwX1_mixCourier_5 : List UInt8 := [182, 1, 134, 42, 42, 180, 0, 19, 182, 1, 109, 27, 46, 133, 182, 1, 134, 42, 44, 182, 1, 43, 87, 3]
abbrev dktX1_mixCourier_5 : List UInt8 := dkwX1_mixCourier_5 ++ dktX1_mixCourier_6
def dkwX1_mixCourier_4 : List UInt8 := [182, 1, 134, 42, 42, 44, 182, 1, 43, 182, 1, 47, 133, 182, 1, 134, 42, 42, 44, 182, 1, 57, 133]
abbrev dktX1_mixCourier_4 : List UInt8 := dkwX1_mixCourier_4 ++ dktX1_mixCourier_5
def dkwX1_mixCourier_3 : List UInt8 := [180, 0, 183, 133, 182, 1, 134, 42, 44, 180, 0, 250, 133, 182, 1, 134, 42, 44, 180, 0, 253, 133]
abbrev dktX1_mixCourier_3 : List UInt8 := dkwX1_mixCourier_3 ++ dktX1_mixCourier_4
def dkwX1_mixCourier_2 : List UInt8 := [2, 159, 0, 7, 4, 167, 0, 4, 3, 182, 1, 138, 44, 180, 0, 183, 2, 159, 0, 12, 42, 44]
abbrev dktX1_mixCourier_2 : List UInt8 := dkwX1_mixCourier_2 ++ dktX1_mixCourier_3
def dkwX1_mixCourier_1 : List UInt8 := [182, 0, 155, 182, 1, 138, 42, 42, 180, 0, 19, 27, 182, 0, 161, 133, 182, 1, 134, 42, 44, 180, 0, 183]
abbrev dktX1_mixCourier_1 : List UInt8 := dkwX1_mixCourier_1 ++ dktX1_mixCourier_2
def dkwX1_mixCourier_0 : List UInt8 := [42, 180, 0, 19, 180, 0, 103, 27, 50, 77, 42, 44, 180, 0, 247, 133, 182, 1, 134, 42, 44, 180, 0, 149]
abbrev dktX1_mixCourier_0 : List UInt8 := dkwX1_mixCourier_0 ++ dktX1_mixCourier_1
theorem dksX1_mixCourier_0 : cX1_mixCourier.data.toList.drop 0 = dktX1_mixCourier_0 := by decide +kernel
theorem dksX1_mixCourier_1 : cX1_mixCourier.data.toList.drop 24 = dktX1_mixCourier_1 := dk_seg dksX1_mixCourier_0 24 rfl rfl
theorem dksX1_mixCourier_2 : cX1_mixCourier.data.toList.drop 48 = dktX1_mixCourier_2 := dk_seg dksX1_mixCourier_1 24 rfl rfl
theorem dksX1_mixCourier_3 : cX1_mixCourier.data.toList.drop 70 = dktX1_mixCourier_3 := dk_seg dksX1_mixCourier_2 22 rfl rfl
theorem dksX1_mixCourier_4 : cX1_mixCourier.data.toList.drop 92 = dktX1_mixCourier_4 := dk_seg dksX1_mixCourier_3 22 rfl rfl
theorem dksX1_mixCourier_5 : cX1_mixCourier.data.toList.drop 115 = dktX1_mixCourier_5 := dk_seg dksX1_mixCourier_4 23 rfl rfl
theorem dksX1_mixCourier_6 : cX1_mixCourier.data.toList.drop 139 = dktX1_mixCourier_6 := dk_seg dksX1_mixCourier_5 24 rfl rfl
theorem dksX1_mixCourier_7 : cX1_mixCourier.data.toList.drop 163 = dktX1_mixCourier_7 := dk_seg dksX1_mixCourier_6 24 rfl rfl
theorem dX1_mixCourier_0 : decode cX1_mixCourier 0 = .ok (.aload_n 0, 1) := dk_42 (dk_at dksX1_mixCourier_0 0 rfl rfl)
theorem dX1_mixCourier_1 : decode cX1_mixCourier 1 = .ok (.getfield 19, 3) := dk_180 0 19 (dk_at dksX1_mixCourier_0 1 rfl rfl)
theorem dX1_mixCourier_4 : decode cX1_mixCourier 4 = .ok (.getfield 103, 3) := dk_180 0 103 (dk_at dksX1_mixCourier_0 4 rfl rfl)
theorem dX1_mixCourier_7 : decode cX1_mixCourier 7 = .ok (.iload_n 1, 1) := dk_27 (dk_at dksX1_mixCourier_0 7 rfl rfl)
theorem dX1_mixCourier_8 : decode cX1_mixCourier 8 = .ok (.aaload, 1) := dk_50 (dk_at dksX1_mixCourier_0 8 rfl rfl)
theorem dX1_mixCourier_9 : decode cX1_mixCourier 9 = .ok (.astore_n 2, 1) := dk_77 (dk_at dksX1_mixCourier_0 9 rfl rfl)
theorem dX1_mixCourier_10 : decode cX1_mixCourier 10 = .ok (.aload_n 0, 1) := dk_42 (dk_at dksX1_mixCourier_0 10 rfl rfl)
theorem dX1_mixCourier_11 : decode cX1_mixCourier 11 = .ok (.aload_n 2, 1) := dk_44 (dk_at dksX1_mixCourier_0 11 rfl rfl)
theorem dX1_mixCourier_12 : decode cX1_mixCourier 12 = .ok (.getfield 247, 3) := dk_180 0 247 (dk_at dksX1_mixCourier_0 12 rfl rfl)
theorem dX1_mixCourier_15 : decode cX1_mixCourier 15 = .ok (.i2l, 1) := dk_133 (dk_at dksX1_mixCourier_0 15 rfl rfl)
theorem dX1_mixCourier_16 : decode cX1_mixCourier 16 = .ok (.invokevirtual 390, 3) := dk_182 1 134 (dk_at dksX1_mixCourier_0 16 rfl rfl)
theorem dX1_mixCourier_19 : decode cX1_mixCourier 19 = .ok (.aload_n 0, 1) := dk_42 (dk_at dksX1_mixCourier_0 19 rfl rfl)
theorem dX1_mixCourier_20 : decode cX1_mixCourier 20 = .ok (.aload_n 2, 1) := dk_44 (dk_at dksX1_mixCourier_0 20 rfl rfl)
theorem dX1_mixCourier_21 : decode cX1_mixCourier 21 = .ok (.getfield 149, 3) := dk_180 0 149 (dk_at dksX1_mixCourier_0 21 rfl rfl)
theorem dX1_mixCourier_24 : decode cX1_mixCourier 24 = .ok (.invokevirtual 155, 3) := dk_182 0 155 (dk_at dksX1_mixCourier_1 0 rfl rfl)
theorem dX1_mixCourier_27 : decode cX1_mixCourier 27 = .ok (.invokevirtual 394, 3) := dk_182 1 138 (dk_at dksX1_mixCourier_1 3 rfl rfl)
theorem dX1_mixCourier_30 : decode cX1_mixCourier 30 = .ok (.aload_n 0, 1) := dk_42 (dk_at dksX1_mixCourier_1 6 rfl rfl)
theorem dX1_mixCourier_31 : decode cX1_mixCourier 31 = .ok (.aload_n 0, 1) := dk_42 (dk_at dksX1_mixCourier_1 7 rfl rfl)
theorem dX1_mixCourier_32 : decode cX1_mixCourier 32 = .ok (.getfield 19, 3) := dk_180 0 19 (dk_at dksX1_mixCourier_1 8 rfl rfl)
theorem dX1_mixCourier_35 : decode cX1_mixCourier 35 = .ok (.iload_n 1, 1) := dk_27 (dk_at dksX1_mixCourier_1 11 rfl rfl)
theorem dX1_mixCourier_36 : decode cX1_mixCourier 36 = .ok (.invokevirtual 161, 3) := dk_182 0 161 (dk_at dksX1_mixCourier_1 12 rfl rfl)
theorem dX1_mixCourier_39 : decode cX1_mixCourier 39 = .ok (.i2l, 1) := dk_133 (dk_at dksX1_mixCourier_1 15 rfl rfl)
theorem dX1_mixCourier_40 : decode cX1_mixCourier 40 = .ok (.invokevirtual 390, 3) := dk_182 1 134 (dk_at dksX1_mixCourier_1 16 rfl rfl)
theorem dX1_mixCourier_43 : decode cX1_mixCourier 43 = .ok (.aload_n 0, 1) := dk_42 (dk_at dksX1_mixCourier_1 19 rfl rfl)
theorem dX1_mixCourier_44 : decode cX1_mixCourier 44 = .ok (.aload_n 2, 1) := dk_44 (dk_at dksX1_mixCourier_1 20 rfl rfl)
theorem dX1_mixCourier_45 : decode cX1_mixCourier 45 = .ok (.getfield 183, 3) := dk_180 0 183 (dk_at dksX1_mixCourier_1 21 rfl rfl)
theorem dX1_mixCourier_48 : decode cX1_mixCourier 48 = .ok (.iconst (-1), 1) := dk_2 (dk_at dksX1_mixCourier_2 0 rfl rfl)
theorem dX1_mixCourier_49 : decode cX1_mixCourier 49 = .ok (.if_icmp .eq 7, 3) := dk_159 0 7 (dk_at dksX1_mixCourier_2 1 rfl rfl)
theorem dX1_mixCourier_52 : decode cX1_mixCourier 52 = .ok (.iconst 1, 1) := dk_4 (dk_at dksX1_mixCourier_2 4 rfl rfl)
theorem dX1_mixCourier_53 : decode cX1_mixCourier 53 = .ok (.goto 4, 3) := dk_167 0 4 (dk_at dksX1_mixCourier_2 5 rfl rfl)
theorem dX1_mixCourier_56 : decode cX1_mixCourier 56 = .ok (.iconst 0, 1) := dk_3 (dk_at dksX1_mixCourier_2 8 rfl rfl)
theorem dX1_mixCourier_57 : decode cX1_mixCourier 57 = .ok (.invokevirtual 394, 3) := dk_182 1 138 (dk_at dksX1_mixCourier_2 9 rfl rfl)
theorem dX1_mixCourier_60 : decode cX1_mixCourier 60 = .ok (.aload_n 2, 1) := dk_44 (dk_at dksX1_mixCourier_2 12 rfl rfl)
theorem dX1_mixCourier_61 : decode cX1_mixCourier 61 = .ok (.getfield 183, 3) := dk_180 0 183 (dk_at dksX1_mixCourier_2 13 rfl rfl)
theorem dX1_mixCourier_64 : decode cX1_mixCourier 64 = .ok (.iconst (-1), 1) := dk_2 (dk_at dksX1_mixCourier_2 16 rfl rfl)
theorem dX1_mixCourier_65 : decode cX1_mixCourier 65 = .ok (.if_icmp .eq 12, 3) := dk_159 0 12 (dk_at dksX1_mixCourier_2 17 rfl rfl)
theorem dX1_mixCourier_68 : decode cX1_mixCourier 68 = .ok (.aload_n 0, 1) := dk_42 (dk_at dksX1_mixCourier_2 20 rfl rfl)
theorem dX1_mixCourier_69 : decode cX1_mixCourier 69 = .ok (.aload_n 2, 1) := dk_44 (dk_at dksX1_mixCourier_2 21 rfl rfl)
theorem dX1_mixCourier_70 : decode cX1_mixCourier 70 = .ok (.getfield 183, 3) := dk_180 0 183 (dk_at dksX1_mixCourier_3 0 rfl rfl)
theorem dX1_mixCourier_73 : decode cX1_mixCourier 73 = .ok (.i2l, 1) := dk_133 (dk_at dksX1_mixCourier_3 3 rfl rfl)
theorem dX1_mixCourier_74 : decode cX1_mixCourier 74 = .ok (.invokevirtual 390, 3) := dk_182 1 134 (dk_at dksX1_mixCourier_3 4 rfl rfl)
theorem dX1_mixCourier_77 : decode cX1_mixCourier 77 = .ok (.aload_n 0, 1) := dk_42 (dk_at dksX1_mixCourier_3 7 rfl rfl)
theorem dX1_mixCourier_78 : decode cX1_mixCourier 78 = .ok (.aload_n 2, 1) := dk_44 (dk_at dksX1_mixCourier_3 8 rfl rfl)
theorem dX1_mixCourier_79 : decode cX1_mixCourier 79 = .ok (.getfield 250, 3) := dk_180 0 250 (dk_at dksX1_mixCourier_3 9 rfl rfl)
theorem dX1_mixCourier_82 : decode cX1_mixCourier 82 = .ok (.i2l, 1) := dk_133 (dk_at dksX1_mixCourier_3 12 rfl rfl)
theorem dX1_mixCourier_83 : decode cX1_mixCourier 83 = .ok (.invokevirtual 390, 3) := dk_182 1 134 (dk_at dksX1_mixCourier_3 13 rfl rfl)
theorem dX1_mixCourier_86 : decode cX1_mixCourier 86 = .ok (.aload_n 0, 1) := dk_42 (dk_at dksX1_mixCourier_3 16 rfl rfl)
theorem dX1_mixCourier_87 : decode cX1_mixCourier 87 = .ok (.aload_n 2, 1) := dk_44 (dk_at dksX1_mixCourier_3 17 rfl rfl)
theorem dX1_mixCourier_88 : decode cX1_mixCourier 88 = .ok (.getfield 253, 3) := dk_180 0 253 (dk_at dksX1_mixCourier_3 18 rfl rfl)
theorem dX1_mixCourier_91 : decode cX1_mixCourier 91 = .ok (.i2l, 1) := dk_133 (dk_at dksX1_mixCourier_3 21 rfl rfl)
theorem dX1_mixCourier_92 : decode cX1_mixCourier 92 = .ok (.invokevirtual 390, 3) := dk_182 1 134 (dk_at dksX1_mixCourier_4 0 rfl rfl)
theorem dX1_mixCourier_95 : decode cX1_mixCourier 95 = .ok (.aload_n 0, 1) := dk_42 (dk_at dksX1_mixCourier_4 3 rfl rfl)
theorem dX1_mixCourier_96 : decode cX1_mixCourier 96 = .ok (.aload_n 0, 1) := dk_42 (dk_at dksX1_mixCourier_4 4 rfl rfl)
theorem dX1_mixCourier_97 : decode cX1_mixCourier 97 = .ok (.aload_n 2, 1) := dk_44 (dk_at dksX1_mixCourier_4 5 rfl rfl)
theorem dX1_mixCourier_98 : decode cX1_mixCourier 98 = .ok (.invokevirtual 299, 3) := dk_182 1 43 (dk_at dksX1_mixCourier_4 6 rfl rfl)
theorem dX1_mixCourier_101 : decode cX1_mixCourier 101 = .ok (.invokevirtual 303, 3) := dk_182 1 47 (dk_at dksX1_mixCourier_4 9 rfl rfl)
theorem dX1_mixCourier_104 : decode cX1_mixCourier 104 = .ok (.i2l, 1) := dk_133 (dk_at dksX1_mixCourier_4 12 rfl rfl)
theorem dX1_mixCourier_105 : decode cX1_mixCourier 105 = .ok (.invokevirtual 390, 3) := dk_182 1 134 (dk_at dksX1_mixCourier_4 13 rfl rfl)
theorem dX1_mixCourier_108 : decode cX1_mixCourier 108 = .ok (.aload_n 0, 1) := dk_42 (dk_at dksX1_mixCourier_4 16 rfl rfl)
theorem dX1_mixCourier_109 : decode cX1_mixCourier 109 = .ok (.aload_n 0, 1) := dk_42 (dk_at dksX1_mixCourier_4 17 rfl rfl)
theorem dX1_mixCourier_110 : decode cX1_mixCourier 110 = .ok (.aload_n 2, 1) := dk_44 (dk_at dksX1_mixCourier_4 18 rfl rfl)
theorem dX1_mixCourier_111 : decode cX1_mixCourier 111 = .ok (.invokevirtual 313, 3) := dk_182 1 57 (dk_at dksX1_mixCourier_4 19 rfl rfl)
theorem dX1_mixCourier_114 : decode cX1_mixCourier 114 = .ok (.i2l, 1) := dk_133 (dk_at dksX1_mixCourier_4 22 rfl rfl)
theorem dX1_mixCourier_115 : decode cX1_mixCourier 115 = .ok (.invokevirtual 390, 3) := dk_182 1 134 (dk_at dksX1_mixCourier_5 0 rfl rfl)
theorem dX1_mixCourier_118 : decode cX1_mixCourier 118 = .ok (.aload_n 0, 1) := dk_42 (dk_at dksX1_mixCourier_5 3 rfl rfl)
theorem dX1_mixCourier_119 : decode cX1_mixCourier 119 = .ok (.aload_n 0, 1) := dk_42 (dk_at dksX1_mixCourier_5 4 rfl rfl)
theorem dX1_mixCourier_120 : decode cX1_mixCourier 120 = .ok (.getfield 19, 3) := dk_180 0 19 (dk_at dksX1_mixCourier_5 5 rfl rfl)
theorem dX1_mixCourier_123 : decode cX1_mixCourier 123 = .ok (.invokevirtual 365, 3) := dk_182 1 109 (dk_at dksX1_mixCourier_5 8 rfl rfl)
theorem dX1_mixCourier_126 : decode cX1_mixCourier 126 = .ok (.iload_n 1, 1) := dk_27 (dk_at dksX1_mixCourier_5 11 rfl rfl)
theorem dX1_mixCourier_127 : decode cX1_mixCourier 127 = .ok (.iaload, 1) := dk_46 (dk_at dksX1_mixCourier_5 12 rfl rfl)
theorem dX1_mixCourier_128 : decode cX1_mixCourier 128 = .ok (.i2l, 1) := dk_133 (dk_at dksX1_mixCourier_5 13 rfl rfl)
theorem dX1_mixCourier_129 : decode cX1_mixCourier 129 = .ok (.invokevirtual 390, 3) := dk_182 1 134 (dk_at dksX1_mixCourier_5 14 rfl rfl)
theorem dX1_mixCourier_132 : decode cX1_mixCourier 132 = .ok (.aload_n 0, 1) := dk_42 (dk_at dksX1_mixCourier_5 17 rfl rfl)
theorem dX1_mixCourier_133 : decode cX1_mixCourier 133 = .ok (.aload_n 2, 1) := dk_44 (dk_at dksX1_mixCourier_5 18 rfl rfl)
theorem dX1_mixCourier_134 : decode cX1_mixCourier 134 = .ok (.invokevirtual 299, 3) := dk_182 1 43 (dk_at dksX1_mixCourier_5 19 rfl rfl)
theorem dX1_mixCourier_137 : decode cX1_mixCourier 137 = .ok (.pop, 1) := dk_87 (dk_at dksX1_mixCourier_5 22 rfl rfl)
theorem dX1_mixCourier_138 : decode cX1_mixCourier 138 = .ok (.iconst 0, 1) := dk_3 (dk_at dksX1_mixCourier_5 23 rfl rfl)
theorem dX1_mixCourier_139 : decode cX1_mixCourier 139 = .ok (.istore_n 3, 1) := dk_62 (dk_at dksX1_mixCourier_6 0 rfl rfl)
theorem dX1_mixCourier_140 : decode cX1_mixCourier 140 = .ok (.iload_n 3, 1) := dk_29 (dk_at dksX1_mixCourier_6 1 rfl rfl)
theorem dX1_mixCourier_141 : decode cX1_mixCourier 141 = .ok (.bipush 10, 2) := dk_16 10 (dk_at dksX1_mixCourier_6 2 rfl rfl)
theorem dX1_mixCourier_143 : decode cX1_mixCourier 143 = .ok (.if_icmp .ge 23, 3) := dk_162 0 23 (dk_at dksX1_mixCourier_6 4 rfl rfl)
theorem dX1_mixCourier_146 : decode cX1_mixCourier 146 = .ok (.aload_n 0, 1) := dk_42 (dk_at dksX1_mixCourier_6 7 rfl rfl)
theorem dX1_mixCourier_147 : decode cX1_mixCourier 147 = .ok (.aload_n 0, 1) := dk_42 (dk_at dksX1_mixCourier_6 8 rfl rfl)
theorem dX1_mixCourier_148 : decode cX1_mixCourier 148 = .ok (.getfield 28, 3) := dk_180 0 28 (dk_at dksX1_mixCourier_6 9 rfl rfl)
theorem dX1_mixCourier_151 : decode cX1_mixCourier 151 = .ok (.getfield 317, 3) := dk_180 1 61 (dk_at dksX1_mixCourier_6 12 rfl rfl)
theorem dX1_mixCourier_154 : decode cX1_mixCourier 154 = .ok (.iload_n 3, 1) := dk_29 (dk_at dksX1_mixCourier_6 15 rfl rfl)
theorem dX1_mixCourier_155 : decode cX1_mixCourier 155 = .ok (.iaload, 1) := dk_46 (dk_at dksX1_mixCourier_6 16 rfl rfl)
theorem dX1_mixCourier_156 : decode cX1_mixCourier 156 = .ok (.i2l, 1) := dk_133 (dk_at dksX1_mixCourier_6 17 rfl rfl)
theorem dX1_mixCourier_157 : decode cX1_mixCourier 157 = .ok (.invokevirtual 390, 3) := dk_182 1 134 (dk_at dksX1_mixCourier_6 18 rfl rfl)
theorem dX1_mixCourier_160 : decode cX1_mixCourier 160 = .ok (.iinc 3 1, 3) := dk_132 3 1 (dk_at dksX1_mixCourier_6 21 rfl rfl)
theorem dX1_mixCourier_163 : decode cX1_mixCourier 163 = .ok (.goto (-23), 3) := dk_167 255 233 (dk_at dksX1_mixCourier_7 0 rfl rfl)
theorem dX1_mixCourier_166 : decode cX1_mixCourier 166 = .ok (.return_, 1) := dk_177 (dk_at dksX1_mixCourier_7 3 rfl rfl)
abbrev cX1_waysOf : ByteArray := prog_1_method_62_code
def yX1_waysOf : MethodName := ⟨RX1, "waysOf", "(LCourierClash$Courier;)LCourierClash$Ways;"⟩
def dkwX1_waysOf_0 : List UInt8 := [42, 180, 0, 28, 42, 180, 0, 19, 43, 180, 0, 149, 43, 180, 0, 247, 182, 1, 39, 176]
abbrev dktX1_waysOf_0 : List UInt8 := dkwX1_waysOf_0 ++ []
theorem dksX1_waysOf_0 : cX1_waysOf.data.toList.drop 0 = dktX1_waysOf_0 := by decide +kernel
theorem dX1_waysOf_0 : decode cX1_waysOf 0 = .ok (.aload_n 0, 1) := dk_42 (dk_at dksX1_waysOf_0 0 rfl rfl)
theorem dX1_waysOf_1 : decode cX1_waysOf 1 = .ok (.getfield 28, 3) := dk_180 0 28 (dk_at dksX1_waysOf_0 1 rfl rfl)
theorem dX1_waysOf_4 : decode cX1_waysOf 4 = .ok (.aload_n 0, 1) := dk_42 (dk_at dksX1_waysOf_0 4 rfl rfl)
theorem dX1_waysOf_5 : decode cX1_waysOf 5 = .ok (.getfield 19, 3) := dk_180 0 19 (dk_at dksX1_waysOf_0 5 rfl rfl)
theorem dX1_waysOf_8 : decode cX1_waysOf 8 = .ok (.aload_n 1, 1) := dk_43 (dk_at dksX1_waysOf_0 8 rfl rfl)
theorem dX1_waysOf_9 : decode cX1_waysOf 9 = .ok (.getfield 149, 3) := dk_180 0 149 (dk_at dksX1_waysOf_0 9 rfl rfl)
theorem dX1_waysOf_12 : decode cX1_waysOf 12 = .ok (.aload_n 1, 1) := dk_43 (dk_at dksX1_waysOf_0 12 rfl rfl)
theorem dX1_waysOf_13 : decode cX1_waysOf 13 = .ok (.getfield 247, 3) := dk_180 0 247 (dk_at dksX1_waysOf_0 13 rfl rfl)
theorem dX1_waysOf_16 : decode cX1_waysOf 16 = .ok (.invokevirtual 295, 3) := dk_182 1 39 (dk_at dksX1_waysOf_0 16 rfl rfl)
theorem dX1_waysOf_19 : decode cX1_waysOf 19 = .ok (.areturn, 1) := dk_176 (dk_at dksX1_waysOf_0 19 rfl rfl)
abbrev cX1_joinedTold : ByteArray := prog_1_method_65_code
def yX1_joinedTold : MethodName := ⟨RX1, "joinedTold", "(LCourierClash$Courier;)I"⟩
def dkwX1_joinedTold_4 : List UInt8 := [42, 182, 1, 54, 42, 180, 0, 32, 43, 180, 0, 247, 46, 172]
abbrev dktX1_joinedTold_4 : List UInt8 := dkwX1_joinedTold_4 ++ []
def dkwX1_joinedTold_3 : List UInt8 := [182, 1, 50, 153, 0, 12, 4, 45, 180, 0, 186, 120, 167, 0, 4, 3, 128, 79, 132, 2, 1, 167, 255, 191]
abbrev dktX1_joinedTold_3 : List UInt8 := dkwX1_joinedTold_3 ++ dktX1_joinedTold_4
def dkwX1_joinedTold_2 : List UInt8 := [182, 0, 95, 192, 0, 98, 78, 42, 180, 0, 32, 45, 180, 0, 240, 92, 46, 45, 43, 180, 0, 149]
abbrev dktX1_joinedTold_2 : List UInt8 := dkwX1_joinedTold_2 ++ dktX1_joinedTold_3
def dkwX1_joinedTold_1 : List UInt8 := [61, 28, 42, 180, 0, 19, 180, 0, 84, 182, 0, 55, 162, 0, 57, 42, 180, 0, 19, 180, 0, 84, 28]
abbrev dktX1_joinedTold_1 : List UInt8 := dkwX1_joinedTold_1 ++ dktX1_joinedTold_2
def dkwX1_joinedTold_0 : List UInt8 := [3, 61, 28, 16, 10, 162, 0, 18, 42, 180, 0, 32, 28, 4, 28, 120, 79, 132, 2, 1, 167, 255, 238, 3]
abbrev dktX1_joinedTold_0 : List UInt8 := dkwX1_joinedTold_0 ++ dktX1_joinedTold_1
theorem dksX1_joinedTold_0 : cX1_joinedTold.data.toList.drop 0 = dktX1_joinedTold_0 := by decide +kernel
theorem dksX1_joinedTold_1 : cX1_joinedTold.data.toList.drop 24 = dktX1_joinedTold_1 := dk_seg dksX1_joinedTold_0 24 rfl rfl
theorem dksX1_joinedTold_2 : cX1_joinedTold.data.toList.drop 47 = dktX1_joinedTold_2 := dk_seg dksX1_joinedTold_1 23 rfl rfl
theorem dksX1_joinedTold_3 : cX1_joinedTold.data.toList.drop 69 = dktX1_joinedTold_3 := dk_seg dksX1_joinedTold_2 22 rfl rfl
theorem dksX1_joinedTold_4 : cX1_joinedTold.data.toList.drop 93 = dktX1_joinedTold_4 := dk_seg dksX1_joinedTold_3 24 rfl rfl
theorem dX1_joinedTold_0 : decode cX1_joinedTold 0 = .ok (.iconst 0, 1) := dk_3 (dk_at dksX1_joinedTold_0 0 rfl rfl)
theorem dX1_joinedTold_1 : decode cX1_joinedTold 1 = .ok (.istore_n 2, 1) := dk_61 (dk_at dksX1_joinedTold_0 1 rfl rfl)
theorem dX1_joinedTold_2 : decode cX1_joinedTold 2 = .ok (.iload_n 2, 1) := dk_28 (dk_at dksX1_joinedTold_0 2 rfl rfl)
theorem dX1_joinedTold_3 : decode cX1_joinedTold 3 = .ok (.bipush 10, 2) := dk_16 10 (dk_at dksX1_joinedTold_0 3 rfl rfl)
theorem dX1_joinedTold_5 : decode cX1_joinedTold 5 = .ok (.if_icmp .ge 18, 3) := dk_162 0 18 (dk_at dksX1_joinedTold_0 5 rfl rfl)
theorem dX1_joinedTold_8 : decode cX1_joinedTold 8 = .ok (.aload_n 0, 1) := dk_42 (dk_at dksX1_joinedTold_0 8 rfl rfl)
theorem dX1_joinedTold_9 : decode cX1_joinedTold 9 = .ok (.getfield 32, 3) := dk_180 0 32 (dk_at dksX1_joinedTold_0 9 rfl rfl)
theorem dX1_joinedTold_12 : decode cX1_joinedTold 12 = .ok (.iload_n 2, 1) := dk_28 (dk_at dksX1_joinedTold_0 12 rfl rfl)
theorem dX1_joinedTold_13 : decode cX1_joinedTold 13 = .ok (.iconst 1, 1) := dk_4 (dk_at dksX1_joinedTold_0 13 rfl rfl)
theorem dX1_joinedTold_14 : decode cX1_joinedTold 14 = .ok (.iload_n 2, 1) := dk_28 (dk_at dksX1_joinedTold_0 14 rfl rfl)
theorem dX1_joinedTold_15 : decode cX1_joinedTold 15 = .ok (.ishl, 1) := dk_120 (dk_at dksX1_joinedTold_0 15 rfl rfl)
theorem dX1_joinedTold_16 : decode cX1_joinedTold 16 = .ok (.iastore, 1) := dk_79 (dk_at dksX1_joinedTold_0 16 rfl rfl)
theorem dX1_joinedTold_17 : decode cX1_joinedTold 17 = .ok (.iinc 2 1, 3) := dk_132 2 1 (dk_at dksX1_joinedTold_0 17 rfl rfl)
theorem dX1_joinedTold_20 : decode cX1_joinedTold 20 = .ok (.goto (-18), 3) := dk_167 255 238 (dk_at dksX1_joinedTold_0 20 rfl rfl)
theorem dX1_joinedTold_23 : decode cX1_joinedTold 23 = .ok (.iconst 0, 1) := dk_3 (dk_at dksX1_joinedTold_0 23 rfl rfl)
theorem dX1_joinedTold_24 : decode cX1_joinedTold 24 = .ok (.istore_n 2, 1) := dk_61 (dk_at dksX1_joinedTold_1 0 rfl rfl)
theorem dX1_joinedTold_25 : decode cX1_joinedTold 25 = .ok (.iload_n 2, 1) := dk_28 (dk_at dksX1_joinedTold_1 1 rfl rfl)
theorem dX1_joinedTold_26 : decode cX1_joinedTold 26 = .ok (.aload_n 0, 1) := dk_42 (dk_at dksX1_joinedTold_1 2 rfl rfl)
theorem dX1_joinedTold_27 : decode cX1_joinedTold 27 = .ok (.getfield 19, 3) := dk_180 0 19 (dk_at dksX1_joinedTold_1 3 rfl rfl)
theorem dX1_joinedTold_30 : decode cX1_joinedTold 30 = .ok (.getfield 84, 3) := dk_180 0 84 (dk_at dksX1_joinedTold_1 6 rfl rfl)
theorem dX1_joinedTold_33 : decode cX1_joinedTold 33 = .ok (.invokevirtual 55, 3) := dk_182 0 55 (dk_at dksX1_joinedTold_1 9 rfl rfl)
theorem dX1_joinedTold_36 : decode cX1_joinedTold 36 = .ok (.if_icmp .ge 57, 3) := dk_162 0 57 (dk_at dksX1_joinedTold_1 12 rfl rfl)
theorem dX1_joinedTold_39 : decode cX1_joinedTold 39 = .ok (.aload_n 0, 1) := dk_42 (dk_at dksX1_joinedTold_1 15 rfl rfl)
theorem dX1_joinedTold_40 : decode cX1_joinedTold 40 = .ok (.getfield 19, 3) := dk_180 0 19 (dk_at dksX1_joinedTold_1 16 rfl rfl)
theorem dX1_joinedTold_43 : decode cX1_joinedTold 43 = .ok (.getfield 84, 3) := dk_180 0 84 (dk_at dksX1_joinedTold_1 19 rfl rfl)
theorem dX1_joinedTold_46 : decode cX1_joinedTold 46 = .ok (.iload_n 2, 1) := dk_28 (dk_at dksX1_joinedTold_1 22 rfl rfl)
theorem dX1_joinedTold_47 : decode cX1_joinedTold 47 = .ok (.invokevirtual 95, 3) := dk_182 0 95 (dk_at dksX1_joinedTold_2 0 rfl rfl)
theorem dX1_joinedTold_50 : decode cX1_joinedTold 50 = .ok (.checkcast 98, 3) := dk_192 0 98 (dk_at dksX1_joinedTold_2 3 rfl rfl)
theorem dX1_joinedTold_53 : decode cX1_joinedTold 53 = .ok (.astore_n 3, 1) := dk_78 (dk_at dksX1_joinedTold_2 6 rfl rfl)
theorem dX1_joinedTold_54 : decode cX1_joinedTold 54 = .ok (.aload_n 0, 1) := dk_42 (dk_at dksX1_joinedTold_2 7 rfl rfl)
theorem dX1_joinedTold_55 : decode cX1_joinedTold 55 = .ok (.getfield 32, 3) := dk_180 0 32 (dk_at dksX1_joinedTold_2 8 rfl rfl)
theorem dX1_joinedTold_58 : decode cX1_joinedTold 58 = .ok (.aload_n 3, 1) := dk_45 (dk_at dksX1_joinedTold_2 11 rfl rfl)
theorem dX1_joinedTold_59 : decode cX1_joinedTold 59 = .ok (.getfield 240, 3) := dk_180 0 240 (dk_at dksX1_joinedTold_2 12 rfl rfl)
theorem dX1_joinedTold_62 : decode cX1_joinedTold 62 = .ok (.dup2, 1) := dk_92 (dk_at dksX1_joinedTold_2 15 rfl rfl)
theorem dX1_joinedTold_63 : decode cX1_joinedTold 63 = .ok (.iaload, 1) := dk_46 (dk_at dksX1_joinedTold_2 16 rfl rfl)
theorem dX1_joinedTold_64 : decode cX1_joinedTold 64 = .ok (.aload_n 3, 1) := dk_45 (dk_at dksX1_joinedTold_2 17 rfl rfl)
theorem dX1_joinedTold_65 : decode cX1_joinedTold 65 = .ok (.aload_n 1, 1) := dk_43 (dk_at dksX1_joinedTold_2 18 rfl rfl)
theorem dX1_joinedTold_66 : decode cX1_joinedTold 66 = .ok (.getfield 149, 3) := dk_180 0 149 (dk_at dksX1_joinedTold_2 19 rfl rfl)
theorem dX1_joinedTold_69 : decode cX1_joinedTold 69 = .ok (.invokevirtual 306, 3) := dk_182 1 50 (dk_at dksX1_joinedTold_3 0 rfl rfl)
theorem dX1_joinedTold_72 : decode cX1_joinedTold 72 = .ok (.ifCond .eq 12, 3) := dk_153 0 12 (dk_at dksX1_joinedTold_3 3 rfl rfl)
theorem dX1_joinedTold_75 : decode cX1_joinedTold 75 = .ok (.iconst 1, 1) := dk_4 (dk_at dksX1_joinedTold_3 6 rfl rfl)
theorem dX1_joinedTold_76 : decode cX1_joinedTold 76 = .ok (.aload_n 3, 1) := dk_45 (dk_at dksX1_joinedTold_3 7 rfl rfl)
theorem dX1_joinedTold_77 : decode cX1_joinedTold 77 = .ok (.getfield 186, 3) := dk_180 0 186 (dk_at dksX1_joinedTold_3 8 rfl rfl)
theorem dX1_joinedTold_80 : decode cX1_joinedTold 80 = .ok (.ishl, 1) := dk_120 (dk_at dksX1_joinedTold_3 11 rfl rfl)
theorem dX1_joinedTold_81 : decode cX1_joinedTold 81 = .ok (.goto 4, 3) := dk_167 0 4 (dk_at dksX1_joinedTold_3 12 rfl rfl)
theorem dX1_joinedTold_84 : decode cX1_joinedTold 84 = .ok (.iconst 0, 1) := dk_3 (dk_at dksX1_joinedTold_3 15 rfl rfl)
theorem dX1_joinedTold_85 : decode cX1_joinedTold 85 = .ok (.ior, 1) := dk_128 (dk_at dksX1_joinedTold_3 16 rfl rfl)
theorem dX1_joinedTold_86 : decode cX1_joinedTold 86 = .ok (.iastore, 1) := dk_79 (dk_at dksX1_joinedTold_3 17 rfl rfl)
theorem dX1_joinedTold_87 : decode cX1_joinedTold 87 = .ok (.iinc 2 1, 3) := dk_132 2 1 (dk_at dksX1_joinedTold_3 18 rfl rfl)
theorem dX1_joinedTold_90 : decode cX1_joinedTold 90 = .ok (.goto (-65), 3) := dk_167 255 191 (dk_at dksX1_joinedTold_3 21 rfl rfl)
theorem dX1_joinedTold_93 : decode cX1_joinedTold 93 = .ok (.aload_n 0, 1) := dk_42 (dk_at dksX1_joinedTold_4 0 rfl rfl)
theorem dX1_joinedTold_94 : decode cX1_joinedTold 94 = .ok (.invokevirtual 310, 3) := dk_182 1 54 (dk_at dksX1_joinedTold_4 1 rfl rfl)
theorem dX1_joinedTold_97 : decode cX1_joinedTold 97 = .ok (.aload_n 0, 1) := dk_42 (dk_at dksX1_joinedTold_4 4 rfl rfl)
theorem dX1_joinedTold_98 : decode cX1_joinedTold 98 = .ok (.getfield 32, 3) := dk_180 0 32 (dk_at dksX1_joinedTold_4 5 rfl rfl)
theorem dX1_joinedTold_101 : decode cX1_joinedTold 101 = .ok (.aload_n 1, 1) := dk_43 (dk_at dksX1_joinedTold_4 8 rfl rfl)
theorem dX1_joinedTold_102 : decode cX1_joinedTold 102 = .ok (.getfield 247, 3) := dk_180 0 247 (dk_at dksX1_joinedTold_4 9 rfl rfl)
theorem dX1_joinedTold_105 : decode cX1_joinedTold 105 = .ok (.iaload, 1) := dk_46 (dk_at dksX1_joinedTold_4 12 rfl rfl)
theorem dX1_joinedTold_106 : decode cX1_joinedTold 106 = .ok (.ireturn, 1) := dk_172 (dk_at dksX1_joinedTold_4 13 rfl rfl)
abbrev cX1_joinAll : ByteArray := prog_1_method_64_code
def yX1_joinAll : MethodName := ⟨RX1, "joinAll", "()V"⟩
def dkwX1_joinAll_2 : List UInt8 := [79, 132, 2, 1, 167, 255, 214, 132, 1, 1, 167, 255, 200, 177]
abbrev dktX1_joinAll_2 : List UInt8 := dkwX1_joinAll_2 ++ []
def dkwX1_joinAll_1 : List UInt8 := [180, 0, 32, 28, 46, 27, 122, 4, 126, 4, 160, 0, 12, 42, 180, 0, 32, 27, 46, 167, 0, 4, 3, 128]
abbrev dktX1_joinAll_1 : List UInt8 := dkwX1_joinAll_1 ++ dktX1_joinAll_2
def dkwX1_joinAll_0 : List UInt8 := [3, 60, 27, 16, 10, 162, 0, 56, 3, 61, 28, 16, 10, 162, 0, 42, 42, 180, 0, 32, 28, 92, 46, 42]
abbrev dktX1_joinAll_0 : List UInt8 := dkwX1_joinAll_0 ++ dktX1_joinAll_1
theorem dksX1_joinAll_0 : cX1_joinAll.data.toList.drop 0 = dktX1_joinAll_0 := by decide +kernel
theorem dksX1_joinAll_1 : cX1_joinAll.data.toList.drop 24 = dktX1_joinAll_1 := dk_seg dksX1_joinAll_0 24 rfl rfl
theorem dksX1_joinAll_2 : cX1_joinAll.data.toList.drop 48 = dktX1_joinAll_2 := dk_seg dksX1_joinAll_1 24 rfl rfl
theorem dX1_joinAll_0 : decode cX1_joinAll 0 = .ok (.iconst 0, 1) := dk_3 (dk_at dksX1_joinAll_0 0 rfl rfl)
theorem dX1_joinAll_1 : decode cX1_joinAll 1 = .ok (.istore_n 1, 1) := dk_60 (dk_at dksX1_joinAll_0 1 rfl rfl)
theorem dX1_joinAll_2 : decode cX1_joinAll 2 = .ok (.iload_n 1, 1) := dk_27 (dk_at dksX1_joinAll_0 2 rfl rfl)
theorem dX1_joinAll_3 : decode cX1_joinAll 3 = .ok (.bipush 10, 2) := dk_16 10 (dk_at dksX1_joinAll_0 3 rfl rfl)
theorem dX1_joinAll_5 : decode cX1_joinAll 5 = .ok (.if_icmp .ge 56, 3) := dk_162 0 56 (dk_at dksX1_joinAll_0 5 rfl rfl)
theorem dX1_joinAll_8 : decode cX1_joinAll 8 = .ok (.iconst 0, 1) := dk_3 (dk_at dksX1_joinAll_0 8 rfl rfl)
theorem dX1_joinAll_9 : decode cX1_joinAll 9 = .ok (.istore_n 2, 1) := dk_61 (dk_at dksX1_joinAll_0 9 rfl rfl)
theorem dX1_joinAll_10 : decode cX1_joinAll 10 = .ok (.iload_n 2, 1) := dk_28 (dk_at dksX1_joinAll_0 10 rfl rfl)
theorem dX1_joinAll_11 : decode cX1_joinAll 11 = .ok (.bipush 10, 2) := dk_16 10 (dk_at dksX1_joinAll_0 11 rfl rfl)
theorem dX1_joinAll_13 : decode cX1_joinAll 13 = .ok (.if_icmp .ge 42, 3) := dk_162 0 42 (dk_at dksX1_joinAll_0 13 rfl rfl)
theorem dX1_joinAll_16 : decode cX1_joinAll 16 = .ok (.aload_n 0, 1) := dk_42 (dk_at dksX1_joinAll_0 16 rfl rfl)
theorem dX1_joinAll_17 : decode cX1_joinAll 17 = .ok (.getfield 32, 3) := dk_180 0 32 (dk_at dksX1_joinAll_0 17 rfl rfl)
theorem dX1_joinAll_20 : decode cX1_joinAll 20 = .ok (.iload_n 2, 1) := dk_28 (dk_at dksX1_joinAll_0 20 rfl rfl)
theorem dX1_joinAll_21 : decode cX1_joinAll 21 = .ok (.dup2, 1) := dk_92 (dk_at dksX1_joinAll_0 21 rfl rfl)
theorem dX1_joinAll_22 : decode cX1_joinAll 22 = .ok (.iaload, 1) := dk_46 (dk_at dksX1_joinAll_0 22 rfl rfl)
theorem dX1_joinAll_23 : decode cX1_joinAll 23 = .ok (.aload_n 0, 1) := dk_42 (dk_at dksX1_joinAll_0 23 rfl rfl)
theorem dX1_joinAll_24 : decode cX1_joinAll 24 = .ok (.getfield 32, 3) := dk_180 0 32 (dk_at dksX1_joinAll_1 0 rfl rfl)
theorem dX1_joinAll_27 : decode cX1_joinAll 27 = .ok (.iload_n 2, 1) := dk_28 (dk_at dksX1_joinAll_1 3 rfl rfl)
theorem dX1_joinAll_28 : decode cX1_joinAll 28 = .ok (.iaload, 1) := dk_46 (dk_at dksX1_joinAll_1 4 rfl rfl)
theorem dX1_joinAll_29 : decode cX1_joinAll 29 = .ok (.iload_n 1, 1) := dk_27 (dk_at dksX1_joinAll_1 5 rfl rfl)
theorem dX1_joinAll_30 : decode cX1_joinAll 30 = .ok (.ishr, 1) := dk_122 (dk_at dksX1_joinAll_1 6 rfl rfl)
theorem dX1_joinAll_31 : decode cX1_joinAll 31 = .ok (.iconst 1, 1) := dk_4 (dk_at dksX1_joinAll_1 7 rfl rfl)
theorem dX1_joinAll_32 : decode cX1_joinAll 32 = .ok (.iand, 1) := dk_126 (dk_at dksX1_joinAll_1 8 rfl rfl)
theorem dX1_joinAll_33 : decode cX1_joinAll 33 = .ok (.iconst 1, 1) := dk_4 (dk_at dksX1_joinAll_1 9 rfl rfl)
theorem dX1_joinAll_34 : decode cX1_joinAll 34 = .ok (.if_icmp .ne 12, 3) := dk_160 0 12 (dk_at dksX1_joinAll_1 10 rfl rfl)
theorem dX1_joinAll_37 : decode cX1_joinAll 37 = .ok (.aload_n 0, 1) := dk_42 (dk_at dksX1_joinAll_1 13 rfl rfl)
theorem dX1_joinAll_38 : decode cX1_joinAll 38 = .ok (.getfield 32, 3) := dk_180 0 32 (dk_at dksX1_joinAll_1 14 rfl rfl)
theorem dX1_joinAll_41 : decode cX1_joinAll 41 = .ok (.iload_n 1, 1) := dk_27 (dk_at dksX1_joinAll_1 17 rfl rfl)
theorem dX1_joinAll_42 : decode cX1_joinAll 42 = .ok (.iaload, 1) := dk_46 (dk_at dksX1_joinAll_1 18 rfl rfl)
theorem dX1_joinAll_43 : decode cX1_joinAll 43 = .ok (.goto 4, 3) := dk_167 0 4 (dk_at dksX1_joinAll_1 19 rfl rfl)
theorem dX1_joinAll_46 : decode cX1_joinAll 46 = .ok (.iconst 0, 1) := dk_3 (dk_at dksX1_joinAll_1 22 rfl rfl)
theorem dX1_joinAll_47 : decode cX1_joinAll 47 = .ok (.ior, 1) := dk_128 (dk_at dksX1_joinAll_1 23 rfl rfl)
theorem dX1_joinAll_48 : decode cX1_joinAll 48 = .ok (.iastore, 1) := dk_79 (dk_at dksX1_joinAll_2 0 rfl rfl)
theorem dX1_joinAll_49 : decode cX1_joinAll 49 = .ok (.iinc 2 1, 3) := dk_132 2 1 (dk_at dksX1_joinAll_2 1 rfl rfl)
theorem dX1_joinAll_52 : decode cX1_joinAll 52 = .ok (.goto (-42), 3) := dk_167 255 214 (dk_at dksX1_joinAll_2 4 rfl rfl)
theorem dX1_joinAll_55 : decode cX1_joinAll 55 = .ok (.iinc 1 1, 3) := dk_132 1 1 (dk_at dksX1_joinAll_2 7 rfl rfl)
theorem dX1_joinAll_58 : decode cX1_joinAll 58 = .ok (.goto (-56), 3) := dk_167 255 200 (dk_at dksX1_joinAll_2 10 rfl rfl)
theorem dX1_joinAll_61 : decode cX1_joinAll 61 = .ok (.return_, 1) := dk_177 (dk_at dksX1_joinAll_2 13 rfl rfl)
abbrev cX1_mixParcel : ByteArray := prog_1_method_82_code
def yX1_mixParcel : MethodName := ⟨RX1, "mixParcel", "(LCourierClash$Parcel;)V"⟩
def dkwX1_mixParcel_1 : List UInt8 := [182, 1, 13, 133, 182, 1, 134, 43, 182, 1, 4, 154, 0, 12, 42, 43, 180, 1, 10, 133, 182, 1, 134, 177]
abbrev dktX1_mixParcel_1 : List UInt8 := dkwX1_mixParcel_1 ++ []
def dkwX1_mixParcel_0 : List UInt8 := [42, 43, 182, 1, 4, 182, 1, 138, 42, 43, 180, 1, 7, 182, 1, 138, 42, 42, 180, 0, 19, 43]
abbrev dktX1_mixParcel_0 : List UInt8 := dkwX1_mixParcel_0 ++ dktX1_mixParcel_1
theorem dksX1_mixParcel_0 : cX1_mixParcel.data.toList.drop 0 = dktX1_mixParcel_0 := by decide +kernel
theorem dksX1_mixParcel_1 : cX1_mixParcel.data.toList.drop 22 = dktX1_mixParcel_1 := dk_seg dksX1_mixParcel_0 22 rfl rfl
theorem dX1_mixParcel_0 : decode cX1_mixParcel 0 = .ok (.aload_n 0, 1) := dk_42 (dk_at dksX1_mixParcel_0 0 rfl rfl)
theorem dX1_mixParcel_1 : decode cX1_mixParcel 1 = .ok (.aload_n 1, 1) := dk_43 (dk_at dksX1_mixParcel_0 1 rfl rfl)
theorem dX1_mixParcel_2 : decode cX1_mixParcel 2 = .ok (.invokevirtual 260, 3) := dk_182 1 4 (dk_at dksX1_mixParcel_0 2 rfl rfl)
theorem dX1_mixParcel_5 : decode cX1_mixParcel 5 = .ok (.invokevirtual 394, 3) := dk_182 1 138 (dk_at dksX1_mixParcel_0 5 rfl rfl)
theorem dX1_mixParcel_8 : decode cX1_mixParcel 8 = .ok (.aload_n 0, 1) := dk_42 (dk_at dksX1_mixParcel_0 8 rfl rfl)
theorem dX1_mixParcel_9 : decode cX1_mixParcel 9 = .ok (.aload_n 1, 1) := dk_43 (dk_at dksX1_mixParcel_0 9 rfl rfl)
theorem dX1_mixParcel_10 : decode cX1_mixParcel 10 = .ok (.getfield 263, 3) := dk_180 1 7 (dk_at dksX1_mixParcel_0 10 rfl rfl)
theorem dX1_mixParcel_13 : decode cX1_mixParcel 13 = .ok (.invokevirtual 394, 3) := dk_182 1 138 (dk_at dksX1_mixParcel_0 13 rfl rfl)
theorem dX1_mixParcel_16 : decode cX1_mixParcel 16 = .ok (.aload_n 0, 1) := dk_42 (dk_at dksX1_mixParcel_0 16 rfl rfl)
theorem dX1_mixParcel_17 : decode cX1_mixParcel 17 = .ok (.aload_n 0, 1) := dk_42 (dk_at dksX1_mixParcel_0 17 rfl rfl)
theorem dX1_mixParcel_18 : decode cX1_mixParcel 18 = .ok (.getfield 19, 3) := dk_180 0 19 (dk_at dksX1_mixParcel_0 18 rfl rfl)
theorem dX1_mixParcel_21 : decode cX1_mixParcel 21 = .ok (.aload_n 1, 1) := dk_43 (dk_at dksX1_mixParcel_0 21 rfl rfl)
theorem dX1_mixParcel_22 : decode cX1_mixParcel 22 = .ok (.invokevirtual 269, 3) := dk_182 1 13 (dk_at dksX1_mixParcel_1 0 rfl rfl)
theorem dX1_mixParcel_25 : decode cX1_mixParcel 25 = .ok (.i2l, 1) := dk_133 (dk_at dksX1_mixParcel_1 3 rfl rfl)
theorem dX1_mixParcel_26 : decode cX1_mixParcel 26 = .ok (.invokevirtual 390, 3) := dk_182 1 134 (dk_at dksX1_mixParcel_1 4 rfl rfl)
theorem dX1_mixParcel_29 : decode cX1_mixParcel 29 = .ok (.aload_n 1, 1) := dk_43 (dk_at dksX1_mixParcel_1 7 rfl rfl)
theorem dX1_mixParcel_30 : decode cX1_mixParcel 30 = .ok (.invokevirtual 260, 3) := dk_182 1 4 (dk_at dksX1_mixParcel_1 8 rfl rfl)
theorem dX1_mixParcel_33 : decode cX1_mixParcel 33 = .ok (.ifCond .ne 12, 3) := dk_154 0 12 (dk_at dksX1_mixParcel_1 11 rfl rfl)
theorem dX1_mixParcel_36 : decode cX1_mixParcel 36 = .ok (.aload_n 0, 1) := dk_42 (dk_at dksX1_mixParcel_1 14 rfl rfl)
theorem dX1_mixParcel_37 : decode cX1_mixParcel 37 = .ok (.aload_n 1, 1) := dk_43 (dk_at dksX1_mixParcel_1 15 rfl rfl)
theorem dX1_mixParcel_38 : decode cX1_mixParcel 38 = .ok (.getfield 266, 3) := dk_180 1 10 (dk_at dksX1_mixParcel_1 16 rfl rfl)
theorem dX1_mixParcel_41 : decode cX1_mixParcel 41 = .ok (.i2l, 1) := dk_133 (dk_at dksX1_mixParcel_1 19 rfl rfl)
theorem dX1_mixParcel_42 : decode cX1_mixParcel 42 = .ok (.invokevirtual 390, 3) := dk_182 1 134 (dk_at dksX1_mixParcel_1 20 rfl rfl)
theorem dX1_mixParcel_45 : decode cX1_mixParcel 45 = .ok (.return_, 1) := dk_177 (dk_at dksX1_mixParcel_1 23 rfl rfl)
abbrev cX1_addStreet : ByteArray := prog_1_method_17_code
def yX1_addStreet : MethodName := ⟨RX1, "addStreet", "(IIZ)I"⟩
def dkwX1_addStreet_3 : List UInt8 := [42, 182, 0, 125, 42, 180, 0, 19, 27, 28, 29, 182, 0, 128, 172]
abbrev dktX1_addStreet_3 : List UInt8 := dkwX1_addStreet_3 ++ []
def dkwX1_addStreet_2 : List UInt8 := [162, 0, 20, 42, 180, 0, 19, 27, 28, 182, 0, 118, 2, 160, 0, 7, 4, 167, 0, 4, 3, 184, 0, 122]
abbrev dktX1_addStreet_2 : List UInt8 := dkwX1_addStreet_2 ++ dktX1_addStreet_3
def dkwX1_addStreet_1 : List UInt8 := [159, 0, 7, 4, 167, 0, 4, 3, 184, 0, 115, 42, 180, 0, 19, 180, 0, 84, 182, 0, 55, 16, 24]
abbrev dktX1_addStreet_1 : List UInt8 := dkwX1_addStreet_1 ++ dktX1_addStreet_2
def dkwX1_addStreet_0 : List UInt8 := [27, 184, 0, 112, 153, 0, 14, 28, 184, 0, 112, 153, 0, 7, 4, 167, 0, 4, 3, 184, 0, 91, 27, 28]
abbrev dktX1_addStreet_0 : List UInt8 := dkwX1_addStreet_0 ++ dktX1_addStreet_1
theorem dksX1_addStreet_0 : cX1_addStreet.data.toList.drop 0 = dktX1_addStreet_0 := by decide +kernel
theorem dksX1_addStreet_1 : cX1_addStreet.data.toList.drop 24 = dktX1_addStreet_1 := dk_seg dksX1_addStreet_0 24 rfl rfl
theorem dksX1_addStreet_2 : cX1_addStreet.data.toList.drop 47 = dktX1_addStreet_2 := dk_seg dksX1_addStreet_1 23 rfl rfl
theorem dksX1_addStreet_3 : cX1_addStreet.data.toList.drop 71 = dktX1_addStreet_3 := dk_seg dksX1_addStreet_2 24 rfl rfl
theorem dX1_addStreet_0 : decode cX1_addStreet 0 = .ok (.iload_n 1, 1) := dk_27 (dk_at dksX1_addStreet_0 0 rfl rfl)
theorem dX1_addStreet_1 : decode cX1_addStreet 1 = .ok (.invokestatic 112, 3) := dk_184 0 112 (dk_at dksX1_addStreet_0 1 rfl rfl)
theorem dX1_addStreet_4 : decode cX1_addStreet 4 = .ok (.ifCond .eq 14, 3) := dk_153 0 14 (dk_at dksX1_addStreet_0 4 rfl rfl)
theorem dX1_addStreet_7 : decode cX1_addStreet 7 = .ok (.iload_n 2, 1) := dk_28 (dk_at dksX1_addStreet_0 7 rfl rfl)
theorem dX1_addStreet_8 : decode cX1_addStreet 8 = .ok (.invokestatic 112, 3) := dk_184 0 112 (dk_at dksX1_addStreet_0 8 rfl rfl)
theorem dX1_addStreet_11 : decode cX1_addStreet 11 = .ok (.ifCond .eq 7, 3) := dk_153 0 7 (dk_at dksX1_addStreet_0 11 rfl rfl)
theorem dX1_addStreet_14 : decode cX1_addStreet 14 = .ok (.iconst 1, 1) := dk_4 (dk_at dksX1_addStreet_0 14 rfl rfl)
theorem dX1_addStreet_15 : decode cX1_addStreet 15 = .ok (.goto 4, 3) := dk_167 0 4 (dk_at dksX1_addStreet_0 15 rfl rfl)
theorem dX1_addStreet_18 : decode cX1_addStreet 18 = .ok (.iconst 0, 1) := dk_3 (dk_at dksX1_addStreet_0 18 rfl rfl)
theorem dX1_addStreet_19 : decode cX1_addStreet 19 = .ok (.invokestatic 91, 3) := dk_184 0 91 (dk_at dksX1_addStreet_0 19 rfl rfl)
theorem dX1_addStreet_22 : decode cX1_addStreet 22 = .ok (.iload_n 1, 1) := dk_27 (dk_at dksX1_addStreet_0 22 rfl rfl)
theorem dX1_addStreet_23 : decode cX1_addStreet 23 = .ok (.iload_n 2, 1) := dk_28 (dk_at dksX1_addStreet_0 23 rfl rfl)
theorem dX1_addStreet_24 : decode cX1_addStreet 24 = .ok (.if_icmp .eq 7, 3) := dk_159 0 7 (dk_at dksX1_addStreet_1 0 rfl rfl)
theorem dX1_addStreet_27 : decode cX1_addStreet 27 = .ok (.iconst 1, 1) := dk_4 (dk_at dksX1_addStreet_1 3 rfl rfl)
theorem dX1_addStreet_28 : decode cX1_addStreet 28 = .ok (.goto 4, 3) := dk_167 0 4 (dk_at dksX1_addStreet_1 4 rfl rfl)
theorem dX1_addStreet_31 : decode cX1_addStreet 31 = .ok (.iconst 0, 1) := dk_3 (dk_at dksX1_addStreet_1 7 rfl rfl)
theorem dX1_addStreet_32 : decode cX1_addStreet 32 = .ok (.invokestatic 115, 3) := dk_184 0 115 (dk_at dksX1_addStreet_1 8 rfl rfl)
theorem dX1_addStreet_35 : decode cX1_addStreet 35 = .ok (.aload_n 0, 1) := dk_42 (dk_at dksX1_addStreet_1 11 rfl rfl)
theorem dX1_addStreet_36 : decode cX1_addStreet 36 = .ok (.getfield 19, 3) := dk_180 0 19 (dk_at dksX1_addStreet_1 12 rfl rfl)
theorem dX1_addStreet_39 : decode cX1_addStreet 39 = .ok (.getfield 84, 3) := dk_180 0 84 (dk_at dksX1_addStreet_1 15 rfl rfl)
theorem dX1_addStreet_42 : decode cX1_addStreet 42 = .ok (.invokevirtual 55, 3) := dk_182 0 55 (dk_at dksX1_addStreet_1 18 rfl rfl)
theorem dX1_addStreet_45 : decode cX1_addStreet 45 = .ok (.bipush 24, 2) := dk_16 24 (dk_at dksX1_addStreet_1 21 rfl rfl)
theorem dX1_addStreet_47 : decode cX1_addStreet 47 = .ok (.if_icmp .ge 20, 3) := dk_162 0 20 (dk_at dksX1_addStreet_2 0 rfl rfl)
theorem dX1_addStreet_50 : decode cX1_addStreet 50 = .ok (.aload_n 0, 1) := dk_42 (dk_at dksX1_addStreet_2 3 rfl rfl)
theorem dX1_addStreet_51 : decode cX1_addStreet 51 = .ok (.getfield 19, 3) := dk_180 0 19 (dk_at dksX1_addStreet_2 4 rfl rfl)
theorem dX1_addStreet_54 : decode cX1_addStreet 54 = .ok (.iload_n 1, 1) := dk_27 (dk_at dksX1_addStreet_2 7 rfl rfl)
theorem dX1_addStreet_55 : decode cX1_addStreet 55 = .ok (.iload_n 2, 1) := dk_28 (dk_at dksX1_addStreet_2 8 rfl rfl)
theorem dX1_addStreet_56 : decode cX1_addStreet 56 = .ok (.invokevirtual 118, 3) := dk_182 0 118 (dk_at dksX1_addStreet_2 9 rfl rfl)
theorem dX1_addStreet_59 : decode cX1_addStreet 59 = .ok (.iconst (-1), 1) := dk_2 (dk_at dksX1_addStreet_2 12 rfl rfl)
theorem dX1_addStreet_60 : decode cX1_addStreet 60 = .ok (.if_icmp .ne 7, 3) := dk_160 0 7 (dk_at dksX1_addStreet_2 13 rfl rfl)
theorem dX1_addStreet_63 : decode cX1_addStreet 63 = .ok (.iconst 1, 1) := dk_4 (dk_at dksX1_addStreet_2 16 rfl rfl)
theorem dX1_addStreet_64 : decode cX1_addStreet 64 = .ok (.goto 4, 3) := dk_167 0 4 (dk_at dksX1_addStreet_2 17 rfl rfl)
theorem dX1_addStreet_67 : decode cX1_addStreet 67 = .ok (.iconst 0, 1) := dk_3 (dk_at dksX1_addStreet_2 20 rfl rfl)
theorem dX1_addStreet_68 : decode cX1_addStreet 68 = .ok (.invokestatic 122, 3) := dk_184 0 122 (dk_at dksX1_addStreet_2 21 rfl rfl)
theorem dX1_addStreet_71 : decode cX1_addStreet 71 = .ok (.aload_n 0, 1) := dk_42 (dk_at dksX1_addStreet_3 0 rfl rfl)
theorem dX1_addStreet_72 : decode cX1_addStreet 72 = .ok (.invokevirtual 125, 3) := dk_182 0 125 (dk_at dksX1_addStreet_3 1 rfl rfl)
theorem dX1_addStreet_75 : decode cX1_addStreet 75 = .ok (.aload_n 0, 1) := dk_42 (dk_at dksX1_addStreet_3 4 rfl rfl)
theorem dX1_addStreet_76 : decode cX1_addStreet 76 = .ok (.getfield 19, 3) := dk_180 0 19 (dk_at dksX1_addStreet_3 5 rfl rfl)
theorem dX1_addStreet_79 : decode cX1_addStreet 79 = .ok (.iload_n 1, 1) := dk_27 (dk_at dksX1_addStreet_3 8 rfl rfl)
theorem dX1_addStreet_80 : decode cX1_addStreet 80 = .ok (.iload_n 2, 1) := dk_28 (dk_at dksX1_addStreet_3 9 rfl rfl)
theorem dX1_addStreet_81 : decode cX1_addStreet 81 = .ok (.iload_n 3, 1) := dk_29 (dk_at dksX1_addStreet_3 10 rfl rfl)
theorem dX1_addStreet_82 : decode cX1_addStreet 82 = .ok (.invokevirtual 128, 3) := dk_182 0 128 (dk_at dksX1_addStreet_3 11 rfl rfl)
theorem dX1_addStreet_85 : decode cX1_addStreet 85 = .ok (.ireturn, 1) := dk_172 (dk_at dksX1_addStreet_3 14 rfl rfl)
abbrev cX1_isJunction : ByteArray := prog_1_method_10_code
def yX1_isJunction : MethodName := ⟨RX1, "isJunction", "(I)Z"⟩
def dkwX1_isJunction_0 : List UInt8 := [26, 3, 16, 9, 184, 0, 80, 172]
abbrev dktX1_isJunction_0 : List UInt8 := dkwX1_isJunction_0 ++ []
theorem dksX1_isJunction_0 : cX1_isJunction.data.toList.drop 0 = dktX1_isJunction_0 := by decide +kernel
theorem dX1_isJunction_0 : decode cX1_isJunction 0 = .ok (.iload_n 0, 1) := dk_26 (dk_at dksX1_isJunction_0 0 rfl rfl)
theorem dX1_isJunction_1 : decode cX1_isJunction 1 = .ok (.iconst 0, 1) := dk_3 (dk_at dksX1_isJunction_0 1 rfl rfl)
theorem dX1_isJunction_2 : decode cX1_isJunction 2 = .ok (.bipush 9, 2) := dk_16 9 (dk_at dksX1_isJunction_0 2 rfl rfl)
theorem dX1_isJunction_4 : decode cX1_isJunction 4 = .ok (.invokestatic 80, 3) := dk_184 0 80 (dk_at dksX1_isJunction_0 4 rfl rfl)
theorem dX1_isJunction_7 : decode cX1_isJunction 7 = .ok (.ireturn, 1) := dk_172 (dk_at dksX1_isJunction_0 7 rfl rfl)
abbrev cX1_needIndex : ByteArray := prog_1_method_8_code
def yX1_needIndex : MethodName := ⟨RX1, "needIndex", "(Z)V"⟩
def dkwX1_needIndex_0 : List UInt8 := [26, 154, 0, 11, 187, 0, 74, 89, 183, 0, 76, 191, 177]
abbrev dktX1_needIndex_0 : List UInt8 := dkwX1_needIndex_0 ++ []
theorem dksX1_needIndex_0 : cX1_needIndex.data.toList.drop 0 = dktX1_needIndex_0 := by decide +kernel
theorem dX1_needIndex_0 : decode cX1_needIndex 0 = .ok (.iload_n 0, 1) := dk_26 (dk_at dksX1_needIndex_0 0 rfl rfl)
theorem dX1_needIndex_1 : decode cX1_needIndex 1 = .ok (.ifCond .ne 11, 3) := dk_154 0 11 (dk_at dksX1_needIndex_0 1 rfl rfl)
theorem dX1_needIndex_4 : decode cX1_needIndex 4 = .ok (.new 74, 3) := dk_187 0 74 (dk_at dksX1_needIndex_0 4 rfl rfl)
theorem dX1_needIndex_7 : decode cX1_needIndex 7 = .ok (.dup, 1) := dk_89 (dk_at dksX1_needIndex_0 7 rfl rfl)
theorem dX1_needIndex_8 : decode cX1_needIndex 8 = .ok (.invokespecial 76, 3) := dk_183 0 76 (dk_at dksX1_needIndex_0 8 rfl rfl)
theorem dX1_needIndex_11 : decode cX1_needIndex 11 = .ok (.athrow, 1) := dk_191 (dk_at dksX1_needIndex_0 11 rfl rfl)
theorem dX1_needIndex_12 : decode cX1_needIndex 12 = .ok (.return_, 1) := dk_177 (dk_at dksX1_needIndex_0 12 rfl rfl)
abbrev cX1_need : ByteArray := prog_1_method_7_code
def yX1_need : MethodName := ⟨RX1, "need", "(Z)V"⟩
def dkwX1_need_0 : List UInt8 := [26, 154, 0, 11, 187, 0, 71, 89, 183, 0, 73, 191, 177]
abbrev dktX1_need_0 : List UInt8 := dkwX1_need_0 ++ []
theorem dksX1_need_0 : cX1_need.data.toList.drop 0 = dktX1_need_0 := by decide +kernel
theorem dX1_need_0 : decode cX1_need 0 = .ok (.iload_n 0, 1) := dk_26 (dk_at dksX1_need_0 0 rfl rfl)
theorem dX1_need_1 : decode cX1_need 1 = .ok (.ifCond .ne 11, 3) := dk_154 0 11 (dk_at dksX1_need_0 1 rfl rfl)
theorem dX1_need_4 : decode cX1_need 4 = .ok (.new 71, 3) := dk_187 0 71 (dk_at dksX1_need_0 4 rfl rfl)
theorem dX1_need_7 : decode cX1_need 7 = .ok (.dup, 1) := dk_89 (dk_at dksX1_need_0 7 rfl rfl)
theorem dX1_need_8 : decode cX1_need 8 = .ok (.invokespecial 73, 3) := dk_183 0 73 (dk_at dksX1_need_0 8 rfl rfl)
theorem dX1_need_11 : decode cX1_need 11 = .ok (.athrow, 1) := dk_191 (dk_at dksX1_need_0 11 rfl rfl)
theorem dX1_need_12 : decode cX1_need 12 = .ok (.return_, 1) := dk_177 (dk_at dksX1_need_0 12 rfl rfl)
abbrev cX1_needState : ByteArray := prog_1_method_9_code
def yX1_needState : MethodName := ⟨RX1, "needState", "(Z)V"⟩
def dkwX1_needState_0 : List UInt8 := [26, 154, 0, 11, 187, 0, 77, 89, 183, 0, 79, 191, 177]
abbrev dktX1_needState_0 : List UInt8 := dkwX1_needState_0 ++ []
theorem dksX1_needState_0 : cX1_needState.data.toList.drop 0 = dktX1_needState_0 := by decide +kernel
theorem dX1_needState_0 : decode cX1_needState 0 = .ok (.iload_n 0, 1) := dk_26 (dk_at dksX1_needState_0 0 rfl rfl)
theorem dX1_needState_1 : decode cX1_needState 1 = .ok (.ifCond .ne 11, 3) := dk_154 0 11 (dk_at dksX1_needState_0 1 rfl rfl)
theorem dX1_needState_4 : decode cX1_needState 4 = .ok (.new 77, 3) := dk_187 0 77 (dk_at dksX1_needState_0 4 rfl rfl)
theorem dX1_needState_7 : decode cX1_needState 7 = .ok (.dup, 1) := dk_89 (dk_at dksX1_needState_0 7 rfl rfl)
theorem dX1_needState_8 : decode cX1_needState 8 = .ok (.invokespecial 79, 3) := dk_183 0 79 (dk_at dksX1_needState_0 8 rfl rfl)
theorem dX1_needState_11 : decode cX1_needState 11 = .ok (.athrow, 1) := dk_191 (dk_at dksX1_needState_0 11 rfl rfl)
theorem dX1_needState_12 : decode cX1_needState 12 = .ok (.return_, 1) := dk_177 (dk_at dksX1_needState_0 12 rfl rfl)
abbrev cX1_save : ByteArray := prog_1_method_6_code
def yX1_save : MethodName := ⟨RX1, "save", "()V"⟩
def dkwX1_save_2 : List UInt8 := [182, 0, 67, 87, 177]
abbrev dktX1_save_2 : List UInt8 := dkwX1_save_2 ++ []
def dkwX1_save_1 : List UInt8 := [167, 0, 10, 187, 0, 16, 89, 183, 0, 18, 76, 42, 180, 0, 39, 43, 42, 180, 0, 19, 182, 0, 63]
abbrev dktX1_save_1 : List UInt8 := dkwX1_save_1 ++ dktX1_save_2
def dkwX1_save_0 : List UInt8 := [42, 180, 0, 39, 182, 0, 55, 8, 160, 0, 17, 42, 180, 0, 39, 3, 182, 0, 59, 192, 0, 16]
abbrev dktX1_save_0 : List UInt8 := dkwX1_save_0 ++ dktX1_save_1
theorem dksX1_save_0 : cX1_save.data.toList.drop 0 = dktX1_save_0 := by decide +kernel
theorem dksX1_save_1 : cX1_save.data.toList.drop 22 = dktX1_save_1 := dk_seg dksX1_save_0 22 rfl rfl
theorem dksX1_save_2 : cX1_save.data.toList.drop 45 = dktX1_save_2 := dk_seg dksX1_save_1 23 rfl rfl
theorem dX1_save_0 : decode cX1_save 0 = .ok (.aload_n 0, 1) := dk_42 (dk_at dksX1_save_0 0 rfl rfl)
theorem dX1_save_1 : decode cX1_save 1 = .ok (.getfield 39, 3) := dk_180 0 39 (dk_at dksX1_save_0 1 rfl rfl)
theorem dX1_save_4 : decode cX1_save 4 = .ok (.invokevirtual 55, 3) := dk_182 0 55 (dk_at dksX1_save_0 4 rfl rfl)
theorem dX1_save_7 : decode cX1_save 7 = .ok (.iconst 5, 1) := dk_8 (dk_at dksX1_save_0 7 rfl rfl)
theorem dX1_save_8 : decode cX1_save 8 = .ok (.if_icmp .ne 17, 3) := dk_160 0 17 (dk_at dksX1_save_0 8 rfl rfl)
theorem dX1_save_11 : decode cX1_save 11 = .ok (.aload_n 0, 1) := dk_42 (dk_at dksX1_save_0 11 rfl rfl)
theorem dX1_save_12 : decode cX1_save 12 = .ok (.getfield 39, 3) := dk_180 0 39 (dk_at dksX1_save_0 12 rfl rfl)
theorem dX1_save_15 : decode cX1_save 15 = .ok (.iconst 0, 1) := dk_3 (dk_at dksX1_save_0 15 rfl rfl)
theorem dX1_save_16 : decode cX1_save 16 = .ok (.invokevirtual 59, 3) := dk_182 0 59 (dk_at dksX1_save_0 16 rfl rfl)
theorem dX1_save_19 : decode cX1_save 19 = .ok (.checkcast 16, 3) := dk_192 0 16 (dk_at dksX1_save_0 19 rfl rfl)
theorem dX1_save_22 : decode cX1_save 22 = .ok (.goto 10, 3) := dk_167 0 10 (dk_at dksX1_save_1 0 rfl rfl)
theorem dX1_save_25 : decode cX1_save 25 = .ok (.new 16, 3) := dk_187 0 16 (dk_at dksX1_save_1 3 rfl rfl)
theorem dX1_save_28 : decode cX1_save 28 = .ok (.dup, 1) := dk_89 (dk_at dksX1_save_1 6 rfl rfl)
theorem dX1_save_29 : decode cX1_save 29 = .ok (.invokespecial 18, 3) := dk_183 0 18 (dk_at dksX1_save_1 7 rfl rfl)
theorem dX1_save_32 : decode cX1_save 32 = .ok (.astore_n 1, 1) := dk_76 (dk_at dksX1_save_1 10 rfl rfl)
theorem dX1_save_33 : decode cX1_save 33 = .ok (.aload_n 0, 1) := dk_42 (dk_at dksX1_save_1 11 rfl rfl)
theorem dX1_save_34 : decode cX1_save 34 = .ok (.getfield 39, 3) := dk_180 0 39 (dk_at dksX1_save_1 12 rfl rfl)
theorem dX1_save_37 : decode cX1_save 37 = .ok (.aload_n 1, 1) := dk_43 (dk_at dksX1_save_1 15 rfl rfl)
theorem dX1_save_38 : decode cX1_save 38 = .ok (.aload_n 0, 1) := dk_42 (dk_at dksX1_save_1 16 rfl rfl)
theorem dX1_save_39 : decode cX1_save 39 = .ok (.getfield 19, 3) := dk_180 0 19 (dk_at dksX1_save_1 17 rfl rfl)
theorem dX1_save_42 : decode cX1_save 42 = .ok (.invokevirtual 63, 3) := dk_182 0 63 (dk_at dksX1_save_1 20 rfl rfl)
theorem dX1_save_45 : decode cX1_save 45 = .ok (.invokevirtual 67, 3) := dk_182 0 67 (dk_at dksX1_save_2 0 rfl rfl)
theorem dX1_save_48 : decode cX1_save 48 = .ok (.pop, 1) := dk_87 (dk_at dksX1_save_2 3 rfl rfl)
theorem dX1_save_49 : decode cX1_save 49 = .ok (.return_, 1) := dk_177 (dk_at dksX1_save_2 4 rfl rfl)
abbrev cX1_toggleStreet : ByteArray := prog_1_method_18_code
def yX1_toggleStreet : MethodName := ⟨RX1, "toggleStreet", "(I)Z"⟩
def dkwX1_toggleStreet_0 : List UInt8 := [42, 27, 182, 0, 131, 87, 42, 182, 0, 125, 42, 180, 0, 19, 27, 182, 0, 135, 172]
abbrev dktX1_toggleStreet_0 : List UInt8 := dkwX1_toggleStreet_0 ++ []
theorem dksX1_toggleStreet_0 : cX1_toggleStreet.data.toList.drop 0 = dktX1_toggleStreet_0 := by decide +kernel
theorem dX1_toggleStreet_0 : decode cX1_toggleStreet 0 = .ok (.aload_n 0, 1) := dk_42 (dk_at dksX1_toggleStreet_0 0 rfl rfl)
theorem dX1_toggleStreet_1 : decode cX1_toggleStreet 1 = .ok (.iload_n 1, 1) := dk_27 (dk_at dksX1_toggleStreet_0 1 rfl rfl)
theorem dX1_toggleStreet_2 : decode cX1_toggleStreet 2 = .ok (.invokevirtual 131, 3) := dk_182 0 131 (dk_at dksX1_toggleStreet_0 2 rfl rfl)
theorem dX1_toggleStreet_5 : decode cX1_toggleStreet 5 = .ok (.pop, 1) := dk_87 (dk_at dksX1_toggleStreet_0 5 rfl rfl)
theorem dX1_toggleStreet_6 : decode cX1_toggleStreet 6 = .ok (.aload_n 0, 1) := dk_42 (dk_at dksX1_toggleStreet_0 6 rfl rfl)
theorem dX1_toggleStreet_7 : decode cX1_toggleStreet 7 = .ok (.invokevirtual 125, 3) := dk_182 0 125 (dk_at dksX1_toggleStreet_0 7 rfl rfl)
theorem dX1_toggleStreet_10 : decode cX1_toggleStreet 10 = .ok (.aload_n 0, 1) := dk_42 (dk_at dksX1_toggleStreet_0 10 rfl rfl)
theorem dX1_toggleStreet_11 : decode cX1_toggleStreet 11 = .ok (.getfield 19, 3) := dk_180 0 19 (dk_at dksX1_toggleStreet_0 11 rfl rfl)
theorem dX1_toggleStreet_14 : decode cX1_toggleStreet 14 = .ok (.iload_n 1, 1) := dk_27 (dk_at dksX1_toggleStreet_0 14 rfl rfl)
theorem dX1_toggleStreet_15 : decode cX1_toggleStreet 15 = .ok (.invokevirtual 135, 3) := dk_182 0 135 (dk_at dksX1_toggleStreet_0 15 rfl rfl)
theorem dX1_toggleStreet_18 : decode cX1_toggleStreet 18 = .ok (.ireturn, 1) := dk_172 (dk_at dksX1_toggleStreet_0 18 rfl rfl)
abbrev cX1_streetBy : ByteArray := prog_1_method_13_code
def yX1_streetBy : MethodName := ⟨RX1, "streetBy", "(I)LCourierClash$Street;"⟩
def dkwX1_streetBy_0 : List UInt8 := [42, 27, 182, 0, 87, 184, 0, 91, 42, 180, 0, 19, 180, 0, 84, 27, 182, 0, 95, 192, 0, 98, 176]
abbrev dktX1_streetBy_0 : List UInt8 := dkwX1_streetBy_0 ++ []
theorem dksX1_streetBy_0 : cX1_streetBy.data.toList.drop 0 = dktX1_streetBy_0 := by decide +kernel
theorem dX1_streetBy_0 : decode cX1_streetBy 0 = .ok (.aload_n 0, 1) := dk_42 (dk_at dksX1_streetBy_0 0 rfl rfl)
theorem dX1_streetBy_1 : decode cX1_streetBy 1 = .ok (.iload_n 1, 1) := dk_27 (dk_at dksX1_streetBy_0 1 rfl rfl)
theorem dX1_streetBy_2 : decode cX1_streetBy 2 = .ok (.invokevirtual 87, 3) := dk_182 0 87 (dk_at dksX1_streetBy_0 2 rfl rfl)
theorem dX1_streetBy_5 : decode cX1_streetBy 5 = .ok (.invokestatic 91, 3) := dk_184 0 91 (dk_at dksX1_streetBy_0 5 rfl rfl)
theorem dX1_streetBy_8 : decode cX1_streetBy 8 = .ok (.aload_n 0, 1) := dk_42 (dk_at dksX1_streetBy_0 8 rfl rfl)
theorem dX1_streetBy_9 : decode cX1_streetBy 9 = .ok (.getfield 19, 3) := dk_180 0 19 (dk_at dksX1_streetBy_0 9 rfl rfl)
theorem dX1_streetBy_12 : decode cX1_streetBy 12 = .ok (.getfield 84, 3) := dk_180 0 84 (dk_at dksX1_streetBy_0 12 rfl rfl)
theorem dX1_streetBy_15 : decode cX1_streetBy 15 = .ok (.iload_n 1, 1) := dk_27 (dk_at dksX1_streetBy_0 15 rfl rfl)
theorem dX1_streetBy_16 : decode cX1_streetBy 16 = .ok (.invokevirtual 95, 3) := dk_182 0 95 (dk_at dksX1_streetBy_0 16 rfl rfl)
theorem dX1_streetBy_19 : decode cX1_streetBy 19 = .ok (.checkcast 98, 3) := dk_192 0 98 (dk_at dksX1_streetBy_0 19 rfl rfl)
theorem dX1_streetBy_22 : decode cX1_streetBy 22 = .ok (.areturn, 1) := dk_176 (dk_at dksX1_streetBy_0 22 rfl rfl)
abbrev cX1_isStreet : ByteArray := prog_1_method_12_code
def yX1_isStreet : MethodName := ⟨RX1, "isStreet", "(I)Z"⟩
def dkwX1_isStreet_0 : List UInt8 := [27, 3, 42, 180, 0, 19, 180, 0, 84, 182, 0, 55, 4, 100, 184, 0, 80, 172]
abbrev dktX1_isStreet_0 : List UInt8 := dkwX1_isStreet_0 ++ []
theorem dksX1_isStreet_0 : cX1_isStreet.data.toList.drop 0 = dktX1_isStreet_0 := by decide +kernel
theorem dX1_isStreet_0 : decode cX1_isStreet 0 = .ok (.iload_n 1, 1) := dk_27 (dk_at dksX1_isStreet_0 0 rfl rfl)
theorem dX1_isStreet_1 : decode cX1_isStreet 1 = .ok (.iconst 0, 1) := dk_3 (dk_at dksX1_isStreet_0 1 rfl rfl)
theorem dX1_isStreet_2 : decode cX1_isStreet 2 = .ok (.aload_n 0, 1) := dk_42 (dk_at dksX1_isStreet_0 2 rfl rfl)
theorem dX1_isStreet_3 : decode cX1_isStreet 3 = .ok (.getfield 19, 3) := dk_180 0 19 (dk_at dksX1_isStreet_0 3 rfl rfl)
theorem dX1_isStreet_6 : decode cX1_isStreet 6 = .ok (.getfield 84, 3) := dk_180 0 84 (dk_at dksX1_isStreet_0 6 rfl rfl)
theorem dX1_isStreet_9 : decode cX1_isStreet 9 = .ok (.invokevirtual 55, 3) := dk_182 0 55 (dk_at dksX1_isStreet_0 9 rfl rfl)
theorem dX1_isStreet_12 : decode cX1_isStreet 12 = .ok (.iconst 1, 1) := dk_4 (dk_at dksX1_isStreet_0 12 rfl rfl)
theorem dX1_isStreet_13 : decode cX1_isStreet 13 = .ok (.isub, 1) := dk_100 (dk_at dksX1_isStreet_0 13 rfl rfl)
theorem dX1_isStreet_14 : decode cX1_isStreet 14 = .ok (.invokestatic 80, 3) := dk_184 0 80 (dk_at dksX1_isStreet_0 14 rfl rfl)
theorem dX1_isStreet_17 : decode cX1_isStreet 17 = .ok (.ireturn, 1) := dk_172 (dk_at dksX1_isStreet_0 17 rfl rfl)
abbrev cX1_place : ByteArray := prog_1_method_19_code
def yX1_place : MethodName := ⟨RX1, "place", "(II)I"⟩
def dkwX1_place_2 : List UInt8 := [184, 0, 122, 42, 182, 0, 125, 42, 180, 0, 19, 27, 28, 182, 0, 142, 172]
abbrev dktX1_place_2 : List UInt8 := dkwX1_place_2 ++ []
def dkwX1_place_1 : List UInt8 := [180, 0, 19, 28, 182, 0, 138, 62, 29, 2, 159, 0, 8, 29, 27, 160, 0, 7, 4, 167, 0, 4, 3]
abbrev dktX1_place_1 : List UInt8 := dkwX1_place_1 ++ dktX1_place_2
def dkwX1_place_0 : List UInt8 := [27, 184, 0, 100, 153, 0, 14, 28, 184, 0, 112, 153, 0, 7, 4, 167, 0, 4, 3, 184, 0, 91, 42]
abbrev dktX1_place_0 : List UInt8 := dkwX1_place_0 ++ dktX1_place_1
theorem dksX1_place_0 : cX1_place.data.toList.drop 0 = dktX1_place_0 := by decide +kernel
theorem dksX1_place_1 : cX1_place.data.toList.drop 23 = dktX1_place_1 := dk_seg dksX1_place_0 23 rfl rfl
theorem dksX1_place_2 : cX1_place.data.toList.drop 46 = dktX1_place_2 := dk_seg dksX1_place_1 23 rfl rfl
theorem dX1_place_0 : decode cX1_place 0 = .ok (.iload_n 1, 1) := dk_27 (dk_at dksX1_place_0 0 rfl rfl)
theorem dX1_place_1 : decode cX1_place 1 = .ok (.invokestatic 100, 3) := dk_184 0 100 (dk_at dksX1_place_0 1 rfl rfl)
theorem dX1_place_4 : decode cX1_place 4 = .ok (.ifCond .eq 14, 3) := dk_153 0 14 (dk_at dksX1_place_0 4 rfl rfl)
theorem dX1_place_7 : decode cX1_place 7 = .ok (.iload_n 2, 1) := dk_28 (dk_at dksX1_place_0 7 rfl rfl)
theorem dX1_place_8 : decode cX1_place 8 = .ok (.invokestatic 112, 3) := dk_184 0 112 (dk_at dksX1_place_0 8 rfl rfl)
theorem dX1_place_11 : decode cX1_place 11 = .ok (.ifCond .eq 7, 3) := dk_153 0 7 (dk_at dksX1_place_0 11 rfl rfl)
theorem dX1_place_14 : decode cX1_place 14 = .ok (.iconst 1, 1) := dk_4 (dk_at dksX1_place_0 14 rfl rfl)
theorem dX1_place_15 : decode cX1_place 15 = .ok (.goto 4, 3) := dk_167 0 4 (dk_at dksX1_place_0 15 rfl rfl)
theorem dX1_place_18 : decode cX1_place 18 = .ok (.iconst 0, 1) := dk_3 (dk_at dksX1_place_0 18 rfl rfl)
theorem dX1_place_19 : decode cX1_place 19 = .ok (.invokestatic 91, 3) := dk_184 0 91 (dk_at dksX1_place_0 19 rfl rfl)
theorem dX1_place_22 : decode cX1_place 22 = .ok (.aload_n 0, 1) := dk_42 (dk_at dksX1_place_0 22 rfl rfl)
theorem dX1_place_23 : decode cX1_place 23 = .ok (.getfield 19, 3) := dk_180 0 19 (dk_at dksX1_place_1 0 rfl rfl)
theorem dX1_place_26 : decode cX1_place 26 = .ok (.iload_n 2, 1) := dk_28 (dk_at dksX1_place_1 3 rfl rfl)
theorem dX1_place_27 : decode cX1_place 27 = .ok (.invokevirtual 138, 3) := dk_182 0 138 (dk_at dksX1_place_1 4 rfl rfl)
theorem dX1_place_30 : decode cX1_place 30 = .ok (.istore_n 3, 1) := dk_62 (dk_at dksX1_place_1 7 rfl rfl)
theorem dX1_place_31 : decode cX1_place 31 = .ok (.iload_n 3, 1) := dk_29 (dk_at dksX1_place_1 8 rfl rfl)
theorem dX1_place_32 : decode cX1_place 32 = .ok (.iconst (-1), 1) := dk_2 (dk_at dksX1_place_1 9 rfl rfl)
theorem dX1_place_33 : decode cX1_place 33 = .ok (.if_icmp .eq 8, 3) := dk_159 0 8 (dk_at dksX1_place_1 10 rfl rfl)
theorem dX1_place_36 : decode cX1_place 36 = .ok (.iload_n 3, 1) := dk_29 (dk_at dksX1_place_1 13 rfl rfl)
theorem dX1_place_37 : decode cX1_place 37 = .ok (.iload_n 1, 1) := dk_27 (dk_at dksX1_place_1 14 rfl rfl)
theorem dX1_place_38 : decode cX1_place 38 = .ok (.if_icmp .ne 7, 3) := dk_160 0 7 (dk_at dksX1_place_1 15 rfl rfl)
theorem dX1_place_41 : decode cX1_place 41 = .ok (.iconst 1, 1) := dk_4 (dk_at dksX1_place_1 18 rfl rfl)
theorem dX1_place_42 : decode cX1_place 42 = .ok (.goto 4, 3) := dk_167 0 4 (dk_at dksX1_place_1 19 rfl rfl)
theorem dX1_place_45 : decode cX1_place 45 = .ok (.iconst 0, 1) := dk_3 (dk_at dksX1_place_1 22 rfl rfl)
theorem dX1_place_46 : decode cX1_place 46 = .ok (.invokestatic 122, 3) := dk_184 0 122 (dk_at dksX1_place_2 0 rfl rfl)
theorem dX1_place_49 : decode cX1_place 49 = .ok (.aload_n 0, 1) := dk_42 (dk_at dksX1_place_2 3 rfl rfl)
theorem dX1_place_50 : decode cX1_place 50 = .ok (.invokevirtual 125, 3) := dk_182 0 125 (dk_at dksX1_place_2 4 rfl rfl)
theorem dX1_place_53 : decode cX1_place 53 = .ok (.aload_n 0, 1) := dk_42 (dk_at dksX1_place_2 7 rfl rfl)
theorem dX1_place_54 : decode cX1_place 54 = .ok (.getfield 19, 3) := dk_180 0 19 (dk_at dksX1_place_2 8 rfl rfl)
theorem dX1_place_57 : decode cX1_place 57 = .ok (.iload_n 1, 1) := dk_27 (dk_at dksX1_place_2 11 rfl rfl)
theorem dX1_place_58 : decode cX1_place 58 = .ok (.iload_n 2, 1) := dk_28 (dk_at dksX1_place_2 12 rfl rfl)
theorem dX1_place_59 : decode cX1_place 59 = .ok (.invokevirtual 142, 3) := dk_182 0 142 (dk_at dksX1_place_2 13 rfl rfl)
theorem dX1_place_62 : decode cX1_place 62 = .ok (.ireturn, 1) := dk_172 (dk_at dksX1_place_2 16 rfl rfl)
abbrev cX1_isCourier : ByteArray := prog_1_method_11_code
def yX1_isCourier : MethodName := ⟨RX1, "isCourier", "(I)Z"⟩
def dkwX1_isCourier_0 : List UInt8 := [26, 3, 6, 184, 0, 80, 172]
abbrev dktX1_isCourier_0 : List UInt8 := dkwX1_isCourier_0 ++ []
theorem dksX1_isCourier_0 : cX1_isCourier.data.toList.drop 0 = dktX1_isCourier_0 := by decide +kernel
theorem dX1_isCourier_0 : decode cX1_isCourier 0 = .ok (.iload_n 0, 1) := dk_26 (dk_at dksX1_isCourier_0 0 rfl rfl)
theorem dX1_isCourier_1 : decode cX1_isCourier 1 = .ok (.iconst 0, 1) := dk_3 (dk_at dksX1_isCourier_0 1 rfl rfl)
theorem dX1_isCourier_2 : decode cX1_isCourier 2 = .ok (.iconst 3, 1) := dk_6 (dk_at dksX1_isCourier_0 2 rfl rfl)
theorem dX1_isCourier_3 : decode cX1_isCourier 3 = .ok (.invokestatic 80, 3) := dk_184 0 80 (dk_at dksX1_isCourier_0 3 rfl rfl)
theorem dX1_isCourier_6 : decode cX1_isCourier 6 = .ok (.ireturn, 1) := dk_172 (dk_at dksX1_isCourier_0 6 rfl rfl)
abbrev cX1_toggleVan : ByteArray := prog_1_method_20_code
def yX1_toggleVan : MethodName := ⟨RX1, "toggleVan", "(I)Z"⟩
def dkwX1_toggleVan_2 : List UInt8 := [180, 0, 19, 27, 182, 0, 168, 172]
abbrev dktX1_toggleVan_2 : List UInt8 := dkwX1_toggleVan_2 ++ []
def dkwX1_toggleVan_1 : List UInt8 := [42, 180, 0, 19, 180, 0, 164, 163, 0, 7, 4, 167, 0, 4, 3, 184, 0, 122, 42, 182, 0, 125, 42]
abbrev dktX1_toggleVan_1 : List UInt8 := dkwX1_toggleVan_1 ++ dktX1_toggleVan_2
def dkwX1_toggleVan_0 : List UInt8 := [42, 27, 182, 0, 145, 77, 44, 180, 0, 149, 182, 0, 155, 153, 0, 21, 42, 180, 0, 19, 27, 182, 0, 161]
abbrev dktX1_toggleVan_0 : List UInt8 := dkwX1_toggleVan_0 ++ dktX1_toggleVan_1
theorem dksX1_toggleVan_0 : cX1_toggleVan.data.toList.drop 0 = dktX1_toggleVan_0 := by decide +kernel
theorem dksX1_toggleVan_1 : cX1_toggleVan.data.toList.drop 24 = dktX1_toggleVan_1 := dk_seg dksX1_toggleVan_0 24 rfl rfl
theorem dksX1_toggleVan_2 : cX1_toggleVan.data.toList.drop 47 = dktX1_toggleVan_2 := dk_seg dksX1_toggleVan_1 23 rfl rfl
theorem dX1_toggleVan_0 : decode cX1_toggleVan 0 = .ok (.aload_n 0, 1) := dk_42 (dk_at dksX1_toggleVan_0 0 rfl rfl)
theorem dX1_toggleVan_1 : decode cX1_toggleVan 1 = .ok (.iload_n 1, 1) := dk_27 (dk_at dksX1_toggleVan_0 1 rfl rfl)
theorem dX1_toggleVan_2 : decode cX1_toggleVan 2 = .ok (.invokevirtual 145, 3) := dk_182 0 145 (dk_at dksX1_toggleVan_0 2 rfl rfl)
theorem dX1_toggleVan_5 : decode cX1_toggleVan 5 = .ok (.astore_n 2, 1) := dk_77 (dk_at dksX1_toggleVan_0 5 rfl rfl)
theorem dX1_toggleVan_6 : decode cX1_toggleVan 6 = .ok (.aload_n 2, 1) := dk_44 (dk_at dksX1_toggleVan_0 6 rfl rfl)
theorem dX1_toggleVan_7 : decode cX1_toggleVan 7 = .ok (.getfield 149, 3) := dk_180 0 149 (dk_at dksX1_toggleVan_0 7 rfl rfl)
theorem dX1_toggleVan_10 : decode cX1_toggleVan 10 = .ok (.invokevirtual 155, 3) := dk_182 0 155 (dk_at dksX1_toggleVan_0 10 rfl rfl)
theorem dX1_toggleVan_13 : decode cX1_toggleVan 13 = .ok (.ifCond .eq 21, 3) := dk_153 0 21 (dk_at dksX1_toggleVan_0 13 rfl rfl)
theorem dX1_toggleVan_16 : decode cX1_toggleVan 16 = .ok (.aload_n 0, 1) := dk_42 (dk_at dksX1_toggleVan_0 16 rfl rfl)
theorem dX1_toggleVan_17 : decode cX1_toggleVan 17 = .ok (.getfield 19, 3) := dk_180 0 19 (dk_at dksX1_toggleVan_0 17 rfl rfl)
theorem dX1_toggleVan_20 : decode cX1_toggleVan 20 = .ok (.iload_n 1, 1) := dk_27 (dk_at dksX1_toggleVan_0 20 rfl rfl)
theorem dX1_toggleVan_21 : decode cX1_toggleVan 21 = .ok (.invokevirtual 161, 3) := dk_182 0 161 (dk_at dksX1_toggleVan_0 21 rfl rfl)
theorem dX1_toggleVan_24 : decode cX1_toggleVan 24 = .ok (.aload_n 0, 1) := dk_42 (dk_at dksX1_toggleVan_1 0 rfl rfl)
theorem dX1_toggleVan_25 : decode cX1_toggleVan 25 = .ok (.getfield 19, 3) := dk_180 0 19 (dk_at dksX1_toggleVan_1 1 rfl rfl)
theorem dX1_toggleVan_28 : decode cX1_toggleVan 28 = .ok (.getfield 164, 3) := dk_180 0 164 (dk_at dksX1_toggleVan_1 4 rfl rfl)
theorem dX1_toggleVan_31 : decode cX1_toggleVan 31 = .ok (.if_icmp .gt 7, 3) := dk_163 0 7 (dk_at dksX1_toggleVan_1 7 rfl rfl)
theorem dX1_toggleVan_34 : decode cX1_toggleVan 34 = .ok (.iconst 1, 1) := dk_4 (dk_at dksX1_toggleVan_1 10 rfl rfl)
theorem dX1_toggleVan_35 : decode cX1_toggleVan 35 = .ok (.goto 4, 3) := dk_167 0 4 (dk_at dksX1_toggleVan_1 11 rfl rfl)
theorem dX1_toggleVan_38 : decode cX1_toggleVan 38 = .ok (.iconst 0, 1) := dk_3 (dk_at dksX1_toggleVan_1 14 rfl rfl)
theorem dX1_toggleVan_39 : decode cX1_toggleVan 39 = .ok (.invokestatic 122, 3) := dk_184 0 122 (dk_at dksX1_toggleVan_1 15 rfl rfl)
theorem dX1_toggleVan_42 : decode cX1_toggleVan 42 = .ok (.aload_n 0, 1) := dk_42 (dk_at dksX1_toggleVan_1 18 rfl rfl)
theorem dX1_toggleVan_43 : decode cX1_toggleVan 43 = .ok (.invokevirtual 125, 3) := dk_182 0 125 (dk_at dksX1_toggleVan_1 19 rfl rfl)
theorem dX1_toggleVan_46 : decode cX1_toggleVan 46 = .ok (.aload_n 0, 1) := dk_42 (dk_at dksX1_toggleVan_1 22 rfl rfl)
theorem dX1_toggleVan_47 : decode cX1_toggleVan 47 = .ok (.getfield 19, 3) := dk_180 0 19 (dk_at dksX1_toggleVan_2 0 rfl rfl)
theorem dX1_toggleVan_50 : decode cX1_toggleVan 50 = .ok (.iload_n 1, 1) := dk_27 (dk_at dksX1_toggleVan_2 3 rfl rfl)
theorem dX1_toggleVan_51 : decode cX1_toggleVan 51 = .ok (.invokevirtual 168, 3) := dk_182 0 168 (dk_at dksX1_toggleVan_2 4 rfl rfl)
theorem dX1_toggleVan_54 : decode cX1_toggleVan 54 = .ok (.ireturn, 1) := dk_172 (dk_at dksX1_toggleVan_2 7 rfl rfl)
abbrev cX1_courierBy : ByteArray := prog_1_method_14_code
def yX1_courierBy : MethodName := ⟨RX1, "courierBy", "(I)LCourierClash$Courier;"⟩
def dkwX1_courierBy_0 : List UInt8 := [27, 184, 0, 100, 184, 0, 91, 42, 180, 0, 19, 180, 0, 103, 27, 50, 176]
abbrev dktX1_courierBy_0 : List UInt8 := dkwX1_courierBy_0 ++ []
theorem dksX1_courierBy_0 : cX1_courierBy.data.toList.drop 0 = dktX1_courierBy_0 := by decide +kernel
theorem dX1_courierBy_0 : decode cX1_courierBy 0 = .ok (.iload_n 1, 1) := dk_27 (dk_at dksX1_courierBy_0 0 rfl rfl)
theorem dX1_courierBy_1 : decode cX1_courierBy 1 = .ok (.invokestatic 100, 3) := dk_184 0 100 (dk_at dksX1_courierBy_0 1 rfl rfl)
theorem dX1_courierBy_4 : decode cX1_courierBy 4 = .ok (.invokestatic 91, 3) := dk_184 0 91 (dk_at dksX1_courierBy_0 4 rfl rfl)
theorem dX1_courierBy_7 : decode cX1_courierBy 7 = .ok (.aload_n 0, 1) := dk_42 (dk_at dksX1_courierBy_0 7 rfl rfl)
theorem dX1_courierBy_8 : decode cX1_courierBy 8 = .ok (.getfield 19, 3) := dk_180 0 19 (dk_at dksX1_courierBy_0 8 rfl rfl)
theorem dX1_courierBy_11 : decode cX1_courierBy 11 = .ok (.getfield 103, 3) := dk_180 0 103 (dk_at dksX1_courierBy_0 11 rfl rfl)
theorem dX1_courierBy_14 : decode cX1_courierBy 14 = .ok (.iload_n 1, 1) := dk_27 (dk_at dksX1_courierBy_0 14 rfl rfl)
theorem dX1_courierBy_15 : decode cX1_courierBy 15 = .ok (.aaload, 1) := dk_50 (dk_at dksX1_courierBy_0 15 rfl rfl)
theorem dX1_courierBy_16 : decode cX1_courierBy 16 = .ok (.areturn, 1) := dk_176 (dk_at dksX1_courierBy_0 16 rfl rfl)
abbrev cX1_setCapacity : ByteArray := prog_1_method_21_code
def yX1_setCapacity : MethodName := ⟨RX1, "setCapacity", "(I)I"⟩
def dkwX1_setCapacity_1 : List UInt8 := [182, 0, 125, 42, 180, 0, 19, 180, 0, 164, 61, 42, 180, 0, 19, 27, 181, 0, 164, 28, 172]
abbrev dktX1_setCapacity_1 : List UInt8 := dkwX1_setCapacity_1 ++ []
def dkwX1_setCapacity_0 : List UInt8 := [27, 4, 16, 9, 184, 0, 80, 184, 0, 115, 42, 180, 0, 19, 27, 182, 0, 171, 184, 0, 122, 42]
abbrev dktX1_setCapacity_0 : List UInt8 := dkwX1_setCapacity_0 ++ dktX1_setCapacity_1
theorem dksX1_setCapacity_0 : cX1_setCapacity.data.toList.drop 0 = dktX1_setCapacity_0 := by decide +kernel
theorem dksX1_setCapacity_1 : cX1_setCapacity.data.toList.drop 22 = dktX1_setCapacity_1 := dk_seg dksX1_setCapacity_0 22 rfl rfl
theorem dX1_setCapacity_0 : decode cX1_setCapacity 0 = .ok (.iload_n 1, 1) := dk_27 (dk_at dksX1_setCapacity_0 0 rfl rfl)
theorem dX1_setCapacity_1 : decode cX1_setCapacity 1 = .ok (.iconst 1, 1) := dk_4 (dk_at dksX1_setCapacity_0 1 rfl rfl)
theorem dX1_setCapacity_2 : decode cX1_setCapacity 2 = .ok (.bipush 9, 2) := dk_16 9 (dk_at dksX1_setCapacity_0 2 rfl rfl)
theorem dX1_setCapacity_4 : decode cX1_setCapacity 4 = .ok (.invokestatic 80, 3) := dk_184 0 80 (dk_at dksX1_setCapacity_0 4 rfl rfl)
theorem dX1_setCapacity_7 : decode cX1_setCapacity 7 = .ok (.invokestatic 115, 3) := dk_184 0 115 (dk_at dksX1_setCapacity_0 7 rfl rfl)
theorem dX1_setCapacity_10 : decode cX1_setCapacity 10 = .ok (.aload_n 0, 1) := dk_42 (dk_at dksX1_setCapacity_0 10 rfl rfl)
theorem dX1_setCapacity_11 : decode cX1_setCapacity 11 = .ok (.getfield 19, 3) := dk_180 0 19 (dk_at dksX1_setCapacity_0 11 rfl rfl)
theorem dX1_setCapacity_14 : decode cX1_setCapacity 14 = .ok (.iload_n 1, 1) := dk_27 (dk_at dksX1_setCapacity_0 14 rfl rfl)
theorem dX1_setCapacity_15 : decode cX1_setCapacity 15 = .ok (.invokevirtual 171, 3) := dk_182 0 171 (dk_at dksX1_setCapacity_0 15 rfl rfl)
theorem dX1_setCapacity_18 : decode cX1_setCapacity 18 = .ok (.invokestatic 122, 3) := dk_184 0 122 (dk_at dksX1_setCapacity_0 18 rfl rfl)
theorem dX1_setCapacity_21 : decode cX1_setCapacity 21 = .ok (.aload_n 0, 1) := dk_42 (dk_at dksX1_setCapacity_0 21 rfl rfl)
theorem dX1_setCapacity_22 : decode cX1_setCapacity 22 = .ok (.invokevirtual 125, 3) := dk_182 0 125 (dk_at dksX1_setCapacity_1 0 rfl rfl)
theorem dX1_setCapacity_25 : decode cX1_setCapacity 25 = .ok (.aload_n 0, 1) := dk_42 (dk_at dksX1_setCapacity_1 3 rfl rfl)
theorem dX1_setCapacity_26 : decode cX1_setCapacity 26 = .ok (.getfield 19, 3) := dk_180 0 19 (dk_at dksX1_setCapacity_1 4 rfl rfl)
theorem dX1_setCapacity_29 : decode cX1_setCapacity 29 = .ok (.getfield 164, 3) := dk_180 0 164 (dk_at dksX1_setCapacity_1 7 rfl rfl)
theorem dX1_setCapacity_32 : decode cX1_setCapacity 32 = .ok (.istore_n 2, 1) := dk_61 (dk_at dksX1_setCapacity_1 10 rfl rfl)
theorem dX1_setCapacity_33 : decode cX1_setCapacity 33 = .ok (.aload_n 0, 1) := dk_42 (dk_at dksX1_setCapacity_1 11 rfl rfl)
theorem dX1_setCapacity_34 : decode cX1_setCapacity 34 = .ok (.getfield 19, 3) := dk_180 0 19 (dk_at dksX1_setCapacity_1 12 rfl rfl)
theorem dX1_setCapacity_37 : decode cX1_setCapacity 37 = .ok (.iload_n 1, 1) := dk_27 (dk_at dksX1_setCapacity_1 15 rfl rfl)
theorem dX1_setCapacity_38 : decode cX1_setCapacity 38 = .ok (.putfield 164, 3) := dk_181 0 164 (dk_at dksX1_setCapacity_1 16 rfl rfl)
theorem dX1_setCapacity_41 : decode cX1_setCapacity 41 = .ok (.iload_n 2, 1) := dk_28 (dk_at dksX1_setCapacity_1 19 rfl rfl)
theorem dX1_setCapacity_42 : decode cX1_setCapacity 42 = .ok (.ireturn, 1) := dk_172 (dk_at dksX1_setCapacity_1 20 rfl rfl)
abbrev cX1_addParcel : ByteArray := prog_1_method_22_code
def yX1_addParcel : MethodName := ⟨RX1, "addParcel", "(IIII)I"⟩
def dkwX1_addParcel_5 : List UInt8 := [180, 0, 19, 182, 0, 52, 42, 180, 0, 19, 180, 0, 107, 182, 0, 55, 4, 100, 172]
abbrev dktX1_addParcel_5 : List UInt8 := dkwX1_addParcel_5 ++ []
def dkwX1_addParcel_4 : List UInt8 := [180, 0, 19, 180, 0, 107, 182, 0, 55, 27, 28, 29, 21, 4, 183, 0, 174, 182, 0, 67, 87, 42]
abbrev dktX1_addParcel_4 : List UInt8 := dkwX1_addParcel_4 ++ dktX1_addParcel_5
def dkwX1_addParcel_3 : List UInt8 := [167, 0, 4, 3, 184, 0, 122, 42, 182, 0, 125, 42, 180, 0, 19, 180, 0, 107, 187, 0, 110, 89, 42]
abbrev dktX1_addParcel_3 : List UInt8 := dkwX1_addParcel_3 ++ dktX1_addParcel_4
def dkwX1_addParcel_2 : List UInt8 := [167, 0, 4, 3, 184, 0, 115, 42, 180, 0, 19, 180, 0, 107, 182, 0, 55, 16, 8, 162, 0, 7, 4]
abbrev dktX1_addParcel_2 : List UInt8 := dkwX1_addParcel_2 ++ dktX1_addParcel_3
def dkwX1_addParcel_1 : List UInt8 := [159, 0, 27, 29, 4, 8, 184, 0, 80, 153, 0, 18, 21, 4, 4, 16, 9, 184, 0, 80, 153, 0, 7, 4]
abbrev dktX1_addParcel_1 : List UInt8 := dkwX1_addParcel_1 ++ dktX1_addParcel_2
def dkwX1_addParcel_0 : List UInt8 := [27, 184, 0, 112, 153, 0, 14, 28, 184, 0, 112, 153, 0, 7, 4, 167, 0, 4, 3, 184, 0, 91, 27, 28]
abbrev dktX1_addParcel_0 : List UInt8 := dkwX1_addParcel_0 ++ dktX1_addParcel_1
theorem dksX1_addParcel_0 : cX1_addParcel.data.toList.drop 0 = dktX1_addParcel_0 := by decide +kernel
theorem dksX1_addParcel_1 : cX1_addParcel.data.toList.drop 24 = dktX1_addParcel_1 := dk_seg dksX1_addParcel_0 24 rfl rfl
theorem dksX1_addParcel_2 : cX1_addParcel.data.toList.drop 48 = dktX1_addParcel_2 := dk_seg dksX1_addParcel_1 24 rfl rfl
theorem dksX1_addParcel_3 : cX1_addParcel.data.toList.drop 71 = dktX1_addParcel_3 := dk_seg dksX1_addParcel_2 23 rfl rfl
theorem dksX1_addParcel_4 : cX1_addParcel.data.toList.drop 94 = dktX1_addParcel_4 := dk_seg dksX1_addParcel_3 23 rfl rfl
theorem dksX1_addParcel_5 : cX1_addParcel.data.toList.drop 116 = dktX1_addParcel_5 := dk_seg dksX1_addParcel_4 22 rfl rfl
theorem dX1_addParcel_0 : decode cX1_addParcel 0 = .ok (.iload_n 1, 1) := dk_27 (dk_at dksX1_addParcel_0 0 rfl rfl)
theorem dX1_addParcel_1 : decode cX1_addParcel 1 = .ok (.invokestatic 112, 3) := dk_184 0 112 (dk_at dksX1_addParcel_0 1 rfl rfl)
theorem dX1_addParcel_4 : decode cX1_addParcel 4 = .ok (.ifCond .eq 14, 3) := dk_153 0 14 (dk_at dksX1_addParcel_0 4 rfl rfl)
theorem dX1_addParcel_7 : decode cX1_addParcel 7 = .ok (.iload_n 2, 1) := dk_28 (dk_at dksX1_addParcel_0 7 rfl rfl)
theorem dX1_addParcel_8 : decode cX1_addParcel 8 = .ok (.invokestatic 112, 3) := dk_184 0 112 (dk_at dksX1_addParcel_0 8 rfl rfl)
theorem dX1_addParcel_11 : decode cX1_addParcel 11 = .ok (.ifCond .eq 7, 3) := dk_153 0 7 (dk_at dksX1_addParcel_0 11 rfl rfl)
theorem dX1_addParcel_14 : decode cX1_addParcel 14 = .ok (.iconst 1, 1) := dk_4 (dk_at dksX1_addParcel_0 14 rfl rfl)
theorem dX1_addParcel_15 : decode cX1_addParcel 15 = .ok (.goto 4, 3) := dk_167 0 4 (dk_at dksX1_addParcel_0 15 rfl rfl)
theorem dX1_addParcel_18 : decode cX1_addParcel 18 = .ok (.iconst 0, 1) := dk_3 (dk_at dksX1_addParcel_0 18 rfl rfl)
theorem dX1_addParcel_19 : decode cX1_addParcel 19 = .ok (.invokestatic 91, 3) := dk_184 0 91 (dk_at dksX1_addParcel_0 19 rfl rfl)
theorem dX1_addParcel_22 : decode cX1_addParcel 22 = .ok (.iload_n 1, 1) := dk_27 (dk_at dksX1_addParcel_0 22 rfl rfl)
theorem dX1_addParcel_23 : decode cX1_addParcel 23 = .ok (.iload_n 2, 1) := dk_28 (dk_at dksX1_addParcel_0 23 rfl rfl)
theorem dX1_addParcel_24 : decode cX1_addParcel 24 = .ok (.if_icmp .eq 27, 3) := dk_159 0 27 (dk_at dksX1_addParcel_1 0 rfl rfl)
theorem dX1_addParcel_27 : decode cX1_addParcel 27 = .ok (.iload_n 3, 1) := dk_29 (dk_at dksX1_addParcel_1 3 rfl rfl)
theorem dX1_addParcel_28 : decode cX1_addParcel 28 = .ok (.iconst 1, 1) := dk_4 (dk_at dksX1_addParcel_1 4 rfl rfl)
theorem dX1_addParcel_29 : decode cX1_addParcel 29 = .ok (.iconst 5, 1) := dk_8 (dk_at dksX1_addParcel_1 5 rfl rfl)
theorem dX1_addParcel_30 : decode cX1_addParcel 30 = .ok (.invokestatic 80, 3) := dk_184 0 80 (dk_at dksX1_addParcel_1 6 rfl rfl)
theorem dX1_addParcel_33 : decode cX1_addParcel 33 = .ok (.ifCond .eq 18, 3) := dk_153 0 18 (dk_at dksX1_addParcel_1 9 rfl rfl)
theorem dX1_addParcel_36 : decode cX1_addParcel 36 = .ok (.iload 4, 2) := dk_21 4 (dk_at dksX1_addParcel_1 12 rfl rfl)
theorem dX1_addParcel_38 : decode cX1_addParcel 38 = .ok (.iconst 1, 1) := dk_4 (dk_at dksX1_addParcel_1 14 rfl rfl)
theorem dX1_addParcel_39 : decode cX1_addParcel 39 = .ok (.bipush 9, 2) := dk_16 9 (dk_at dksX1_addParcel_1 15 rfl rfl)
theorem dX1_addParcel_41 : decode cX1_addParcel 41 = .ok (.invokestatic 80, 3) := dk_184 0 80 (dk_at dksX1_addParcel_1 17 rfl rfl)
theorem dX1_addParcel_44 : decode cX1_addParcel 44 = .ok (.ifCond .eq 7, 3) := dk_153 0 7 (dk_at dksX1_addParcel_1 20 rfl rfl)
theorem dX1_addParcel_47 : decode cX1_addParcel 47 = .ok (.iconst 1, 1) := dk_4 (dk_at dksX1_addParcel_1 23 rfl rfl)
theorem dX1_addParcel_48 : decode cX1_addParcel 48 = .ok (.goto 4, 3) := dk_167 0 4 (dk_at dksX1_addParcel_2 0 rfl rfl)
theorem dX1_addParcel_51 : decode cX1_addParcel 51 = .ok (.iconst 0, 1) := dk_3 (dk_at dksX1_addParcel_2 3 rfl rfl)
theorem dX1_addParcel_52 : decode cX1_addParcel 52 = .ok (.invokestatic 115, 3) := dk_184 0 115 (dk_at dksX1_addParcel_2 4 rfl rfl)
theorem dX1_addParcel_55 : decode cX1_addParcel 55 = .ok (.aload_n 0, 1) := dk_42 (dk_at dksX1_addParcel_2 7 rfl rfl)
theorem dX1_addParcel_56 : decode cX1_addParcel 56 = .ok (.getfield 19, 3) := dk_180 0 19 (dk_at dksX1_addParcel_2 8 rfl rfl)
theorem dX1_addParcel_59 : decode cX1_addParcel 59 = .ok (.getfield 107, 3) := dk_180 0 107 (dk_at dksX1_addParcel_2 11 rfl rfl)
theorem dX1_addParcel_62 : decode cX1_addParcel 62 = .ok (.invokevirtual 55, 3) := dk_182 0 55 (dk_at dksX1_addParcel_2 14 rfl rfl)
theorem dX1_addParcel_65 : decode cX1_addParcel 65 = .ok (.bipush 8, 2) := dk_16 8 (dk_at dksX1_addParcel_2 17 rfl rfl)
theorem dX1_addParcel_67 : decode cX1_addParcel 67 = .ok (.if_icmp .ge 7, 3) := dk_162 0 7 (dk_at dksX1_addParcel_2 19 rfl rfl)
theorem dX1_addParcel_70 : decode cX1_addParcel 70 = .ok (.iconst 1, 1) := dk_4 (dk_at dksX1_addParcel_2 22 rfl rfl)
theorem dX1_addParcel_71 : decode cX1_addParcel 71 = .ok (.goto 4, 3) := dk_167 0 4 (dk_at dksX1_addParcel_3 0 rfl rfl)
theorem dX1_addParcel_74 : decode cX1_addParcel 74 = .ok (.iconst 0, 1) := dk_3 (dk_at dksX1_addParcel_3 3 rfl rfl)
theorem dX1_addParcel_75 : decode cX1_addParcel 75 = .ok (.invokestatic 122, 3) := dk_184 0 122 (dk_at dksX1_addParcel_3 4 rfl rfl)
theorem dX1_addParcel_78 : decode cX1_addParcel 78 = .ok (.aload_n 0, 1) := dk_42 (dk_at dksX1_addParcel_3 7 rfl rfl)
theorem dX1_addParcel_79 : decode cX1_addParcel 79 = .ok (.invokevirtual 125, 3) := dk_182 0 125 (dk_at dksX1_addParcel_3 8 rfl rfl)
theorem dX1_addParcel_82 : decode cX1_addParcel 82 = .ok (.aload_n 0, 1) := dk_42 (dk_at dksX1_addParcel_3 11 rfl rfl)
theorem dX1_addParcel_83 : decode cX1_addParcel 83 = .ok (.getfield 19, 3) := dk_180 0 19 (dk_at dksX1_addParcel_3 12 rfl rfl)
theorem dX1_addParcel_86 : decode cX1_addParcel 86 = .ok (.getfield 107, 3) := dk_180 0 107 (dk_at dksX1_addParcel_3 15 rfl rfl)
theorem dX1_addParcel_89 : decode cX1_addParcel 89 = .ok (.new 110, 3) := dk_187 0 110 (dk_at dksX1_addParcel_3 18 rfl rfl)
theorem dX1_addParcel_92 : decode cX1_addParcel 92 = .ok (.dup, 1) := dk_89 (dk_at dksX1_addParcel_3 21 rfl rfl)
theorem dX1_addParcel_93 : decode cX1_addParcel 93 = .ok (.aload_n 0, 1) := dk_42 (dk_at dksX1_addParcel_3 22 rfl rfl)
theorem dX1_addParcel_94 : decode cX1_addParcel 94 = .ok (.getfield 19, 3) := dk_180 0 19 (dk_at dksX1_addParcel_4 0 rfl rfl)
theorem dX1_addParcel_97 : decode cX1_addParcel 97 = .ok (.getfield 107, 3) := dk_180 0 107 (dk_at dksX1_addParcel_4 3 rfl rfl)
theorem dX1_addParcel_100 : decode cX1_addParcel 100 = .ok (.invokevirtual 55, 3) := dk_182 0 55 (dk_at dksX1_addParcel_4 6 rfl rfl)
theorem dX1_addParcel_103 : decode cX1_addParcel 103 = .ok (.iload_n 1, 1) := dk_27 (dk_at dksX1_addParcel_4 9 rfl rfl)
theorem dX1_addParcel_104 : decode cX1_addParcel 104 = .ok (.iload_n 2, 1) := dk_28 (dk_at dksX1_addParcel_4 10 rfl rfl)
theorem dX1_addParcel_105 : decode cX1_addParcel 105 = .ok (.iload_n 3, 1) := dk_29 (dk_at dksX1_addParcel_4 11 rfl rfl)
theorem dX1_addParcel_106 : decode cX1_addParcel 106 = .ok (.iload 4, 2) := dk_21 4 (dk_at dksX1_addParcel_4 12 rfl rfl)
theorem dX1_addParcel_108 : decode cX1_addParcel 108 = .ok (.invokespecial 174, 3) := dk_183 0 174 (dk_at dksX1_addParcel_4 14 rfl rfl)
theorem dX1_addParcel_111 : decode cX1_addParcel 111 = .ok (.invokevirtual 67, 3) := dk_182 0 67 (dk_at dksX1_addParcel_4 17 rfl rfl)
theorem dX1_addParcel_114 : decode cX1_addParcel 114 = .ok (.pop, 1) := dk_87 (dk_at dksX1_addParcel_4 20 rfl rfl)
theorem dX1_addParcel_115 : decode cX1_addParcel 115 = .ok (.aload_n 0, 1) := dk_42 (dk_at dksX1_addParcel_4 21 rfl rfl)
theorem dX1_addParcel_116 : decode cX1_addParcel 116 = .ok (.getfield 19, 3) := dk_180 0 19 (dk_at dksX1_addParcel_5 0 rfl rfl)
theorem dX1_addParcel_119 : decode cX1_addParcel 119 = .ok (.invokevirtual 52, 3) := dk_182 0 52 (dk_at dksX1_addParcel_5 3 rfl rfl)
theorem dX1_addParcel_122 : decode cX1_addParcel 122 = .ok (.aload_n 0, 1) := dk_42 (dk_at dksX1_addParcel_5 6 rfl rfl)
theorem dX1_addParcel_123 : decode cX1_addParcel 123 = .ok (.getfield 19, 3) := dk_180 0 19 (dk_at dksX1_addParcel_5 7 rfl rfl)
theorem dX1_addParcel_126 : decode cX1_addParcel 126 = .ok (.getfield 107, 3) := dk_180 0 107 (dk_at dksX1_addParcel_5 10 rfl rfl)
theorem dX1_addParcel_129 : decode cX1_addParcel 129 = .ok (.invokevirtual 55, 3) := dk_182 0 55 (dk_at dksX1_addParcel_5 13 rfl rfl)
theorem dX1_addParcel_132 : decode cX1_addParcel 132 = .ok (.iconst 1, 1) := dk_4 (dk_at dksX1_addParcel_5 16 rfl rfl)
theorem dX1_addParcel_133 : decode cX1_addParcel 133 = .ok (.isub, 1) := dk_100 (dk_at dksX1_addParcel_5 17 rfl rfl)
theorem dX1_addParcel_134 : decode cX1_addParcel 134 = .ok (.ireturn, 1) := dk_172 (dk_at dksX1_addParcel_5 18 rfl rfl)
abbrev cX1_setLimit : ByteArray := prog_1_method_23_code
def yX1_setLimit : MethodName := ⟨RX1, "setLimit", "(I)I"⟩
def dkwX1_setLimit_1 : List UInt8 := [180, 0, 19, 27, 181, 0, 177, 28, 172]
abbrev dktX1_setLimit_1 : List UInt8 := dkwX1_setLimit_1 ++ []
def dkwX1_setLimit_0 : List UInt8 := [27, 4, 16, 60, 184, 0, 80, 184, 0, 115, 42, 182, 0, 125, 42, 180, 0, 19, 180, 0, 177, 61, 42]
abbrev dktX1_setLimit_0 : List UInt8 := dkwX1_setLimit_0 ++ dktX1_setLimit_1
theorem dksX1_setLimit_0 : cX1_setLimit.data.toList.drop 0 = dktX1_setLimit_0 := by decide +kernel
theorem dksX1_setLimit_1 : cX1_setLimit.data.toList.drop 23 = dktX1_setLimit_1 := dk_seg dksX1_setLimit_0 23 rfl rfl
theorem dX1_setLimit_0 : decode cX1_setLimit 0 = .ok (.iload_n 1, 1) := dk_27 (dk_at dksX1_setLimit_0 0 rfl rfl)
theorem dX1_setLimit_1 : decode cX1_setLimit 1 = .ok (.iconst 1, 1) := dk_4 (dk_at dksX1_setLimit_0 1 rfl rfl)
theorem dX1_setLimit_2 : decode cX1_setLimit 2 = .ok (.bipush 60, 2) := dk_16 60 (dk_at dksX1_setLimit_0 2 rfl rfl)
theorem dX1_setLimit_4 : decode cX1_setLimit 4 = .ok (.invokestatic 80, 3) := dk_184 0 80 (dk_at dksX1_setLimit_0 4 rfl rfl)
theorem dX1_setLimit_7 : decode cX1_setLimit 7 = .ok (.invokestatic 115, 3) := dk_184 0 115 (dk_at dksX1_setLimit_0 7 rfl rfl)
theorem dX1_setLimit_10 : decode cX1_setLimit 10 = .ok (.aload_n 0, 1) := dk_42 (dk_at dksX1_setLimit_0 10 rfl rfl)
theorem dX1_setLimit_11 : decode cX1_setLimit 11 = .ok (.invokevirtual 125, 3) := dk_182 0 125 (dk_at dksX1_setLimit_0 11 rfl rfl)
theorem dX1_setLimit_14 : decode cX1_setLimit 14 = .ok (.aload_n 0, 1) := dk_42 (dk_at dksX1_setLimit_0 14 rfl rfl)
theorem dX1_setLimit_15 : decode cX1_setLimit 15 = .ok (.getfield 19, 3) := dk_180 0 19 (dk_at dksX1_setLimit_0 15 rfl rfl)
theorem dX1_setLimit_18 : decode cX1_setLimit 18 = .ok (.getfield 177, 3) := dk_180 0 177 (dk_at dksX1_setLimit_0 18 rfl rfl)
theorem dX1_setLimit_21 : decode cX1_setLimit 21 = .ok (.istore_n 2, 1) := dk_61 (dk_at dksX1_setLimit_0 21 rfl rfl)
theorem dX1_setLimit_22 : decode cX1_setLimit 22 = .ok (.aload_n 0, 1) := dk_42 (dk_at dksX1_setLimit_0 22 rfl rfl)
theorem dX1_setLimit_23 : decode cX1_setLimit 23 = .ok (.getfield 19, 3) := dk_180 0 19 (dk_at dksX1_setLimit_1 0 rfl rfl)
theorem dX1_setLimit_26 : decode cX1_setLimit 26 = .ok (.iload_n 1, 1) := dk_27 (dk_at dksX1_setLimit_1 3 rfl rfl)
theorem dX1_setLimit_27 : decode cX1_setLimit 27 = .ok (.putfield 177, 3) := dk_181 0 177 (dk_at dksX1_setLimit_1 4 rfl rfl)
theorem dX1_setLimit_30 : decode cX1_setLimit 30 = .ok (.iload_n 2, 1) := dk_28 (dk_at dksX1_setLimit_1 7 rfl rfl)
theorem dX1_setLimit_31 : decode cX1_setLimit 31 = .ok (.ireturn, 1) := dk_172 (dk_at dksX1_setLimit_1 8 rfl rfl)
abbrev cX1_order : ByteArray := prog_1_method_24_code
def yX1_order : MethodName := ⟨RX1, "order", "(II)I"⟩
def dkwX1_order_3 : List UInt8 := [192, 0, 98, 180, 0, 186, 172]
abbrev dktX1_order_3 : List UInt8 := dkwX1_order_3 ++ []
def dkwX1_order_2 : List UInt8 := [180, 0, 19, 180, 0, 103, 27, 50, 28, 181, 0, 183, 42, 180, 0, 19, 180, 0, 84, 28, 182, 0, 95]
abbrev dktX1_order_2 : List UInt8 := dkwX1_order_2 ++ dktX1_order_3
def dkwX1_order_1 : List UInt8 := [180, 0, 19, 27, 28, 182, 0, 180, 154, 0, 7, 4, 167, 0, 4, 3, 184, 0, 122, 42, 182, 0, 125, 42]
abbrev dktX1_order_1 : List UInt8 := dkwX1_order_1 ++ dktX1_order_2
def dkwX1_order_0 : List UInt8 := [27, 184, 0, 100, 153, 0, 15, 42, 28, 182, 0, 87, 153, 0, 7, 4, 167, 0, 4, 3, 184, 0, 91, 42]
abbrev dktX1_order_0 : List UInt8 := dkwX1_order_0 ++ dktX1_order_1
theorem dksX1_order_0 : cX1_order.data.toList.drop 0 = dktX1_order_0 := by decide +kernel
theorem dksX1_order_1 : cX1_order.data.toList.drop 24 = dktX1_order_1 := dk_seg dksX1_order_0 24 rfl rfl
theorem dksX1_order_2 : cX1_order.data.toList.drop 48 = dktX1_order_2 := dk_seg dksX1_order_1 24 rfl rfl
theorem dksX1_order_3 : cX1_order.data.toList.drop 71 = dktX1_order_3 := dk_seg dksX1_order_2 23 rfl rfl
theorem dX1_order_0 : decode cX1_order 0 = .ok (.iload_n 1, 1) := dk_27 (dk_at dksX1_order_0 0 rfl rfl)
theorem dX1_order_1 : decode cX1_order 1 = .ok (.invokestatic 100, 3) := dk_184 0 100 (dk_at dksX1_order_0 1 rfl rfl)
theorem dX1_order_4 : decode cX1_order 4 = .ok (.ifCond .eq 15, 3) := dk_153 0 15 (dk_at dksX1_order_0 4 rfl rfl)
theorem dX1_order_7 : decode cX1_order 7 = .ok (.aload_n 0, 1) := dk_42 (dk_at dksX1_order_0 7 rfl rfl)
theorem dX1_order_8 : decode cX1_order 8 = .ok (.iload_n 2, 1) := dk_28 (dk_at dksX1_order_0 8 rfl rfl)
theorem dX1_order_9 : decode cX1_order 9 = .ok (.invokevirtual 87, 3) := dk_182 0 87 (dk_at dksX1_order_0 9 rfl rfl)
theorem dX1_order_12 : decode cX1_order 12 = .ok (.ifCond .eq 7, 3) := dk_153 0 7 (dk_at dksX1_order_0 12 rfl rfl)
theorem dX1_order_15 : decode cX1_order 15 = .ok (.iconst 1, 1) := dk_4 (dk_at dksX1_order_0 15 rfl rfl)
theorem dX1_order_16 : decode cX1_order 16 = .ok (.goto 4, 3) := dk_167 0 4 (dk_at dksX1_order_0 16 rfl rfl)
theorem dX1_order_19 : decode cX1_order 19 = .ok (.iconst 0, 1) := dk_3 (dk_at dksX1_order_0 19 rfl rfl)
theorem dX1_order_20 : decode cX1_order 20 = .ok (.invokestatic 91, 3) := dk_184 0 91 (dk_at dksX1_order_0 20 rfl rfl)
theorem dX1_order_23 : decode cX1_order 23 = .ok (.aload_n 0, 1) := dk_42 (dk_at dksX1_order_0 23 rfl rfl)
theorem dX1_order_24 : decode cX1_order 24 = .ok (.getfield 19, 3) := dk_180 0 19 (dk_at dksX1_order_1 0 rfl rfl)
theorem dX1_order_27 : decode cX1_order 27 = .ok (.iload_n 1, 1) := dk_27 (dk_at dksX1_order_1 3 rfl rfl)
theorem dX1_order_28 : decode cX1_order 28 = .ok (.iload_n 2, 1) := dk_28 (dk_at dksX1_order_1 4 rfl rfl)
theorem dX1_order_29 : decode cX1_order 29 = .ok (.invokevirtual 180, 3) := dk_182 0 180 (dk_at dksX1_order_1 5 rfl rfl)
theorem dX1_order_32 : decode cX1_order 32 = .ok (.ifCond .ne 7, 3) := dk_154 0 7 (dk_at dksX1_order_1 8 rfl rfl)
theorem dX1_order_35 : decode cX1_order 35 = .ok (.iconst 1, 1) := dk_4 (dk_at dksX1_order_1 11 rfl rfl)
theorem dX1_order_36 : decode cX1_order 36 = .ok (.goto 4, 3) := dk_167 0 4 (dk_at dksX1_order_1 12 rfl rfl)
theorem dX1_order_39 : decode cX1_order 39 = .ok (.iconst 0, 1) := dk_3 (dk_at dksX1_order_1 15 rfl rfl)
theorem dX1_order_40 : decode cX1_order 40 = .ok (.invokestatic 122, 3) := dk_184 0 122 (dk_at dksX1_order_1 16 rfl rfl)
theorem dX1_order_43 : decode cX1_order 43 = .ok (.aload_n 0, 1) := dk_42 (dk_at dksX1_order_1 19 rfl rfl)
theorem dX1_order_44 : decode cX1_order 44 = .ok (.invokevirtual 125, 3) := dk_182 0 125 (dk_at dksX1_order_1 20 rfl rfl)
theorem dX1_order_47 : decode cX1_order 47 = .ok (.aload_n 0, 1) := dk_42 (dk_at dksX1_order_1 23 rfl rfl)
theorem dX1_order_48 : decode cX1_order 48 = .ok (.getfield 19, 3) := dk_180 0 19 (dk_at dksX1_order_2 0 rfl rfl)
theorem dX1_order_51 : decode cX1_order 51 = .ok (.getfield 103, 3) := dk_180 0 103 (dk_at dksX1_order_2 3 rfl rfl)
theorem dX1_order_54 : decode cX1_order 54 = .ok (.iload_n 1, 1) := dk_27 (dk_at dksX1_order_2 6 rfl rfl)
theorem dX1_order_55 : decode cX1_order 55 = .ok (.aaload, 1) := dk_50 (dk_at dksX1_order_2 7 rfl rfl)
theorem dX1_order_56 : decode cX1_order 56 = .ok (.iload_n 2, 1) := dk_28 (dk_at dksX1_order_2 8 rfl rfl)
theorem dX1_order_57 : decode cX1_order 57 = .ok (.putfield 183, 3) := dk_181 0 183 (dk_at dksX1_order_2 9 rfl rfl)
theorem dX1_order_60 : decode cX1_order 60 = .ok (.aload_n 0, 1) := dk_42 (dk_at dksX1_order_2 12 rfl rfl)
theorem dX1_order_61 : decode cX1_order 61 = .ok (.getfield 19, 3) := dk_180 0 19 (dk_at dksX1_order_2 13 rfl rfl)
theorem dX1_order_64 : decode cX1_order 64 = .ok (.getfield 84, 3) := dk_180 0 84 (dk_at dksX1_order_2 16 rfl rfl)
theorem dX1_order_67 : decode cX1_order 67 = .ok (.iload_n 2, 1) := dk_28 (dk_at dksX1_order_2 19 rfl rfl)
theorem dX1_order_68 : decode cX1_order 68 = .ok (.invokevirtual 95, 3) := dk_182 0 95 (dk_at dksX1_order_2 20 rfl rfl)
theorem dX1_order_71 : decode cX1_order 71 = .ok (.checkcast 98, 3) := dk_192 0 98 (dk_at dksX1_order_3 0 rfl rfl)
theorem dX1_order_74 : decode cX1_order 74 = .ok (.getfield 186, 3) := dk_180 0 186 (dk_at dksX1_order_3 3 rfl rfl)
theorem dX1_order_77 : decode cX1_order 77 = .ok (.ireturn, 1) := dk_172 (dk_at dksX1_order_3 6 rfl rfl)
abbrev cX1_takeBack : ByteArray := prog_1_method_25_code
def yX1_takeBack : MethodName := ⟨RX1, "takeBack", "(I)Z"⟩
def dkwX1_takeBack_1 : List UInt8 := [159, 0, 7, 4, 167, 0, 4, 3, 61, 42, 180, 0, 19, 180, 0, 103, 27, 50, 2, 181, 0, 183, 28, 172]
abbrev dktX1_takeBack_1 : List UInt8 := dkwX1_takeBack_1 ++ []
def dkwX1_takeBack_0 : List UInt8 := [42, 27, 182, 0, 145, 87, 42, 182, 0, 125, 42, 180, 0, 19, 180, 0, 103, 27, 50, 180, 0, 183, 2]
abbrev dktX1_takeBack_0 : List UInt8 := dkwX1_takeBack_0 ++ dktX1_takeBack_1
theorem dksX1_takeBack_0 : cX1_takeBack.data.toList.drop 0 = dktX1_takeBack_0 := by decide +kernel
theorem dksX1_takeBack_1 : cX1_takeBack.data.toList.drop 23 = dktX1_takeBack_1 := dk_seg dksX1_takeBack_0 23 rfl rfl
theorem dX1_takeBack_0 : decode cX1_takeBack 0 = .ok (.aload_n 0, 1) := dk_42 (dk_at dksX1_takeBack_0 0 rfl rfl)
theorem dX1_takeBack_1 : decode cX1_takeBack 1 = .ok (.iload_n 1, 1) := dk_27 (dk_at dksX1_takeBack_0 1 rfl rfl)
theorem dX1_takeBack_2 : decode cX1_takeBack 2 = .ok (.invokevirtual 145, 3) := dk_182 0 145 (dk_at dksX1_takeBack_0 2 rfl rfl)
theorem dX1_takeBack_5 : decode cX1_takeBack 5 = .ok (.pop, 1) := dk_87 (dk_at dksX1_takeBack_0 5 rfl rfl)
theorem dX1_takeBack_6 : decode cX1_takeBack 6 = .ok (.aload_n 0, 1) := dk_42 (dk_at dksX1_takeBack_0 6 rfl rfl)
theorem dX1_takeBack_7 : decode cX1_takeBack 7 = .ok (.invokevirtual 125, 3) := dk_182 0 125 (dk_at dksX1_takeBack_0 7 rfl rfl)
theorem dX1_takeBack_10 : decode cX1_takeBack 10 = .ok (.aload_n 0, 1) := dk_42 (dk_at dksX1_takeBack_0 10 rfl rfl)
theorem dX1_takeBack_11 : decode cX1_takeBack 11 = .ok (.getfield 19, 3) := dk_180 0 19 (dk_at dksX1_takeBack_0 11 rfl rfl)
theorem dX1_takeBack_14 : decode cX1_takeBack 14 = .ok (.getfield 103, 3) := dk_180 0 103 (dk_at dksX1_takeBack_0 14 rfl rfl)
theorem dX1_takeBack_17 : decode cX1_takeBack 17 = .ok (.iload_n 1, 1) := dk_27 (dk_at dksX1_takeBack_0 17 rfl rfl)
theorem dX1_takeBack_18 : decode cX1_takeBack 18 = .ok (.aaload, 1) := dk_50 (dk_at dksX1_takeBack_0 18 rfl rfl)
theorem dX1_takeBack_19 : decode cX1_takeBack 19 = .ok (.getfield 183, 3) := dk_180 0 183 (dk_at dksX1_takeBack_0 19 rfl rfl)
theorem dX1_takeBack_22 : decode cX1_takeBack 22 = .ok (.iconst (-1), 1) := dk_2 (dk_at dksX1_takeBack_0 22 rfl rfl)
theorem dX1_takeBack_23 : decode cX1_takeBack 23 = .ok (.if_icmp .eq 7, 3) := dk_159 0 7 (dk_at dksX1_takeBack_1 0 rfl rfl)
theorem dX1_takeBack_26 : decode cX1_takeBack 26 = .ok (.iconst 1, 1) := dk_4 (dk_at dksX1_takeBack_1 3 rfl rfl)
theorem dX1_takeBack_27 : decode cX1_takeBack 27 = .ok (.goto 4, 3) := dk_167 0 4 (dk_at dksX1_takeBack_1 4 rfl rfl)
theorem dX1_takeBack_30 : decode cX1_takeBack 30 = .ok (.iconst 0, 1) := dk_3 (dk_at dksX1_takeBack_1 7 rfl rfl)
theorem dX1_takeBack_31 : decode cX1_takeBack 31 = .ok (.istore_n 2, 1) := dk_61 (dk_at dksX1_takeBack_1 8 rfl rfl)
theorem dX1_takeBack_32 : decode cX1_takeBack 32 = .ok (.aload_n 0, 1) := dk_42 (dk_at dksX1_takeBack_1 9 rfl rfl)
theorem dX1_takeBack_33 : decode cX1_takeBack 33 = .ok (.getfield 19, 3) := dk_180 0 19 (dk_at dksX1_takeBack_1 10 rfl rfl)
theorem dX1_takeBack_36 : decode cX1_takeBack 36 = .ok (.getfield 103, 3) := dk_180 0 103 (dk_at dksX1_takeBack_1 13 rfl rfl)
theorem dX1_takeBack_39 : decode cX1_takeBack 39 = .ok (.iload_n 1, 1) := dk_27 (dk_at dksX1_takeBack_1 16 rfl rfl)
theorem dX1_takeBack_40 : decode cX1_takeBack 40 = .ok (.aaload, 1) := dk_50 (dk_at dksX1_takeBack_1 17 rfl rfl)
theorem dX1_takeBack_41 : decode cX1_takeBack 41 = .ok (.iconst (-1), 1) := dk_2 (dk_at dksX1_takeBack_1 18 rfl rfl)
theorem dX1_takeBack_42 : decode cX1_takeBack 42 = .ok (.putfield 183, 3) := dk_181 0 183 (dk_at dksX1_takeBack_1 19 rfl rfl)
theorem dX1_takeBack_45 : decode cX1_takeBack 45 = .ok (.iload_n 2, 1) := dk_28 (dk_at dksX1_takeBack_1 22 rfl rfl)
theorem dX1_takeBack_46 : decode cX1_takeBack 46 = .ok (.ireturn, 1) := dk_172 (dk_at dksX1_takeBack_1 23 rfl rfl)
abbrev cX1_turn : ByteArray := prog_1_method_26_code
def yX1_turn : MethodName := ⟨RX1, "turn", "()I"⟩
def dkwX1_turn_1 : List UInt8 := [180, 0, 19, 182, 0, 192, 172]
abbrev dktX1_turn_1 : List UInt8 := dkwX1_turn_1 ++ []
def dkwX1_turn_0 : List UInt8 := [42, 180, 0, 19, 182, 0, 189, 154, 0, 7, 4, 167, 0, 4, 3, 184, 0, 122, 42, 182, 0, 125, 42]
abbrev dktX1_turn_0 : List UInt8 := dkwX1_turn_0 ++ dktX1_turn_1
theorem dksX1_turn_0 : cX1_turn.data.toList.drop 0 = dktX1_turn_0 := by decide +kernel
theorem dksX1_turn_1 : cX1_turn.data.toList.drop 23 = dktX1_turn_1 := dk_seg dksX1_turn_0 23 rfl rfl
theorem dX1_turn_0 : decode cX1_turn 0 = .ok (.aload_n 0, 1) := dk_42 (dk_at dksX1_turn_0 0 rfl rfl)
theorem dX1_turn_1 : decode cX1_turn 1 = .ok (.getfield 19, 3) := dk_180 0 19 (dk_at dksX1_turn_0 1 rfl rfl)
theorem dX1_turn_4 : decode cX1_turn 4 = .ok (.invokevirtual 189, 3) := dk_182 0 189 (dk_at dksX1_turn_0 4 rfl rfl)
theorem dX1_turn_7 : decode cX1_turn 7 = .ok (.ifCond .ne 7, 3) := dk_154 0 7 (dk_at dksX1_turn_0 7 rfl rfl)
theorem dX1_turn_10 : decode cX1_turn 10 = .ok (.iconst 1, 1) := dk_4 (dk_at dksX1_turn_0 10 rfl rfl)
theorem dX1_turn_11 : decode cX1_turn 11 = .ok (.goto 4, 3) := dk_167 0 4 (dk_at dksX1_turn_0 11 rfl rfl)
theorem dX1_turn_14 : decode cX1_turn 14 = .ok (.iconst 0, 1) := dk_3 (dk_at dksX1_turn_0 14 rfl rfl)
theorem dX1_turn_15 : decode cX1_turn 15 = .ok (.invokestatic 122, 3) := dk_184 0 122 (dk_at dksX1_turn_0 15 rfl rfl)
theorem dX1_turn_18 : decode cX1_turn 18 = .ok (.aload_n 0, 1) := dk_42 (dk_at dksX1_turn_0 18 rfl rfl)
theorem dX1_turn_19 : decode cX1_turn 19 = .ok (.invokevirtual 125, 3) := dk_182 0 125 (dk_at dksX1_turn_0 19 rfl rfl)
theorem dX1_turn_22 : decode cX1_turn 22 = .ok (.aload_n 0, 1) := dk_42 (dk_at dksX1_turn_0 22 rfl rfl)
theorem dX1_turn_23 : decode cX1_turn 23 = .ok (.getfield 19, 3) := dk_180 0 19 (dk_at dksX1_turn_1 0 rfl rfl)
theorem dX1_turn_26 : decode cX1_turn 26 = .ok (.invokevirtual 192, 3) := dk_182 0 192 (dk_at dksX1_turn_1 3 rfl rfl)
theorem dX1_turn_29 : decode cX1_turn 29 = .ok (.ireturn, 1) := dk_172 (dk_at dksX1_turn_1 6 rfl rfl)
abbrev cX1_asPickedUp : ByteArray := prog_1_method_2_code
def yX1_asPickedUp : MethodName := ⟨RX1, "asPickedUp", "()Ljava/util/Comparator;"⟩
def dkwX1_asPickedUp_0 : List UInt8 := [187, 0, 1, 89, 183, 0, 3, 176]
abbrev dktX1_asPickedUp_0 : List UInt8 := dkwX1_asPickedUp_0 ++ []
theorem dksX1_asPickedUp_0 : cX1_asPickedUp.data.toList.drop 0 = dktX1_asPickedUp_0 := by decide +kernel
theorem dX1_asPickedUp_0 : decode cX1_asPickedUp 0 = .ok (.new 1, 3) := dk_187 0 1 (dk_at dksX1_asPickedUp_0 0 rfl rfl)
theorem dX1_asPickedUp_3 : decode cX1_asPickedUp 3 = .ok (.dup, 1) := dk_89 (dk_at dksX1_asPickedUp_0 3 rfl rfl)
theorem dX1_asPickedUp_4 : decode cX1_asPickedUp 4 = .ok (.invokespecial 3, 3) := dk_183 0 3 (dk_at dksX1_asPickedUp_0 4 rfl rfl)
theorem dX1_asPickedUp_7 : decode cX1_asPickedUp 7 = .ok (.areturn, 1) := dk_176 (dk_at dksX1_asPickedUp_0 7 rfl rfl)
abbrev cX1_append : ByteArray := prog_1_method_27_code
def yX1_append : MethodName := ⟨RX1, "append", "(I)I"⟩
def dkwX1_append_2 : List UInt8 := [172]
abbrev dktX1_append_2 : List UInt8 := dkwX1_append_2 ++ []
def dkwX1_append_1 : List UInt8 := [167, 0, 4, 3, 184, 0, 122, 42, 180, 0, 48, 27, 146, 182, 0, 198, 87, 42, 180, 0, 48, 182, 0, 195]
abbrev dktX1_append_1 : List UInt8 := dkwX1_append_1 ++ dktX1_append_2
def dkwX1_append_0 : List UInt8 := [27, 16, 33, 16, 126, 184, 0, 80, 184, 0, 115, 42, 180, 0, 48, 182, 0, 195, 16, 60, 162, 0, 7, 4]
abbrev dktX1_append_0 : List UInt8 := dkwX1_append_0 ++ dktX1_append_1
theorem dksX1_append_0 : cX1_append.data.toList.drop 0 = dktX1_append_0 := by decide +kernel
theorem dksX1_append_1 : cX1_append.data.toList.drop 24 = dktX1_append_1 := dk_seg dksX1_append_0 24 rfl rfl
theorem dksX1_append_2 : cX1_append.data.toList.drop 48 = dktX1_append_2 := dk_seg dksX1_append_1 24 rfl rfl
theorem dX1_append_0 : decode cX1_append 0 = .ok (.iload_n 1, 1) := dk_27 (dk_at dksX1_append_0 0 rfl rfl)
theorem dX1_append_1 : decode cX1_append 1 = .ok (.bipush 33, 2) := dk_16 33 (dk_at dksX1_append_0 1 rfl rfl)
theorem dX1_append_3 : decode cX1_append 3 = .ok (.bipush 126, 2) := dk_16 126 (dk_at dksX1_append_0 3 rfl rfl)
theorem dX1_append_5 : decode cX1_append 5 = .ok (.invokestatic 80, 3) := dk_184 0 80 (dk_at dksX1_append_0 5 rfl rfl)
theorem dX1_append_8 : decode cX1_append 8 = .ok (.invokestatic 115, 3) := dk_184 0 115 (dk_at dksX1_append_0 8 rfl rfl)
theorem dX1_append_11 : decode cX1_append 11 = .ok (.aload_n 0, 1) := dk_42 (dk_at dksX1_append_0 11 rfl rfl)
theorem dX1_append_12 : decode cX1_append 12 = .ok (.getfield 48, 3) := dk_180 0 48 (dk_at dksX1_append_0 12 rfl rfl)
theorem dX1_append_15 : decode cX1_append 15 = .ok (.invokevirtual 195, 3) := dk_182 0 195 (dk_at dksX1_append_0 15 rfl rfl)
theorem dX1_append_18 : decode cX1_append 18 = .ok (.bipush 60, 2) := dk_16 60 (dk_at dksX1_append_0 18 rfl rfl)
theorem dX1_append_20 : decode cX1_append 20 = .ok (.if_icmp .ge 7, 3) := dk_162 0 7 (dk_at dksX1_append_0 20 rfl rfl)
theorem dX1_append_23 : decode cX1_append 23 = .ok (.iconst 1, 1) := dk_4 (dk_at dksX1_append_0 23 rfl rfl)
theorem dX1_append_24 : decode cX1_append 24 = .ok (.goto 4, 3) := dk_167 0 4 (dk_at dksX1_append_1 0 rfl rfl)
theorem dX1_append_27 : decode cX1_append 27 = .ok (.iconst 0, 1) := dk_3 (dk_at dksX1_append_1 3 rfl rfl)
theorem dX1_append_28 : decode cX1_append 28 = .ok (.invokestatic 122, 3) := dk_184 0 122 (dk_at dksX1_append_1 4 rfl rfl)
theorem dX1_append_31 : decode cX1_append 31 = .ok (.aload_n 0, 1) := dk_42 (dk_at dksX1_append_1 7 rfl rfl)
theorem dX1_append_32 : decode cX1_append 32 = .ok (.getfield 48, 3) := dk_180 0 48 (dk_at dksX1_append_1 8 rfl rfl)
theorem dX1_append_35 : decode cX1_append 35 = .ok (.iload_n 1, 1) := dk_27 (dk_at dksX1_append_1 11 rfl rfl)
theorem dX1_append_36 : decode cX1_append 36 = .ok (.i2c, 1) := dk_146 (dk_at dksX1_append_1 12 rfl rfl)
theorem dX1_append_37 : decode cX1_append 37 = .ok (.invokevirtual 198, 3) := dk_182 0 198 (dk_at dksX1_append_1 13 rfl rfl)
theorem dX1_append_40 : decode cX1_append 40 = .ok (.pop, 1) := dk_87 (dk_at dksX1_append_1 16 rfl rfl)
theorem dX1_append_41 : decode cX1_append 41 = .ok (.aload_n 0, 1) := dk_42 (dk_at dksX1_append_1 17 rfl rfl)
theorem dX1_append_42 : decode cX1_append 42 = .ok (.getfield 48, 3) := dk_180 0 48 (dk_at dksX1_append_1 18 rfl rfl)
theorem dX1_append_45 : decode cX1_append 45 = .ok (.invokevirtual 195, 3) := dk_182 0 195 (dk_at dksX1_append_1 21 rfl rfl)
theorem dX1_append_48 : decode cX1_append 48 = .ok (.ireturn, 1) := dk_172 (dk_at dksX1_append_2 0 rfl rfl)
abbrev cX1_play : ByteArray := prog_1_method_32_code
def yX1_play : MethodName := ⟨RX1, "play", "()I"⟩
def dkwX1_play_5 : List UInt8 := [167, 0, 4, 2, 181, 0, 228, 42, 180, 0, 48, 3, 182, 0, 202, 28, 172]
abbrev dktX1_play_5 : List UInt8 := dkwX1_play_5 ++ []
def dkwX1_play_4 : List UInt8 := [182, 0, 224, 132, 2, 1, 167, 255, 178, 42, 180, 0, 19, 28, 43, 180, 0, 215, 162, 0, 7, 28]
abbrev dktX1_play_4 : List UInt8 := dkwX1_play_4 ++ dktX1_play_5
def dkwX1_play_3 : List UInt8 := [104, 46, 43, 180, 0, 218, 6, 28, 104, 4, 96, 46, 43, 180, 0, 218, 6, 28, 104, 5, 96, 46]
abbrev dktX1_play_3 : List UInt8 := dkwX1_play_3 ++ dktX1_play_4
def dkwX1_play_2 : List UInt8 := [46, 43, 180, 0, 218, 6, 28, 104, 5, 96, 46, 182, 0, 221, 153, 0, 41, 42, 43, 180, 0, 218, 6, 28]
abbrev dktX1_play_2 : List UInt8 := dkwX1_play_2 ++ dktX1_play_3
def dkwX1_play_1 : List UInt8 := [180, 0, 215, 162, 0, 76, 42, 43, 180, 0, 218, 6, 28, 104, 46, 43, 180, 0, 218, 6, 28, 104, 4, 96]
abbrev dktX1_play_1 : List UInt8 := dkwX1_play_1 ++ dktX1_play_2
def dkwX1_play_0 : List UInt8 := [187, 0, 205, 89, 42, 183, 0, 207, 76, 43, 182, 0, 210, 184, 0, 115, 42, 182, 0, 125, 3, 61, 28, 43]
abbrev dktX1_play_0 : List UInt8 := dkwX1_play_0 ++ dktX1_play_1
theorem dksX1_play_0 : cX1_play.data.toList.drop 0 = dktX1_play_0 := by decide +kernel
theorem dksX1_play_1 : cX1_play.data.toList.drop 24 = dktX1_play_1 := dk_seg dksX1_play_0 24 rfl rfl
theorem dksX1_play_2 : cX1_play.data.toList.drop 48 = dktX1_play_2 := dk_seg dksX1_play_1 24 rfl rfl
theorem dksX1_play_3 : cX1_play.data.toList.drop 72 = dktX1_play_3 := dk_seg dksX1_play_2 24 rfl rfl
theorem dksX1_play_4 : cX1_play.data.toList.drop 94 = dktX1_play_4 := dk_seg dksX1_play_3 22 rfl rfl
theorem dksX1_play_5 : cX1_play.data.toList.drop 116 = dktX1_play_5 := dk_seg dksX1_play_4 22 rfl rfl
theorem dX1_play_0 : decode cX1_play 0 = .ok (.new 205, 3) := dk_187 0 205 (dk_at dksX1_play_0 0 rfl rfl)
theorem dX1_play_3 : decode cX1_play 3 = .ok (.dup, 1) := dk_89 (dk_at dksX1_play_0 3 rfl rfl)
theorem dX1_play_4 : decode cX1_play 4 = .ok (.aload_n 0, 1) := dk_42 (dk_at dksX1_play_0 4 rfl rfl)
theorem dX1_play_5 : decode cX1_play 5 = .ok (.invokespecial 207, 3) := dk_183 0 207 (dk_at dksX1_play_0 5 rfl rfl)
theorem dX1_play_8 : decode cX1_play 8 = .ok (.astore_n 1, 1) := dk_76 (dk_at dksX1_play_0 8 rfl rfl)
theorem dX1_play_9 : decode cX1_play 9 = .ok (.aload_n 1, 1) := dk_43 (dk_at dksX1_play_0 9 rfl rfl)
theorem dX1_play_10 : decode cX1_play 10 = .ok (.invokevirtual 210, 3) := dk_182 0 210 (dk_at dksX1_play_0 10 rfl rfl)
theorem dX1_play_13 : decode cX1_play 13 = .ok (.invokestatic 115, 3) := dk_184 0 115 (dk_at dksX1_play_0 13 rfl rfl)
theorem dX1_play_16 : decode cX1_play 16 = .ok (.aload_n 0, 1) := dk_42 (dk_at dksX1_play_0 16 rfl rfl)
theorem dX1_play_17 : decode cX1_play 17 = .ok (.invokevirtual 125, 3) := dk_182 0 125 (dk_at dksX1_play_0 17 rfl rfl)
theorem dX1_play_20 : decode cX1_play 20 = .ok (.iconst 0, 1) := dk_3 (dk_at dksX1_play_0 20 rfl rfl)
theorem dX1_play_21 : decode cX1_play 21 = .ok (.istore_n 2, 1) := dk_61 (dk_at dksX1_play_0 21 rfl rfl)
theorem dX1_play_22 : decode cX1_play 22 = .ok (.iload_n 2, 1) := dk_28 (dk_at dksX1_play_0 22 rfl rfl)
theorem dX1_play_23 : decode cX1_play 23 = .ok (.aload_n 1, 1) := dk_43 (dk_at dksX1_play_0 23 rfl rfl)
theorem dX1_play_24 : decode cX1_play 24 = .ok (.getfield 215, 3) := dk_180 0 215 (dk_at dksX1_play_1 0 rfl rfl)
theorem dX1_play_27 : decode cX1_play 27 = .ok (.if_icmp .ge 76, 3) := dk_162 0 76 (dk_at dksX1_play_1 3 rfl rfl)
theorem dX1_play_30 : decode cX1_play 30 = .ok (.aload_n 0, 1) := dk_42 (dk_at dksX1_play_1 6 rfl rfl)
theorem dX1_play_31 : decode cX1_play 31 = .ok (.aload_n 1, 1) := dk_43 (dk_at dksX1_play_1 7 rfl rfl)
theorem dX1_play_32 : decode cX1_play 32 = .ok (.getfield 218, 3) := dk_180 0 218 (dk_at dksX1_play_1 8 rfl rfl)
theorem dX1_play_35 : decode cX1_play 35 = .ok (.iconst 3, 1) := dk_6 (dk_at dksX1_play_1 11 rfl rfl)
theorem dX1_play_36 : decode cX1_play 36 = .ok (.iload_n 2, 1) := dk_28 (dk_at dksX1_play_1 12 rfl rfl)
theorem dX1_play_37 : decode cX1_play 37 = .ok (.imul, 1) := dk_104 (dk_at dksX1_play_1 13 rfl rfl)
theorem dX1_play_38 : decode cX1_play 38 = .ok (.iaload, 1) := dk_46 (dk_at dksX1_play_1 14 rfl rfl)
theorem dX1_play_39 : decode cX1_play 39 = .ok (.aload_n 1, 1) := dk_43 (dk_at dksX1_play_1 15 rfl rfl)
theorem dX1_play_40 : decode cX1_play 40 = .ok (.getfield 218, 3) := dk_180 0 218 (dk_at dksX1_play_1 16 rfl rfl)
theorem dX1_play_43 : decode cX1_play 43 = .ok (.iconst 3, 1) := dk_6 (dk_at dksX1_play_1 19 rfl rfl)
theorem dX1_play_44 : decode cX1_play 44 = .ok (.iload_n 2, 1) := dk_28 (dk_at dksX1_play_1 20 rfl rfl)
theorem dX1_play_45 : decode cX1_play 45 = .ok (.imul, 1) := dk_104 (dk_at dksX1_play_1 21 rfl rfl)
theorem dX1_play_46 : decode cX1_play 46 = .ok (.iconst 1, 1) := dk_4 (dk_at dksX1_play_1 22 rfl rfl)
theorem dX1_play_47 : decode cX1_play 47 = .ok (.iadd, 1) := dk_96 (dk_at dksX1_play_1 23 rfl rfl)
theorem dX1_play_48 : decode cX1_play 48 = .ok (.iaload, 1) := dk_46 (dk_at dksX1_play_2 0 rfl rfl)
theorem dX1_play_49 : decode cX1_play 49 = .ok (.aload_n 1, 1) := dk_43 (dk_at dksX1_play_2 1 rfl rfl)
theorem dX1_play_50 : decode cX1_play 50 = .ok (.getfield 218, 3) := dk_180 0 218 (dk_at dksX1_play_2 2 rfl rfl)
theorem dX1_play_53 : decode cX1_play 53 = .ok (.iconst 3, 1) := dk_6 (dk_at dksX1_play_2 5 rfl rfl)
theorem dX1_play_54 : decode cX1_play 54 = .ok (.iload_n 2, 1) := dk_28 (dk_at dksX1_play_2 6 rfl rfl)
theorem dX1_play_55 : decode cX1_play 55 = .ok (.imul, 1) := dk_104 (dk_at dksX1_play_2 7 rfl rfl)
theorem dX1_play_56 : decode cX1_play 56 = .ok (.iconst 2, 1) := dk_5 (dk_at dksX1_play_2 8 rfl rfl)
theorem dX1_play_57 : decode cX1_play 57 = .ok (.iadd, 1) := dk_96 (dk_at dksX1_play_2 9 rfl rfl)
theorem dX1_play_58 : decode cX1_play 58 = .ok (.iaload, 1) := dk_46 (dk_at dksX1_play_2 10 rfl rfl)
theorem dX1_play_59 : decode cX1_play 59 = .ok (.invokevirtual 221, 3) := dk_182 0 221 (dk_at dksX1_play_2 11 rfl rfl)
theorem dX1_play_62 : decode cX1_play 62 = .ok (.ifCond .eq 41, 3) := dk_153 0 41 (dk_at dksX1_play_2 14 rfl rfl)
theorem dX1_play_65 : decode cX1_play 65 = .ok (.aload_n 0, 1) := dk_42 (dk_at dksX1_play_2 17 rfl rfl)
theorem dX1_play_66 : decode cX1_play 66 = .ok (.aload_n 1, 1) := dk_43 (dk_at dksX1_play_2 18 rfl rfl)
theorem dX1_play_67 : decode cX1_play 67 = .ok (.getfield 218, 3) := dk_180 0 218 (dk_at dksX1_play_2 19 rfl rfl)
theorem dX1_play_70 : decode cX1_play 70 = .ok (.iconst 3, 1) := dk_6 (dk_at dksX1_play_2 22 rfl rfl)
theorem dX1_play_71 : decode cX1_play 71 = .ok (.iload_n 2, 1) := dk_28 (dk_at dksX1_play_2 23 rfl rfl)
theorem dX1_play_72 : decode cX1_play 72 = .ok (.imul, 1) := dk_104 (dk_at dksX1_play_3 0 rfl rfl)
theorem dX1_play_73 : decode cX1_play 73 = .ok (.iaload, 1) := dk_46 (dk_at dksX1_play_3 1 rfl rfl)
theorem dX1_play_74 : decode cX1_play 74 = .ok (.aload_n 1, 1) := dk_43 (dk_at dksX1_play_3 2 rfl rfl)
theorem dX1_play_75 : decode cX1_play 75 = .ok (.getfield 218, 3) := dk_180 0 218 (dk_at dksX1_play_3 3 rfl rfl)
theorem dX1_play_78 : decode cX1_play 78 = .ok (.iconst 3, 1) := dk_6 (dk_at dksX1_play_3 6 rfl rfl)
theorem dX1_play_79 : decode cX1_play 79 = .ok (.iload_n 2, 1) := dk_28 (dk_at dksX1_play_3 7 rfl rfl)
theorem dX1_play_80 : decode cX1_play 80 = .ok (.imul, 1) := dk_104 (dk_at dksX1_play_3 8 rfl rfl)
theorem dX1_play_81 : decode cX1_play 81 = .ok (.iconst 1, 1) := dk_4 (dk_at dksX1_play_3 9 rfl rfl)
theorem dX1_play_82 : decode cX1_play 82 = .ok (.iadd, 1) := dk_96 (dk_at dksX1_play_3 10 rfl rfl)
theorem dX1_play_83 : decode cX1_play 83 = .ok (.iaload, 1) := dk_46 (dk_at dksX1_play_3 11 rfl rfl)
theorem dX1_play_84 : decode cX1_play 84 = .ok (.aload_n 1, 1) := dk_43 (dk_at dksX1_play_3 12 rfl rfl)
theorem dX1_play_85 : decode cX1_play 85 = .ok (.getfield 218, 3) := dk_180 0 218 (dk_at dksX1_play_3 13 rfl rfl)
theorem dX1_play_88 : decode cX1_play 88 = .ok (.iconst 3, 1) := dk_6 (dk_at dksX1_play_3 16 rfl rfl)
theorem dX1_play_89 : decode cX1_play 89 = .ok (.iload_n 2, 1) := dk_28 (dk_at dksX1_play_3 17 rfl rfl)
theorem dX1_play_90 : decode cX1_play 90 = .ok (.imul, 1) := dk_104 (dk_at dksX1_play_3 18 rfl rfl)
theorem dX1_play_91 : decode cX1_play 91 = .ok (.iconst 2, 1) := dk_5 (dk_at dksX1_play_3 19 rfl rfl)
theorem dX1_play_92 : decode cX1_play 92 = .ok (.iadd, 1) := dk_96 (dk_at dksX1_play_3 20 rfl rfl)
theorem dX1_play_93 : decode cX1_play 93 = .ok (.iaload, 1) := dk_46 (dk_at dksX1_play_3 21 rfl rfl)
theorem dX1_play_94 : decode cX1_play 94 = .ok (.invokevirtual 224, 3) := dk_182 0 224 (dk_at dksX1_play_4 0 rfl rfl)
theorem dX1_play_97 : decode cX1_play 97 = .ok (.iinc 2 1, 3) := dk_132 2 1 (dk_at dksX1_play_4 3 rfl rfl)
theorem dX1_play_100 : decode cX1_play 100 = .ok (.goto (-78), 3) := dk_167 255 178 (dk_at dksX1_play_4 6 rfl rfl)
theorem dX1_play_103 : decode cX1_play 103 = .ok (.aload_n 0, 1) := dk_42 (dk_at dksX1_play_4 9 rfl rfl)
theorem dX1_play_104 : decode cX1_play 104 = .ok (.getfield 19, 3) := dk_180 0 19 (dk_at dksX1_play_4 10 rfl rfl)
theorem dX1_play_107 : decode cX1_play 107 = .ok (.iload_n 2, 1) := dk_28 (dk_at dksX1_play_4 13 rfl rfl)
theorem dX1_play_108 : decode cX1_play 108 = .ok (.aload_n 1, 1) := dk_43 (dk_at dksX1_play_4 14 rfl rfl)
theorem dX1_play_109 : decode cX1_play 109 = .ok (.getfield 215, 3) := dk_180 0 215 (dk_at dksX1_play_4 15 rfl rfl)
theorem dX1_play_112 : decode cX1_play 112 = .ok (.if_icmp .ge 7, 3) := dk_162 0 7 (dk_at dksX1_play_4 18 rfl rfl)
theorem dX1_play_115 : decode cX1_play 115 = .ok (.iload_n 2, 1) := dk_28 (dk_at dksX1_play_4 21 rfl rfl)
theorem dX1_play_116 : decode cX1_play 116 = .ok (.goto 4, 3) := dk_167 0 4 (dk_at dksX1_play_5 0 rfl rfl)
theorem dX1_play_119 : decode cX1_play 119 = .ok (.iconst (-1), 1) := dk_2 (dk_at dksX1_play_5 3 rfl rfl)
theorem dX1_play_120 : decode cX1_play 120 = .ok (.putfield 228, 3) := dk_181 0 228 (dk_at dksX1_play_5 4 rfl rfl)
theorem dX1_play_123 : decode cX1_play 123 = .ok (.aload_n 0, 1) := dk_42 (dk_at dksX1_play_5 7 rfl rfl)
theorem dX1_play_124 : decode cX1_play 124 = .ok (.getfield 48, 3) := dk_180 0 48 (dk_at dksX1_play_5 8 rfl rfl)
theorem dX1_play_127 : decode cX1_play 127 = .ok (.iconst 0, 1) := dk_3 (dk_at dksX1_play_5 11 rfl rfl)
theorem dX1_play_128 : decode cX1_play 128 = .ok (.invokevirtual 202, 3) := dk_182 0 202 (dk_at dksX1_play_5 12 rfl rfl)
theorem dX1_play_131 : decode cX1_play 131 = .ok (.iload_n 2, 1) := dk_28 (dk_at dksX1_play_5 15 rfl rfl)
theorem dX1_play_132 : decode cX1_play 132 = .ok (.ireturn, 1) := dk_172 (dk_at dksX1_play_5 16 rfl rfl)
abbrev cX1_canDo : ByteArray := prog_1_method_30_code
def yX1_canDo : MethodName := ⟨RX1, "canDo", "(III)Z"⟩
def dkwX1_canDo_4 : List UInt8 := [4, 172]
abbrev dktX1_canDo_4 : List UInt8 := dkwX1_canDo_4 ++ []
def dkwX1_canDo_3 : List UInt8 := [3, 172, 42, 28, 182, 0, 87, 172, 42, 180, 0, 19, 182, 0, 189, 154, 0, 7, 4, 167, 0, 4, 3, 172]
abbrev dktX1_canDo_3 : List UInt8 := dkwX1_canDo_3 ++ dktX1_canDo_4
def dkwX1_canDo_2 : List UInt8 := [42, 29, 182, 0, 87, 153, 0, 19, 42, 180, 0, 19, 28, 29, 182, 0, 180, 154, 0, 7, 4, 167, 0, 4]
abbrev dktX1_canDo_2 : List UInt8 := dkwX1_canDo_2 ++ dktX1_canDo_3
def dkwX1_canDo_1 : List UInt8 := [171, 0, 0, 0, 0, 0, 83, 0, 0, 0, 3, 0, 0, 0, 111, 0, 0, 0, 35, 0, 0, 0, 114, 0, 0, 0, 67, 0, 0, 0, 116, 0, 0, 0, 61]
abbrev dktX1_canDo_1 : List UInt8 := dkwX1_canDo_1 ++ dktX1_canDo_2
def dkwX1_canDo_0 : List UInt8 := [27]
abbrev dktX1_canDo_0 : List UInt8 := dkwX1_canDo_0 ++ dktX1_canDo_1
theorem dksX1_canDo_0 : cX1_canDo.data.toList.drop 0 = dktX1_canDo_0 := by decide +kernel
theorem dksX1_canDo_1 : cX1_canDo.data.toList.drop 1 = dktX1_canDo_1 := dk_seg dksX1_canDo_0 1 rfl rfl
theorem dksX1_canDo_2 : cX1_canDo.data.toList.drop 36 = dktX1_canDo_2 := dk_seg dksX1_canDo_1 35 rfl rfl
theorem dksX1_canDo_3 : cX1_canDo.data.toList.drop 60 = dktX1_canDo_3 := dk_seg dksX1_canDo_2 24 rfl rfl
theorem dksX1_canDo_4 : cX1_canDo.data.toList.drop 84 = dktX1_canDo_4 := dk_seg dksX1_canDo_3 24 rfl rfl
theorem dX1_canDo_0 : decode cX1_canDo 0 = .ok (.iload_n 1, 1) := dk_27 (dk_at dksX1_canDo_0 0 rfl rfl)
theorem dX1_canDo_1 : decode cX1_canDo 1 = .ok (.lookupswitch 83 #[(111, 35), (114, 67), (116, 61)], 35) := by decide +kernel
theorem dX1_canDo_36 : decode cX1_canDo 36 = .ok (.aload_n 0, 1) := dk_42 (dk_at dksX1_canDo_2 0 rfl rfl)
theorem dX1_canDo_37 : decode cX1_canDo 37 = .ok (.iload_n 3, 1) := dk_29 (dk_at dksX1_canDo_2 1 rfl rfl)
theorem dX1_canDo_38 : decode cX1_canDo 38 = .ok (.invokevirtual 87, 3) := dk_182 0 87 (dk_at dksX1_canDo_2 2 rfl rfl)
theorem dX1_canDo_41 : decode cX1_canDo 41 = .ok (.ifCond .eq 19, 3) := dk_153 0 19 (dk_at dksX1_canDo_2 5 rfl rfl)
theorem dX1_canDo_44 : decode cX1_canDo 44 = .ok (.aload_n 0, 1) := dk_42 (dk_at dksX1_canDo_2 8 rfl rfl)
theorem dX1_canDo_45 : decode cX1_canDo 45 = .ok (.getfield 19, 3) := dk_180 0 19 (dk_at dksX1_canDo_2 9 rfl rfl)
theorem dX1_canDo_48 : decode cX1_canDo 48 = .ok (.iload_n 2, 1) := dk_28 (dk_at dksX1_canDo_2 12 rfl rfl)
theorem dX1_canDo_49 : decode cX1_canDo 49 = .ok (.iload_n 3, 1) := dk_29 (dk_at dksX1_canDo_2 13 rfl rfl)
theorem dX1_canDo_50 : decode cX1_canDo 50 = .ok (.invokevirtual 180, 3) := dk_182 0 180 (dk_at dksX1_canDo_2 14 rfl rfl)
theorem dX1_canDo_53 : decode cX1_canDo 53 = .ok (.ifCond .ne 7, 3) := dk_154 0 7 (dk_at dksX1_canDo_2 17 rfl rfl)
theorem dX1_canDo_56 : decode cX1_canDo 56 = .ok (.iconst 1, 1) := dk_4 (dk_at dksX1_canDo_2 20 rfl rfl)
theorem dX1_canDo_57 : decode cX1_canDo 57 = .ok (.goto 4, 3) := dk_167 0 4 (dk_at dksX1_canDo_2 21 rfl rfl)
theorem dX1_canDo_60 : decode cX1_canDo 60 = .ok (.iconst 0, 1) := dk_3 (dk_at dksX1_canDo_3 0 rfl rfl)
theorem dX1_canDo_61 : decode cX1_canDo 61 = .ok (.ireturn, 1) := dk_172 (dk_at dksX1_canDo_3 1 rfl rfl)
theorem dX1_canDo_62 : decode cX1_canDo 62 = .ok (.aload_n 0, 1) := dk_42 (dk_at dksX1_canDo_3 2 rfl rfl)
theorem dX1_canDo_63 : decode cX1_canDo 63 = .ok (.iload_n 2, 1) := dk_28 (dk_at dksX1_canDo_3 3 rfl rfl)
theorem dX1_canDo_64 : decode cX1_canDo 64 = .ok (.invokevirtual 87, 3) := dk_182 0 87 (dk_at dksX1_canDo_3 4 rfl rfl)
theorem dX1_canDo_67 : decode cX1_canDo 67 = .ok (.ireturn, 1) := dk_172 (dk_at dksX1_canDo_3 7 rfl rfl)
theorem dX1_canDo_68 : decode cX1_canDo 68 = .ok (.aload_n 0, 1) := dk_42 (dk_at dksX1_canDo_3 8 rfl rfl)
theorem dX1_canDo_69 : decode cX1_canDo 69 = .ok (.getfield 19, 3) := dk_180 0 19 (dk_at dksX1_canDo_3 9 rfl rfl)
theorem dX1_canDo_72 : decode cX1_canDo 72 = .ok (.invokevirtual 189, 3) := dk_182 0 189 (dk_at dksX1_canDo_3 12 rfl rfl)
theorem dX1_canDo_75 : decode cX1_canDo 75 = .ok (.ifCond .ne 7, 3) := dk_154 0 7 (dk_at dksX1_canDo_3 15 rfl rfl)
theorem dX1_canDo_78 : decode cX1_canDo 78 = .ok (.iconst 1, 1) := dk_4 (dk_at dksX1_canDo_3 18 rfl rfl)
theorem dX1_canDo_79 : decode cX1_canDo 79 = .ok (.goto 4, 3) := dk_167 0 4 (dk_at dksX1_canDo_3 19 rfl rfl)
theorem dX1_canDo_82 : decode cX1_canDo 82 = .ok (.iconst 0, 1) := dk_3 (dk_at dksX1_canDo_3 22 rfl rfl)
theorem dX1_canDo_83 : decode cX1_canDo 83 = .ok (.ireturn, 1) := dk_172 (dk_at dksX1_canDo_3 23 rfl rfl)
theorem dX1_canDo_84 : decode cX1_canDo 84 = .ok (.iconst 1, 1) := dk_4 (dk_at dksX1_canDo_4 0 rfl rfl)
theorem dX1_canDo_85 : decode cX1_canDo 85 = .ok (.ireturn, 1) := dk_172 (dk_at dksX1_canDo_4 1 rfl rfl)
abbrev cX1_act : ByteArray := prog_1_method_31_code
def yX1_act : MethodName := ⟨RX1, "act", "(III)V"⟩
def dkwX1_act_4 : List UInt8 := [182, 0, 192, 87, 177]
abbrev dktX1_act_4 : List UInt8 := dkwX1_act_4 ++ []
def dkwX1_act_3 : List UInt8 := [50, 2, 181, 0, 183, 167, 0, 23, 42, 180, 0, 19, 28, 182, 0, 135, 87, 167, 0, 11, 42, 180, 0, 19]
abbrev dktX1_act_3 : List UInt8 := dkwX1_act_3 ++ dktX1_act_4
def dkwX1_act_2 : List UInt8 := [42, 180, 0, 19, 180, 0, 103, 28, 50, 29, 181, 0, 183, 167, 0, 39, 42, 180, 0, 19, 180, 0, 103, 28]
abbrev dktX1_act_2 : List UInt8 := dkwX1_act_2 ++ dktX1_act_3
def dkwX1_act_1 : List UInt8 := [171, 0, 0, 0, 0, 0, 79, 0, 0, 0, 3, 0, 0, 0, 111, 0, 0, 0, 35, 0, 0, 0, 115, 0, 0, 0, 51, 0, 0, 0, 116, 0, 0, 0, 67]
abbrev dktX1_act_1 : List UInt8 := dkwX1_act_1 ++ dktX1_act_2
def dkwX1_act_0 : List UInt8 := [27]
abbrev dktX1_act_0 : List UInt8 := dkwX1_act_0 ++ dktX1_act_1
theorem dksX1_act_0 : cX1_act.data.toList.drop 0 = dktX1_act_0 := by decide +kernel
theorem dksX1_act_1 : cX1_act.data.toList.drop 1 = dktX1_act_1 := dk_seg dksX1_act_0 1 rfl rfl
theorem dksX1_act_2 : cX1_act.data.toList.drop 36 = dktX1_act_2 := dk_seg dksX1_act_1 35 rfl rfl
theorem dksX1_act_3 : cX1_act.data.toList.drop 60 = dktX1_act_3 := dk_seg dksX1_act_2 24 rfl rfl
theorem dksX1_act_4 : cX1_act.data.toList.drop 84 = dktX1_act_4 := dk_seg dksX1_act_3 24 rfl rfl
theorem dX1_act_0 : decode cX1_act 0 = .ok (.iload_n 1, 1) := dk_27 (dk_at dksX1_act_0 0 rfl rfl)
theorem dX1_act_1 : decode cX1_act 1 = .ok (.lookupswitch 79 #[(111, 35), (115, 51), (116, 67)], 35) := by decide +kernel
theorem dX1_act_36 : decode cX1_act 36 = .ok (.aload_n 0, 1) := dk_42 (dk_at dksX1_act_2 0 rfl rfl)
theorem dX1_act_37 : decode cX1_act 37 = .ok (.getfield 19, 3) := dk_180 0 19 (dk_at dksX1_act_2 1 rfl rfl)
theorem dX1_act_40 : decode cX1_act 40 = .ok (.getfield 103, 3) := dk_180 0 103 (dk_at dksX1_act_2 4 rfl rfl)
theorem dX1_act_43 : decode cX1_act 43 = .ok (.iload_n 2, 1) := dk_28 (dk_at dksX1_act_2 7 rfl rfl)
theorem dX1_act_44 : decode cX1_act 44 = .ok (.aaload, 1) := dk_50 (dk_at dksX1_act_2 8 rfl rfl)
theorem dX1_act_45 : decode cX1_act 45 = .ok (.iload_n 3, 1) := dk_29 (dk_at dksX1_act_2 9 rfl rfl)
theorem dX1_act_46 : decode cX1_act 46 = .ok (.putfield 183, 3) := dk_181 0 183 (dk_at dksX1_act_2 10 rfl rfl)
theorem dX1_act_49 : decode cX1_act 49 = .ok (.goto 39, 3) := dk_167 0 39 (dk_at dksX1_act_2 13 rfl rfl)
theorem dX1_act_52 : decode cX1_act 52 = .ok (.aload_n 0, 1) := dk_42 (dk_at dksX1_act_2 16 rfl rfl)
theorem dX1_act_53 : decode cX1_act 53 = .ok (.getfield 19, 3) := dk_180 0 19 (dk_at dksX1_act_2 17 rfl rfl)
theorem dX1_act_56 : decode cX1_act 56 = .ok (.getfield 103, 3) := dk_180 0 103 (dk_at dksX1_act_2 20 rfl rfl)
theorem dX1_act_59 : decode cX1_act 59 = .ok (.iload_n 2, 1) := dk_28 (dk_at dksX1_act_2 23 rfl rfl)
theorem dX1_act_60 : decode cX1_act 60 = .ok (.aaload, 1) := dk_50 (dk_at dksX1_act_3 0 rfl rfl)
theorem dX1_act_61 : decode cX1_act 61 = .ok (.iconst (-1), 1) := dk_2 (dk_at dksX1_act_3 1 rfl rfl)
theorem dX1_act_62 : decode cX1_act 62 = .ok (.putfield 183, 3) := dk_181 0 183 (dk_at dksX1_act_3 2 rfl rfl)
theorem dX1_act_65 : decode cX1_act 65 = .ok (.goto 23, 3) := dk_167 0 23 (dk_at dksX1_act_3 5 rfl rfl)
theorem dX1_act_68 : decode cX1_act 68 = .ok (.aload_n 0, 1) := dk_42 (dk_at dksX1_act_3 8 rfl rfl)
theorem dX1_act_69 : decode cX1_act 69 = .ok (.getfield 19, 3) := dk_180 0 19 (dk_at dksX1_act_3 9 rfl rfl)
theorem dX1_act_72 : decode cX1_act 72 = .ok (.iload_n 2, 1) := dk_28 (dk_at dksX1_act_3 12 rfl rfl)
theorem dX1_act_73 : decode cX1_act 73 = .ok (.invokevirtual 135, 3) := dk_182 0 135 (dk_at dksX1_act_3 13 rfl rfl)
theorem dX1_act_76 : decode cX1_act 76 = .ok (.pop, 1) := dk_87 (dk_at dksX1_act_3 16 rfl rfl)
theorem dX1_act_77 : decode cX1_act 77 = .ok (.goto 11, 3) := dk_167 0 11 (dk_at dksX1_act_3 17 rfl rfl)
theorem dX1_act_80 : decode cX1_act 80 = .ok (.aload_n 0, 1) := dk_42 (dk_at dksX1_act_3 20 rfl rfl)
theorem dX1_act_81 : decode cX1_act 81 = .ok (.getfield 19, 3) := dk_180 0 19 (dk_at dksX1_act_3 21 rfl rfl)
theorem dX1_act_84 : decode cX1_act 84 = .ok (.invokevirtual 192, 3) := dk_182 0 192 (dk_at dksX1_act_4 0 rfl rfl)
theorem dX1_act_87 : decode cX1_act 87 = .ok (.pop, 1) := dk_87 (dk_at dksX1_act_4 3 rfl rfl)
theorem dX1_act_88 : decode cX1_act 88 = .ok (.return_, 1) := dk_177 (dk_at dksX1_act_4 4 rfl rfl)
abbrev cX1_stoppedPart : ByteArray := prog_1_method_34_code
def yX1_stoppedPart : MethodName := ⟨RX1, "stoppedPart", "()I"⟩
def dkwX1_stoppedPart_1 : List UInt8 := [180, 0, 228, 172]
abbrev dktX1_stoppedPart_1 : List UInt8 := dkwX1_stoppedPart_1 ++ []
def dkwX1_stoppedPart_0 : List UInt8 := [42, 180, 0, 19, 180, 0, 228, 2, 159, 0, 7, 4, 167, 0, 4, 3, 184, 0, 122, 42, 180, 0, 19]
abbrev dktX1_stoppedPart_0 : List UInt8 := dkwX1_stoppedPart_0 ++ dktX1_stoppedPart_1
theorem dksX1_stoppedPart_0 : cX1_stoppedPart.data.toList.drop 0 = dktX1_stoppedPart_0 := by decide +kernel
theorem dksX1_stoppedPart_1 : cX1_stoppedPart.data.toList.drop 23 = dktX1_stoppedPart_1 := dk_seg dksX1_stoppedPart_0 23 rfl rfl
theorem dX1_stoppedPart_0 : decode cX1_stoppedPart 0 = .ok (.aload_n 0, 1) := dk_42 (dk_at dksX1_stoppedPart_0 0 rfl rfl)
theorem dX1_stoppedPart_1 : decode cX1_stoppedPart 1 = .ok (.getfield 19, 3) := dk_180 0 19 (dk_at dksX1_stoppedPart_0 1 rfl rfl)
theorem dX1_stoppedPart_4 : decode cX1_stoppedPart 4 = .ok (.getfield 228, 3) := dk_180 0 228 (dk_at dksX1_stoppedPart_0 4 rfl rfl)
theorem dX1_stoppedPart_7 : decode cX1_stoppedPart 7 = .ok (.iconst (-1), 1) := dk_2 (dk_at dksX1_stoppedPart_0 7 rfl rfl)
theorem dX1_stoppedPart_8 : decode cX1_stoppedPart 8 = .ok (.if_icmp .eq 7, 3) := dk_159 0 7 (dk_at dksX1_stoppedPart_0 8 rfl rfl)
theorem dX1_stoppedPart_11 : decode cX1_stoppedPart 11 = .ok (.iconst 1, 1) := dk_4 (dk_at dksX1_stoppedPart_0 11 rfl rfl)
theorem dX1_stoppedPart_12 : decode cX1_stoppedPart 12 = .ok (.goto 4, 3) := dk_167 0 4 (dk_at dksX1_stoppedPart_0 12 rfl rfl)
theorem dX1_stoppedPart_15 : decode cX1_stoppedPart 15 = .ok (.iconst 0, 1) := dk_3 (dk_at dksX1_stoppedPart_0 15 rfl rfl)
theorem dX1_stoppedPart_16 : decode cX1_stoppedPart 16 = .ok (.invokestatic 122, 3) := dk_184 0 122 (dk_at dksX1_stoppedPart_0 16 rfl rfl)
theorem dX1_stoppedPart_19 : decode cX1_stoppedPart 19 = .ok (.aload_n 0, 1) := dk_42 (dk_at dksX1_stoppedPart_0 19 rfl rfl)
theorem dX1_stoppedPart_20 : decode cX1_stoppedPart 20 = .ok (.getfield 19, 3) := dk_180 0 19 (dk_at dksX1_stoppedPart_0 20 rfl rfl)
theorem dX1_stoppedPart_23 : decode cX1_stoppedPart 23 = .ok (.getfield 228, 3) := dk_180 0 228 (dk_at dksX1_stoppedPart_1 0 rfl rfl)
theorem dX1_stoppedPart_26 : decode cX1_stoppedPart 26 = .ok (.ireturn, 1) := dk_172 (dk_at dksX1_stoppedPart_1 3 rfl rfl)
abbrev cX1_undo : ByteArray := prog_1_method_35_code
def yX1_undo : MethodName := ⟨RX1, "undo", "()I"⟩
def dkwX1_undo_2 : List UInt8 := [180, 0, 39, 182, 0, 55, 172]
abbrev dktX1_undo_2 : List UInt8 := dkwX1_undo_2 ++ []
def dkwX1_undo_1 : List UInt8 := [180, 0, 39, 42, 180, 0, 39, 182, 0, 55, 4, 100, 182, 0, 59, 192, 0, 16, 182, 0, 63, 87, 42]
abbrev dktX1_undo_1 : List UInt8 := dkwX1_undo_1 ++ dktX1_undo_2
def dkwX1_undo_0 : List UInt8 := [42, 180, 0, 39, 182, 0, 231, 154, 0, 7, 4, 167, 0, 4, 3, 184, 0, 122, 42, 180, 0, 19, 42]
abbrev dktX1_undo_0 : List UInt8 := dkwX1_undo_0 ++ dktX1_undo_1
theorem dksX1_undo_0 : cX1_undo.data.toList.drop 0 = dktX1_undo_0 := by decide +kernel
theorem dksX1_undo_1 : cX1_undo.data.toList.drop 23 = dktX1_undo_1 := dk_seg dksX1_undo_0 23 rfl rfl
theorem dksX1_undo_2 : cX1_undo.data.toList.drop 46 = dktX1_undo_2 := dk_seg dksX1_undo_1 23 rfl rfl
theorem dX1_undo_0 : decode cX1_undo 0 = .ok (.aload_n 0, 1) := dk_42 (dk_at dksX1_undo_0 0 rfl rfl)
theorem dX1_undo_1 : decode cX1_undo 1 = .ok (.getfield 39, 3) := dk_180 0 39 (dk_at dksX1_undo_0 1 rfl rfl)
theorem dX1_undo_4 : decode cX1_undo 4 = .ok (.invokevirtual 231, 3) := dk_182 0 231 (dk_at dksX1_undo_0 4 rfl rfl)
theorem dX1_undo_7 : decode cX1_undo 7 = .ok (.ifCond .ne 7, 3) := dk_154 0 7 (dk_at dksX1_undo_0 7 rfl rfl)
theorem dX1_undo_10 : decode cX1_undo 10 = .ok (.iconst 1, 1) := dk_4 (dk_at dksX1_undo_0 10 rfl rfl)
theorem dX1_undo_11 : decode cX1_undo 11 = .ok (.goto 4, 3) := dk_167 0 4 (dk_at dksX1_undo_0 11 rfl rfl)
theorem dX1_undo_14 : decode cX1_undo 14 = .ok (.iconst 0, 1) := dk_3 (dk_at dksX1_undo_0 14 rfl rfl)
theorem dX1_undo_15 : decode cX1_undo 15 = .ok (.invokestatic 122, 3) := dk_184 0 122 (dk_at dksX1_undo_0 15 rfl rfl)
theorem dX1_undo_18 : decode cX1_undo 18 = .ok (.aload_n 0, 1) := dk_42 (dk_at dksX1_undo_0 18 rfl rfl)
theorem dX1_undo_19 : decode cX1_undo 19 = .ok (.getfield 19, 3) := dk_180 0 19 (dk_at dksX1_undo_0 19 rfl rfl)
theorem dX1_undo_22 : decode cX1_undo 22 = .ok (.aload_n 0, 1) := dk_42 (dk_at dksX1_undo_0 22 rfl rfl)
theorem dX1_undo_23 : decode cX1_undo 23 = .ok (.getfield 39, 3) := dk_180 0 39 (dk_at dksX1_undo_1 0 rfl rfl)
theorem dX1_undo_26 : decode cX1_undo 26 = .ok (.aload_n 0, 1) := dk_42 (dk_at dksX1_undo_1 3 rfl rfl)
theorem dX1_undo_27 : decode cX1_undo 27 = .ok (.getfield 39, 3) := dk_180 0 39 (dk_at dksX1_undo_1 4 rfl rfl)
theorem dX1_undo_30 : decode cX1_undo 30 = .ok (.invokevirtual 55, 3) := dk_182 0 55 (dk_at dksX1_undo_1 7 rfl rfl)
theorem dX1_undo_33 : decode cX1_undo 33 = .ok (.iconst 1, 1) := dk_4 (dk_at dksX1_undo_1 10 rfl rfl)
theorem dX1_undo_34 : decode cX1_undo 34 = .ok (.isub, 1) := dk_100 (dk_at dksX1_undo_1 11 rfl rfl)
theorem dX1_undo_35 : decode cX1_undo 35 = .ok (.invokevirtual 59, 3) := dk_182 0 59 (dk_at dksX1_undo_1 12 rfl rfl)
theorem dX1_undo_38 : decode cX1_undo 38 = .ok (.checkcast 16, 3) := dk_192 0 16 (dk_at dksX1_undo_1 15 rfl rfl)
theorem dX1_undo_41 : decode cX1_undo 41 = .ok (.invokevirtual 63, 3) := dk_182 0 63 (dk_at dksX1_undo_1 18 rfl rfl)
theorem dX1_undo_44 : decode cX1_undo 44 = .ok (.pop, 1) := dk_87 (dk_at dksX1_undo_1 21 rfl rfl)
theorem dX1_undo_45 : decode cX1_undo 45 = .ok (.aload_n 0, 1) := dk_42 (dk_at dksX1_undo_1 22 rfl rfl)
theorem dX1_undo_46 : decode cX1_undo 46 = .ok (.getfield 39, 3) := dk_180 0 39 (dk_at dksX1_undo_2 0 rfl rfl)
theorem dX1_undo_49 : decode cX1_undo 49 = .ok (.invokevirtual 55, 3) := dk_182 0 55 (dk_at dksX1_undo_2 3 rfl rfl)
theorem dX1_undo_52 : decode cX1_undo 52 = .ok (.ireturn, 1) := dk_172 (dk_at dksX1_undo_2 6 rfl rfl)
abbrev cX1_restore : ByteArray := prog_1_method_37_code
def yX1_restore : MethodName := ⟨RX1, "restore", "()I"⟩
def dkwX1_restore_1 : List UInt8 := [180, 0, 234, 182, 0, 63, 180, 0, 237, 172]
abbrev dktX1_restore_1 : List UInt8 := dkwX1_restore_1 ++ []
def dkwX1_restore_0 : List UInt8 := [42, 180, 0, 234, 198, 0, 7, 4, 167, 0, 4, 3, 184, 0, 122, 42, 182, 0, 125, 42, 180, 0, 19, 42]
abbrev dktX1_restore_0 : List UInt8 := dkwX1_restore_0 ++ dktX1_restore_1
theorem dksX1_restore_0 : cX1_restore.data.toList.drop 0 = dktX1_restore_0 := by decide +kernel
theorem dksX1_restore_1 : cX1_restore.data.toList.drop 24 = dktX1_restore_1 := dk_seg dksX1_restore_0 24 rfl rfl
theorem dX1_restore_0 : decode cX1_restore 0 = .ok (.aload_n 0, 1) := dk_42 (dk_at dksX1_restore_0 0 rfl rfl)
theorem dX1_restore_1 : decode cX1_restore 1 = .ok (.getfield 234, 3) := dk_180 0 234 (dk_at dksX1_restore_0 1 rfl rfl)
theorem dX1_restore_4 : decode cX1_restore 4 = .ok (.ifnull 7, 3) := dk_198 0 7 (dk_at dksX1_restore_0 4 rfl rfl)
theorem dX1_restore_7 : decode cX1_restore 7 = .ok (.iconst 1, 1) := dk_4 (dk_at dksX1_restore_0 7 rfl rfl)
theorem dX1_restore_8 : decode cX1_restore 8 = .ok (.goto 4, 3) := dk_167 0 4 (dk_at dksX1_restore_0 8 rfl rfl)
theorem dX1_restore_11 : decode cX1_restore 11 = .ok (.iconst 0, 1) := dk_3 (dk_at dksX1_restore_0 11 rfl rfl)
theorem dX1_restore_12 : decode cX1_restore 12 = .ok (.invokestatic 122, 3) := dk_184 0 122 (dk_at dksX1_restore_0 12 rfl rfl)
theorem dX1_restore_15 : decode cX1_restore 15 = .ok (.aload_n 0, 1) := dk_42 (dk_at dksX1_restore_0 15 rfl rfl)
theorem dX1_restore_16 : decode cX1_restore 16 = .ok (.invokevirtual 125, 3) := dk_182 0 125 (dk_at dksX1_restore_0 16 rfl rfl)
theorem dX1_restore_19 : decode cX1_restore 19 = .ok (.aload_n 0, 1) := dk_42 (dk_at dksX1_restore_0 19 rfl rfl)
theorem dX1_restore_20 : decode cX1_restore 20 = .ok (.getfield 19, 3) := dk_180 0 19 (dk_at dksX1_restore_0 20 rfl rfl)
theorem dX1_restore_23 : decode cX1_restore 23 = .ok (.aload_n 0, 1) := dk_42 (dk_at dksX1_restore_0 23 rfl rfl)
theorem dX1_restore_24 : decode cX1_restore 24 = .ok (.getfield 234, 3) := dk_180 0 234 (dk_at dksX1_restore_1 0 rfl rfl)
theorem dX1_restore_27 : decode cX1_restore 27 = .ok (.invokevirtual 63, 3) := dk_182 0 63 (dk_at dksX1_restore_1 3 rfl rfl)
theorem dX1_restore_30 : decode cX1_restore 30 = .ok (.getfield 237, 3) := dk_180 0 237 (dk_at dksX1_restore_1 6 rfl rfl)
theorem dX1_restore_33 : decode cX1_restore 33 = .ok (.ireturn, 1) := dk_172 (dk_at dksX1_restore_1 9 rfl rfl)
abbrev cX1_fromOf : ByteArray := prog_1_method_40_code
def yX1_fromOf : MethodName := ⟨RX1, "fromOf", "(I)I"⟩
def dkwX1_fromOf_0 : List UInt8 := [42, 27, 182, 0, 131, 180, 0, 240, 172]
abbrev dktX1_fromOf_0 : List UInt8 := dkwX1_fromOf_0 ++ []
theorem dksX1_fromOf_0 : cX1_fromOf.data.toList.drop 0 = dktX1_fromOf_0 := by decide +kernel
theorem dX1_fromOf_0 : decode cX1_fromOf 0 = .ok (.aload_n 0, 1) := dk_42 (dk_at dksX1_fromOf_0 0 rfl rfl)
theorem dX1_fromOf_1 : decode cX1_fromOf 1 = .ok (.iload_n 1, 1) := dk_27 (dk_at dksX1_fromOf_0 1 rfl rfl)
theorem dX1_fromOf_2 : decode cX1_fromOf 2 = .ok (.invokevirtual 131, 3) := dk_182 0 131 (dk_at dksX1_fromOf_0 2 rfl rfl)
theorem dX1_fromOf_5 : decode cX1_fromOf 5 = .ok (.getfield 240, 3) := dk_180 0 240 (dk_at dksX1_fromOf_0 5 rfl rfl)
theorem dX1_fromOf_8 : decode cX1_fromOf 8 = .ok (.ireturn, 1) := dk_172 (dk_at dksX1_fromOf_0 8 rfl rfl)
abbrev cX1_toOf : ByteArray := prog_1_method_41_code
def yX1_toOf : MethodName := ⟨RX1, "toOf", "(I)I"⟩
def dkwX1_toOf_0 : List UInt8 := [42, 27, 182, 0, 131, 180, 0, 186, 172]
abbrev dktX1_toOf_0 : List UInt8 := dkwX1_toOf_0 ++ []
theorem dksX1_toOf_0 : cX1_toOf.data.toList.drop 0 = dktX1_toOf_0 := by decide +kernel
theorem dX1_toOf_0 : decode cX1_toOf 0 = .ok (.aload_n 0, 1) := dk_42 (dk_at dksX1_toOf_0 0 rfl rfl)
theorem dX1_toOf_1 : decode cX1_toOf 1 = .ok (.iload_n 1, 1) := dk_27 (dk_at dksX1_toOf_0 1 rfl rfl)
theorem dX1_toOf_2 : decode cX1_toOf 2 = .ok (.invokevirtual 131, 3) := dk_182 0 131 (dk_at dksX1_toOf_0 2 rfl rfl)
theorem dX1_toOf_5 : decode cX1_toOf 5 = .ok (.getfield 186, 3) := dk_180 0 186 (dk_at dksX1_toOf_0 5 rfl rfl)
theorem dX1_toOf_8 : decode cX1_toOf 8 = .ok (.ireturn, 1) := dk_172 (dk_at dksX1_toOf_0 8 rfl rfl)
abbrev cX1_isOpen : ByteArray := prog_1_method_42_code
def yX1_isOpen : MethodName := ⟨RX1, "isOpen", "(I)Z"⟩
def dkwX1_isOpen_0 : List UInt8 := [42, 27, 182, 0, 131, 180, 0, 243, 172]
abbrev dktX1_isOpen_0 : List UInt8 := dkwX1_isOpen_0 ++ []
theorem dksX1_isOpen_0 : cX1_isOpen.data.toList.drop 0 = dktX1_isOpen_0 := by decide +kernel
theorem dX1_isOpen_0 : decode cX1_isOpen 0 = .ok (.aload_n 0, 1) := dk_42 (dk_at dksX1_isOpen_0 0 rfl rfl)
theorem dX1_isOpen_1 : decode cX1_isOpen 1 = .ok (.iload_n 1, 1) := dk_27 (dk_at dksX1_isOpen_0 1 rfl rfl)
theorem dX1_isOpen_2 : decode cX1_isOpen 2 = .ok (.invokevirtual 131, 3) := dk_182 0 131 (dk_at dksX1_isOpen_0 2 rfl rfl)
theorem dX1_isOpen_5 : decode cX1_isOpen 5 = .ok (.getfield 243, 3) := dk_180 0 243 (dk_at dksX1_isOpen_0 5 rfl rfl)
theorem dX1_isOpen_8 : decode cX1_isOpen 8 = .ok (.ireturn, 1) := dk_172 (dk_at dksX1_isOpen_0 8 rfl rfl)
abbrev cX1_junctionOf : ByteArray := prog_1_method_43_code
def yX1_junctionOf : MethodName := ⟨RX1, "junctionOf", "(I)I"⟩
def dkwX1_junctionOf_0 : List UInt8 := [42, 27, 182, 0, 145, 180, 0, 247, 172]
abbrev dktX1_junctionOf_0 : List UInt8 := dkwX1_junctionOf_0 ++ []
theorem dksX1_junctionOf_0 : cX1_junctionOf.data.toList.drop 0 = dktX1_junctionOf_0 := by decide +kernel
theorem dX1_junctionOf_0 : decode cX1_junctionOf 0 = .ok (.aload_n 0, 1) := dk_42 (dk_at dksX1_junctionOf_0 0 rfl rfl)
theorem dX1_junctionOf_1 : decode cX1_junctionOf 1 = .ok (.iload_n 1, 1) := dk_27 (dk_at dksX1_junctionOf_0 1 rfl rfl)
theorem dX1_junctionOf_2 : decode cX1_junctionOf 2 = .ok (.invokevirtual 145, 3) := dk_182 0 145 (dk_at dksX1_junctionOf_0 2 rfl rfl)
theorem dX1_junctionOf_5 : decode cX1_junctionOf 5 = .ok (.getfield 247, 3) := dk_180 0 247 (dk_at dksX1_junctionOf_0 5 rfl rfl)
theorem dX1_junctionOf_8 : decode cX1_junctionOf 8 = .ok (.ireturn, 1) := dk_172 (dk_at dksX1_junctionOf_0 8 rfl rfl)
abbrev cX1_hasVan : ByteArray := prog_1_method_44_code
def yX1_hasVan : MethodName := ⟨RX1, "hasVan", "(I)Z"⟩
def dkwX1_hasVan_0 : List UInt8 := [42, 27, 182, 0, 145, 180, 0, 149, 182, 0, 155, 172]
abbrev dktX1_hasVan_0 : List UInt8 := dkwX1_hasVan_0 ++ []
theorem dksX1_hasVan_0 : cX1_hasVan.data.toList.drop 0 = dktX1_hasVan_0 := by decide +kernel
theorem dX1_hasVan_0 : decode cX1_hasVan 0 = .ok (.aload_n 0, 1) := dk_42 (dk_at dksX1_hasVan_0 0 rfl rfl)
theorem dX1_hasVan_1 : decode cX1_hasVan 1 = .ok (.iload_n 1, 1) := dk_27 (dk_at dksX1_hasVan_0 1 rfl rfl)
theorem dX1_hasVan_2 : decode cX1_hasVan 2 = .ok (.invokevirtual 145, 3) := dk_182 0 145 (dk_at dksX1_hasVan_0 2 rfl rfl)
theorem dX1_hasVan_5 : decode cX1_hasVan 5 = .ok (.getfield 149, 3) := dk_180 0 149 (dk_at dksX1_hasVan_0 5 rfl rfl)
theorem dX1_hasVan_8 : decode cX1_hasVan 8 = .ok (.invokevirtual 155, 3) := dk_182 0 155 (dk_at dksX1_hasVan_0 8 rfl rfl)
theorem dX1_hasVan_11 : decode cX1_hasVan 11 = .ok (.ireturn, 1) := dk_172 (dk_at dksX1_hasVan_0 11 rfl rfl)
abbrev cX1_loadOf : ByteArray := prog_1_method_45_code
def yX1_loadOf : MethodName := ⟨RX1, "loadOf", "(I)I"⟩
def dkwX1_loadOf_0 : List UInt8 := [42, 27, 182, 0, 145, 87, 42, 180, 0, 19, 27, 182, 0, 161, 172]
abbrev dktX1_loadOf_0 : List UInt8 := dkwX1_loadOf_0 ++ []
theorem dksX1_loadOf_0 : cX1_loadOf.data.toList.drop 0 = dktX1_loadOf_0 := by decide +kernel
theorem dX1_loadOf_0 : decode cX1_loadOf 0 = .ok (.aload_n 0, 1) := dk_42 (dk_at dksX1_loadOf_0 0 rfl rfl)
theorem dX1_loadOf_1 : decode cX1_loadOf 1 = .ok (.iload_n 1, 1) := dk_27 (dk_at dksX1_loadOf_0 1 rfl rfl)
theorem dX1_loadOf_2 : decode cX1_loadOf 2 = .ok (.invokevirtual 145, 3) := dk_182 0 145 (dk_at dksX1_loadOf_0 2 rfl rfl)
theorem dX1_loadOf_5 : decode cX1_loadOf 5 = .ok (.pop, 1) := dk_87 (dk_at dksX1_loadOf_0 5 rfl rfl)
theorem dX1_loadOf_6 : decode cX1_loadOf 6 = .ok (.aload_n 0, 1) := dk_42 (dk_at dksX1_loadOf_0 6 rfl rfl)
theorem dX1_loadOf_7 : decode cX1_loadOf 7 = .ok (.getfield 19, 3) := dk_180 0 19 (dk_at dksX1_loadOf_0 7 rfl rfl)
theorem dX1_loadOf_10 : decode cX1_loadOf 10 = .ok (.iload_n 1, 1) := dk_27 (dk_at dksX1_loadOf_0 10 rfl rfl)
theorem dX1_loadOf_11 : decode cX1_loadOf 11 = .ok (.invokevirtual 161, 3) := dk_182 0 161 (dk_at dksX1_loadOf_0 11 rfl rfl)
theorem dX1_loadOf_14 : decode cX1_loadOf 14 = .ok (.ireturn, 1) := dk_172 (dk_at dksX1_loadOf_0 14 rfl rfl)
abbrev cX1_hasOrder : ByteArray := prog_1_method_46_code
def yX1_hasOrder : MethodName := ⟨RX1, "hasOrder", "(I)Z"⟩
def dkwX1_hasOrder_0 : List UInt8 := [42, 27, 182, 0, 145, 180, 0, 183, 2, 159, 0, 7, 4, 167, 0, 4, 3, 172]
abbrev dktX1_hasOrder_0 : List UInt8 := dkwX1_hasOrder_0 ++ []
theorem dksX1_hasOrder_0 : cX1_hasOrder.data.toList.drop 0 = dktX1_hasOrder_0 := by decide +kernel
theorem dX1_hasOrder_0 : decode cX1_hasOrder 0 = .ok (.aload_n 0, 1) := dk_42 (dk_at dksX1_hasOrder_0 0 rfl rfl)
theorem dX1_hasOrder_1 : decode cX1_hasOrder 1 = .ok (.iload_n 1, 1) := dk_27 (dk_at dksX1_hasOrder_0 1 rfl rfl)
theorem dX1_hasOrder_2 : decode cX1_hasOrder 2 = .ok (.invokevirtual 145, 3) := dk_182 0 145 (dk_at dksX1_hasOrder_0 2 rfl rfl)
theorem dX1_hasOrder_5 : decode cX1_hasOrder 5 = .ok (.getfield 183, 3) := dk_180 0 183 (dk_at dksX1_hasOrder_0 5 rfl rfl)
theorem dX1_hasOrder_8 : decode cX1_hasOrder 8 = .ok (.iconst (-1), 1) := dk_2 (dk_at dksX1_hasOrder_0 8 rfl rfl)
theorem dX1_hasOrder_9 : decode cX1_hasOrder 9 = .ok (.if_icmp .eq 7, 3) := dk_159 0 7 (dk_at dksX1_hasOrder_0 9 rfl rfl)
theorem dX1_hasOrder_12 : decode cX1_hasOrder 12 = .ok (.iconst 1, 1) := dk_4 (dk_at dksX1_hasOrder_0 12 rfl rfl)
theorem dX1_hasOrder_13 : decode cX1_hasOrder 13 = .ok (.goto 4, 3) := dk_167 0 4 (dk_at dksX1_hasOrder_0 13 rfl rfl)
theorem dX1_hasOrder_16 : decode cX1_hasOrder 16 = .ok (.iconst 0, 1) := dk_3 (dk_at dksX1_hasOrder_0 16 rfl rfl)
theorem dX1_hasOrder_17 : decode cX1_hasOrder 17 = .ok (.ireturn, 1) := dk_172 (dk_at dksX1_hasOrder_0 17 rfl rfl)
abbrev cX1_orderOf : ByteArray := prog_1_method_47_code
def yX1_orderOf : MethodName := ⟨RX1, "orderOf", "(I)I"⟩
def dkwX1_orderOf_1 : List UInt8 := [180, 0, 183, 172]
abbrev dktX1_orderOf_1 : List UInt8 := dkwX1_orderOf_1 ++ []
def dkwX1_orderOf_0 : List UInt8 := [42, 27, 182, 0, 145, 77, 44, 180, 0, 183, 2, 159, 0, 7, 4, 167, 0, 4, 3, 184, 0, 122, 44]
abbrev dktX1_orderOf_0 : List UInt8 := dkwX1_orderOf_0 ++ dktX1_orderOf_1
theorem dksX1_orderOf_0 : cX1_orderOf.data.toList.drop 0 = dktX1_orderOf_0 := by decide +kernel
theorem dksX1_orderOf_1 : cX1_orderOf.data.toList.drop 23 = dktX1_orderOf_1 := dk_seg dksX1_orderOf_0 23 rfl rfl
theorem dX1_orderOf_0 : decode cX1_orderOf 0 = .ok (.aload_n 0, 1) := dk_42 (dk_at dksX1_orderOf_0 0 rfl rfl)
theorem dX1_orderOf_1 : decode cX1_orderOf 1 = .ok (.iload_n 1, 1) := dk_27 (dk_at dksX1_orderOf_0 1 rfl rfl)
theorem dX1_orderOf_2 : decode cX1_orderOf 2 = .ok (.invokevirtual 145, 3) := dk_182 0 145 (dk_at dksX1_orderOf_0 2 rfl rfl)
theorem dX1_orderOf_5 : decode cX1_orderOf 5 = .ok (.astore_n 2, 1) := dk_77 (dk_at dksX1_orderOf_0 5 rfl rfl)
theorem dX1_orderOf_6 : decode cX1_orderOf 6 = .ok (.aload_n 2, 1) := dk_44 (dk_at dksX1_orderOf_0 6 rfl rfl)
theorem dX1_orderOf_7 : decode cX1_orderOf 7 = .ok (.getfield 183, 3) := dk_180 0 183 (dk_at dksX1_orderOf_0 7 rfl rfl)
theorem dX1_orderOf_10 : decode cX1_orderOf 10 = .ok (.iconst (-1), 1) := dk_2 (dk_at dksX1_orderOf_0 10 rfl rfl)
theorem dX1_orderOf_11 : decode cX1_orderOf 11 = .ok (.if_icmp .eq 7, 3) := dk_159 0 7 (dk_at dksX1_orderOf_0 11 rfl rfl)
theorem dX1_orderOf_14 : decode cX1_orderOf 14 = .ok (.iconst 1, 1) := dk_4 (dk_at dksX1_orderOf_0 14 rfl rfl)
theorem dX1_orderOf_15 : decode cX1_orderOf 15 = .ok (.goto 4, 3) := dk_167 0 4 (dk_at dksX1_orderOf_0 15 rfl rfl)
theorem dX1_orderOf_18 : decode cX1_orderOf 18 = .ok (.iconst 0, 1) := dk_3 (dk_at dksX1_orderOf_0 18 rfl rfl)
theorem dX1_orderOf_19 : decode cX1_orderOf 19 = .ok (.invokestatic 122, 3) := dk_184 0 122 (dk_at dksX1_orderOf_0 19 rfl rfl)
theorem dX1_orderOf_22 : decode cX1_orderOf 22 = .ok (.aload_n 2, 1) := dk_44 (dk_at dksX1_orderOf_0 22 rfl rfl)
theorem dX1_orderOf_23 : decode cX1_orderOf 23 = .ok (.getfield 183, 3) := dk_180 0 183 (dk_at dksX1_orderOf_1 0 rfl rfl)
theorem dX1_orderOf_26 : decode cX1_orderOf 26 = .ok (.ireturn, 1) := dk_172 (dk_at dksX1_orderOf_1 3 rfl rfl)
abbrev cX1_movesOf : ByteArray := prog_1_method_48_code
def yX1_movesOf : MethodName := ⟨RX1, "movesOf", "(I)I"⟩
def dkwX1_movesOf_0 : List UInt8 := [42, 27, 182, 0, 145, 180, 0, 250, 172]
abbrev dktX1_movesOf_0 : List UInt8 := dkwX1_movesOf_0 ++ []
theorem dksX1_movesOf_0 : cX1_movesOf.data.toList.drop 0 = dktX1_movesOf_0 := by decide +kernel
theorem dX1_movesOf_0 : decode cX1_movesOf 0 = .ok (.aload_n 0, 1) := dk_42 (dk_at dksX1_movesOf_0 0 rfl rfl)
theorem dX1_movesOf_1 : decode cX1_movesOf 1 = .ok (.iload_n 1, 1) := dk_27 (dk_at dksX1_movesOf_0 1 rfl rfl)
theorem dX1_movesOf_2 : decode cX1_movesOf 2 = .ok (.invokevirtual 145, 3) := dk_182 0 145 (dk_at dksX1_movesOf_0 2 rfl rfl)
theorem dX1_movesOf_5 : decode cX1_movesOf 5 = .ok (.getfield 250, 3) := dk_180 0 250 (dk_at dksX1_movesOf_0 5 rfl rfl)
theorem dX1_movesOf_8 : decode cX1_movesOf 8 = .ok (.ireturn, 1) := dk_172 (dk_at dksX1_movesOf_0 8 rfl rfl)
abbrev cX1_outcomeOf : ByteArray := prog_1_method_49_code
def yX1_outcomeOf : MethodName := ⟨RX1, "outcomeOf", "(I)I"⟩
def dkwX1_outcomeOf_0 : List UInt8 := [42, 27, 182, 0, 145, 180, 0, 253, 172]
abbrev dktX1_outcomeOf_0 : List UInt8 := dkwX1_outcomeOf_0 ++ []
theorem dksX1_outcomeOf_0 : cX1_outcomeOf.data.toList.drop 0 = dktX1_outcomeOf_0 := by decide +kernel
theorem dX1_outcomeOf_0 : decode cX1_outcomeOf 0 = .ok (.aload_n 0, 1) := dk_42 (dk_at dksX1_outcomeOf_0 0 rfl rfl)
theorem dX1_outcomeOf_1 : decode cX1_outcomeOf 1 = .ok (.iload_n 1, 1) := dk_27 (dk_at dksX1_outcomeOf_0 1 rfl rfl)
theorem dX1_outcomeOf_2 : decode cX1_outcomeOf 2 = .ok (.invokevirtual 145, 3) := dk_182 0 145 (dk_at dksX1_outcomeOf_0 2 rfl rfl)
theorem dX1_outcomeOf_5 : decode cX1_outcomeOf 5 = .ok (.getfield 253, 3) := dk_180 0 253 (dk_at dksX1_outcomeOf_0 5 rfl rfl)
theorem dX1_outcomeOf_8 : decode cX1_outcomeOf 8 = .ok (.ireturn, 1) := dk_172 (dk_at dksX1_outcomeOf_0 8 rfl rfl)
abbrev cX1_isWaiting : ByteArray := prog_1_method_51_code
def yX1_isWaiting : MethodName := ⟨RX1, "isWaiting", "(I)Z"⟩
def dkwX1_isWaiting_0 : List UInt8 := [42, 27, 182, 1, 0, 182, 1, 4, 172]
abbrev dktX1_isWaiting_0 : List UInt8 := dkwX1_isWaiting_0 ++ []
theorem dksX1_isWaiting_0 : cX1_isWaiting.data.toList.drop 0 = dktX1_isWaiting_0 := by decide +kernel
theorem dX1_isWaiting_0 : decode cX1_isWaiting 0 = .ok (.aload_n 0, 1) := dk_42 (dk_at dksX1_isWaiting_0 0 rfl rfl)
theorem dX1_isWaiting_1 : decode cX1_isWaiting 1 = .ok (.iload_n 1, 1) := dk_27 (dk_at dksX1_isWaiting_0 1 rfl rfl)
theorem dX1_isWaiting_2 : decode cX1_isWaiting 2 = .ok (.invokevirtual 256, 3) := dk_182 1 0 (dk_at dksX1_isWaiting_0 2 rfl rfl)
theorem dX1_isWaiting_5 : decode cX1_isWaiting 5 = .ok (.invokevirtual 260, 3) := dk_182 1 4 (dk_at dksX1_isWaiting_0 5 rfl rfl)
theorem dX1_isWaiting_8 : decode cX1_isWaiting 8 = .ok (.ireturn, 1) := dk_172 (dk_at dksX1_isWaiting_0 8 rfl rfl)
abbrev cX1_parcelBy : ByteArray := prog_1_method_15_code
def yX1_parcelBy : MethodName := ⟨RX1, "parcelBy", "(I)LCourierClash$Parcel;"⟩
def dkwX1_parcelBy_1 : List UInt8 := [180, 0, 107, 27, 182, 0, 95, 192, 0, 110, 176]
abbrev dktX1_parcelBy_1 : List UInt8 := dkwX1_parcelBy_1 ++ []
def dkwX1_parcelBy_0 : List UInt8 := [27, 3, 42, 180, 0, 19, 180, 0, 107, 182, 0, 55, 4, 100, 184, 0, 80, 184, 0, 91, 42, 180, 0, 19]
abbrev dktX1_parcelBy_0 : List UInt8 := dkwX1_parcelBy_0 ++ dktX1_parcelBy_1
theorem dksX1_parcelBy_0 : cX1_parcelBy.data.toList.drop 0 = dktX1_parcelBy_0 := by decide +kernel
theorem dksX1_parcelBy_1 : cX1_parcelBy.data.toList.drop 24 = dktX1_parcelBy_1 := dk_seg dksX1_parcelBy_0 24 rfl rfl
theorem dX1_parcelBy_0 : decode cX1_parcelBy 0 = .ok (.iload_n 1, 1) := dk_27 (dk_at dksX1_parcelBy_0 0 rfl rfl)
theorem dX1_parcelBy_1 : decode cX1_parcelBy 1 = .ok (.iconst 0, 1) := dk_3 (dk_at dksX1_parcelBy_0 1 rfl rfl)
theorem dX1_parcelBy_2 : decode cX1_parcelBy 2 = .ok (.aload_n 0, 1) := dk_42 (dk_at dksX1_parcelBy_0 2 rfl rfl)
theorem dX1_parcelBy_3 : decode cX1_parcelBy 3 = .ok (.getfield 19, 3) := dk_180 0 19 (dk_at dksX1_parcelBy_0 3 rfl rfl)
theorem dX1_parcelBy_6 : decode cX1_parcelBy 6 = .ok (.getfield 107, 3) := dk_180 0 107 (dk_at dksX1_parcelBy_0 6 rfl rfl)
theorem dX1_parcelBy_9 : decode cX1_parcelBy 9 = .ok (.invokevirtual 55, 3) := dk_182 0 55 (dk_at dksX1_parcelBy_0 9 rfl rfl)
theorem dX1_parcelBy_12 : decode cX1_parcelBy 12 = .ok (.iconst 1, 1) := dk_4 (dk_at dksX1_parcelBy_0 12 rfl rfl)
theorem dX1_parcelBy_13 : decode cX1_parcelBy 13 = .ok (.isub, 1) := dk_100 (dk_at dksX1_parcelBy_0 13 rfl rfl)
theorem dX1_parcelBy_14 : decode cX1_parcelBy 14 = .ok (.invokestatic 80, 3) := dk_184 0 80 (dk_at dksX1_parcelBy_0 14 rfl rfl)
theorem dX1_parcelBy_17 : decode cX1_parcelBy 17 = .ok (.invokestatic 91, 3) := dk_184 0 91 (dk_at dksX1_parcelBy_0 17 rfl rfl)
theorem dX1_parcelBy_20 : decode cX1_parcelBy 20 = .ok (.aload_n 0, 1) := dk_42 (dk_at dksX1_parcelBy_0 20 rfl rfl)
theorem dX1_parcelBy_21 : decode cX1_parcelBy 21 = .ok (.getfield 19, 3) := dk_180 0 19 (dk_at dksX1_parcelBy_0 21 rfl rfl)
theorem dX1_parcelBy_24 : decode cX1_parcelBy 24 = .ok (.getfield 107, 3) := dk_180 0 107 (dk_at dksX1_parcelBy_1 0 rfl rfl)
theorem dX1_parcelBy_27 : decode cX1_parcelBy 27 = .ok (.iload_n 1, 1) := dk_27 (dk_at dksX1_parcelBy_1 3 rfl rfl)
theorem dX1_parcelBy_28 : decode cX1_parcelBy 28 = .ok (.invokevirtual 95, 3) := dk_182 0 95 (dk_at dksX1_parcelBy_1 4 rfl rfl)
theorem dX1_parcelBy_31 : decode cX1_parcelBy 31 = .ok (.checkcast 110, 3) := dk_192 0 110 (dk_at dksX1_parcelBy_1 7 rfl rfl)
theorem dX1_parcelBy_34 : decode cX1_parcelBy 34 = .ok (.areturn, 1) := dk_176 (dk_at dksX1_parcelBy_1 10 rfl rfl)
abbrev cX1_isDelivered : ByteArray := prog_1_method_52_code
def yX1_isDelivered : MethodName := ⟨RX1, "isDelivered", "(I)Z"⟩
def dkwX1_isDelivered_0 : List UInt8 := [42, 27, 182, 1, 0, 180, 1, 7, 172]
abbrev dktX1_isDelivered_0 : List UInt8 := dkwX1_isDelivered_0 ++ []
theorem dksX1_isDelivered_0 : cX1_isDelivered.data.toList.drop 0 = dktX1_isDelivered_0 := by decide +kernel
theorem dX1_isDelivered_0 : decode cX1_isDelivered 0 = .ok (.aload_n 0, 1) := dk_42 (dk_at dksX1_isDelivered_0 0 rfl rfl)
theorem dX1_isDelivered_1 : decode cX1_isDelivered 1 = .ok (.iload_n 1, 1) := dk_27 (dk_at dksX1_isDelivered_0 1 rfl rfl)
theorem dX1_isDelivered_2 : decode cX1_isDelivered 2 = .ok (.invokevirtual 256, 3) := dk_182 1 0 (dk_at dksX1_isDelivered_0 2 rfl rfl)
theorem dX1_isDelivered_5 : decode cX1_isDelivered 5 = .ok (.getfield 263, 3) := dk_180 1 7 (dk_at dksX1_isDelivered_0 5 rfl rfl)
theorem dX1_isDelivered_8 : decode cX1_isDelivered 8 = .ok (.ireturn, 1) := dk_172 (dk_at dksX1_isDelivered_0 8 rfl rfl)
abbrev cX1_courierOf : ByteArray := prog_1_method_53_code
def yX1_courierOf : MethodName := ⟨RX1, "courierOf", "(I)I"⟩
def dkwX1_courierOf_1 : List UInt8 := [180, 1, 10, 172]
abbrev dktX1_courierOf_1 : List UInt8 := dkwX1_courierOf_1 ++ []
def dkwX1_courierOf_0 : List UInt8 := [42, 27, 182, 1, 0, 77, 44, 182, 1, 4, 154, 0, 7, 4, 167, 0, 4, 3, 184, 0, 122, 44]
abbrev dktX1_courierOf_0 : List UInt8 := dkwX1_courierOf_0 ++ dktX1_courierOf_1
theorem dksX1_courierOf_0 : cX1_courierOf.data.toList.drop 0 = dktX1_courierOf_0 := by decide +kernel
theorem dksX1_courierOf_1 : cX1_courierOf.data.toList.drop 22 = dktX1_courierOf_1 := dk_seg dksX1_courierOf_0 22 rfl rfl
theorem dX1_courierOf_0 : decode cX1_courierOf 0 = .ok (.aload_n 0, 1) := dk_42 (dk_at dksX1_courierOf_0 0 rfl rfl)
theorem dX1_courierOf_1 : decode cX1_courierOf 1 = .ok (.iload_n 1, 1) := dk_27 (dk_at dksX1_courierOf_0 1 rfl rfl)
theorem dX1_courierOf_2 : decode cX1_courierOf 2 = .ok (.invokevirtual 256, 3) := dk_182 1 0 (dk_at dksX1_courierOf_0 2 rfl rfl)
theorem dX1_courierOf_5 : decode cX1_courierOf 5 = .ok (.astore_n 2, 1) := dk_77 (dk_at dksX1_courierOf_0 5 rfl rfl)
theorem dX1_courierOf_6 : decode cX1_courierOf 6 = .ok (.aload_n 2, 1) := dk_44 (dk_at dksX1_courierOf_0 6 rfl rfl)
theorem dX1_courierOf_7 : decode cX1_courierOf 7 = .ok (.invokevirtual 260, 3) := dk_182 1 4 (dk_at dksX1_courierOf_0 7 rfl rfl)
theorem dX1_courierOf_10 : decode cX1_courierOf 10 = .ok (.ifCond .ne 7, 3) := dk_154 0 7 (dk_at dksX1_courierOf_0 10 rfl rfl)
theorem dX1_courierOf_13 : decode cX1_courierOf 13 = .ok (.iconst 1, 1) := dk_4 (dk_at dksX1_courierOf_0 13 rfl rfl)
theorem dX1_courierOf_14 : decode cX1_courierOf 14 = .ok (.goto 4, 3) := dk_167 0 4 (dk_at dksX1_courierOf_0 14 rfl rfl)
theorem dX1_courierOf_17 : decode cX1_courierOf 17 = .ok (.iconst 0, 1) := dk_3 (dk_at dksX1_courierOf_0 17 rfl rfl)
theorem dX1_courierOf_18 : decode cX1_courierOf 18 = .ok (.invokestatic 122, 3) := dk_184 0 122 (dk_at dksX1_courierOf_0 18 rfl rfl)
theorem dX1_courierOf_21 : decode cX1_courierOf 21 = .ok (.aload_n 2, 1) := dk_44 (dk_at dksX1_courierOf_0 21 rfl rfl)
theorem dX1_courierOf_22 : decode cX1_courierOf 22 = .ok (.getfield 266, 3) := dk_180 1 10 (dk_at dksX1_courierOf_1 0 rfl rfl)
theorem dX1_courierOf_25 : decode cX1_courierOf 25 = .ok (.ireturn, 1) := dk_172 (dk_at dksX1_courierOf_1 3 rfl rfl)
abbrev cX1_placeOf : ByteArray := prog_1_method_54_code
def yX1_placeOf : MethodName := ⟨RX1, "placeOf", "(I)I"⟩
def dkwX1_placeOf_0 : List UInt8 := [42, 180, 0, 19, 42, 27, 182, 1, 0, 182, 1, 13, 172]
abbrev dktX1_placeOf_0 : List UInt8 := dkwX1_placeOf_0 ++ []
theorem dksX1_placeOf_0 : cX1_placeOf.data.toList.drop 0 = dktX1_placeOf_0 := by decide +kernel
theorem dX1_placeOf_0 : decode cX1_placeOf 0 = .ok (.aload_n 0, 1) := dk_42 (dk_at dksX1_placeOf_0 0 rfl rfl)
theorem dX1_placeOf_1 : decode cX1_placeOf 1 = .ok (.getfield 19, 3) := dk_180 0 19 (dk_at dksX1_placeOf_0 1 rfl rfl)
theorem dX1_placeOf_4 : decode cX1_placeOf 4 = .ok (.aload_n 0, 1) := dk_42 (dk_at dksX1_placeOf_0 4 rfl rfl)
theorem dX1_placeOf_5 : decode cX1_placeOf 5 = .ok (.iload_n 1, 1) := dk_27 (dk_at dksX1_placeOf_0 5 rfl rfl)
theorem dX1_placeOf_6 : decode cX1_placeOf 6 = .ok (.invokevirtual 256, 3) := dk_182 1 0 (dk_at dksX1_placeOf_0 6 rfl rfl)
theorem dX1_placeOf_9 : decode cX1_placeOf 9 = .ok (.invokevirtual 269, 3) := dk_182 1 13 (dk_at dksX1_placeOf_0 9 rfl rfl)
theorem dX1_placeOf_12 : decode cX1_placeOf 12 = .ok (.ireturn, 1) := dk_172 (dk_at dksX1_placeOf_0 12 rfl rfl)
abbrev cX1_pointsOf : ByteArray := prog_1_method_55_code
def yX1_pointsOf : MethodName := ⟨RX1, "pointsOf", "(I)I"⟩
def dkwX1_pointsOf_0 : List UInt8 := [27, 184, 1, 17, 42, 180, 0, 19, 180, 1, 20, 27, 46, 172]
abbrev dktX1_pointsOf_0 : List UInt8 := dkwX1_pointsOf_0 ++ []
theorem dksX1_pointsOf_0 : cX1_pointsOf.data.toList.drop 0 = dktX1_pointsOf_0 := by decide +kernel
theorem dX1_pointsOf_0 : decode cX1_pointsOf 0 = .ok (.iload_n 1, 1) := dk_27 (dk_at dksX1_pointsOf_0 0 rfl rfl)
theorem dX1_pointsOf_1 : decode cX1_pointsOf 1 = .ok (.invokestatic 273, 3) := dk_184 1 17 (dk_at dksX1_pointsOf_0 1 rfl rfl)
theorem dX1_pointsOf_4 : decode cX1_pointsOf 4 = .ok (.aload_n 0, 1) := dk_42 (dk_at dksX1_pointsOf_0 4 rfl rfl)
theorem dX1_pointsOf_5 : decode cX1_pointsOf 5 = .ok (.getfield 19, 3) := dk_180 0 19 (dk_at dksX1_pointsOf_0 5 rfl rfl)
theorem dX1_pointsOf_8 : decode cX1_pointsOf 8 = .ok (.getfield 276, 3) := dk_180 1 20 (dk_at dksX1_pointsOf_0 8 rfl rfl)
theorem dX1_pointsOf_11 : decode cX1_pointsOf 11 = .ok (.iload_n 1, 1) := dk_27 (dk_at dksX1_pointsOf_0 11 rfl rfl)
theorem dX1_pointsOf_12 : decode cX1_pointsOf 12 = .ok (.iaload, 1) := dk_46 (dk_at dksX1_pointsOf_0 12 rfl rfl)
theorem dX1_pointsOf_13 : decode cX1_pointsOf 13 = .ok (.ireturn, 1) := dk_172 (dk_at dksX1_pointsOf_0 13 rfl rfl)
abbrev cX1_needPlayer : ByteArray := prog_1_method_16_code
def yX1_needPlayer : MethodName := ⟨RX1, "needPlayer", "(I)V"⟩
def dkwX1_needPlayer_0 : List UInt8 := [26, 3, 4, 184, 0, 80, 184, 0, 91, 177]
abbrev dktX1_needPlayer_0 : List UInt8 := dkwX1_needPlayer_0 ++ []
theorem dksX1_needPlayer_0 : cX1_needPlayer.data.toList.drop 0 = dktX1_needPlayer_0 := by decide +kernel
theorem dX1_needPlayer_0 : decode cX1_needPlayer 0 = .ok (.iload_n 0, 1) := dk_26 (dk_at dksX1_needPlayer_0 0 rfl rfl)
theorem dX1_needPlayer_1 : decode cX1_needPlayer 1 = .ok (.iconst 0, 1) := dk_3 (dk_at dksX1_needPlayer_0 1 rfl rfl)
theorem dX1_needPlayer_2 : decode cX1_needPlayer 2 = .ok (.iconst 1, 1) := dk_4 (dk_at dksX1_needPlayer_0 2 rfl rfl)
theorem dX1_needPlayer_3 : decode cX1_needPlayer 3 = .ok (.invokestatic 80, 3) := dk_184 0 80 (dk_at dksX1_needPlayer_0 3 rfl rfl)
theorem dX1_needPlayer_6 : decode cX1_needPlayer 6 = .ok (.invokestatic 91, 3) := dk_184 0 91 (dk_at dksX1_needPlayer_0 6 rfl rfl)
theorem dX1_needPlayer_9 : decode cX1_needPlayer 9 = .ok (.return_, 1) := dk_177 (dk_at dksX1_needPlayer_0 9 rfl rfl)
abbrev cX1_pointsByParcels : ByteArray := prog_1_method_56_code
def yX1_pointsByParcels : MethodName := ⟨RX1, "pointsByParcels", "(I)I"⟩
def dkwX1_pointsByParcels_0 : List UInt8 := [27, 184, 1, 17, 42, 180, 0, 19, 27, 182, 1, 23, 172]
abbrev dktX1_pointsByParcels_0 : List UInt8 := dkwX1_pointsByParcels_0 ++ []
theorem dksX1_pointsByParcels_0 : cX1_pointsByParcels.data.toList.drop 0 = dktX1_pointsByParcels_0 := by decide +kernel
theorem dX1_pointsByParcels_0 : decode cX1_pointsByParcels 0 = .ok (.iload_n 1, 1) := dk_27 (dk_at dksX1_pointsByParcels_0 0 rfl rfl)
theorem dX1_pointsByParcels_1 : decode cX1_pointsByParcels 1 = .ok (.invokestatic 273, 3) := dk_184 1 17 (dk_at dksX1_pointsByParcels_0 1 rfl rfl)
theorem dX1_pointsByParcels_4 : decode cX1_pointsByParcels 4 = .ok (.aload_n 0, 1) := dk_42 (dk_at dksX1_pointsByParcels_0 4 rfl rfl)
theorem dX1_pointsByParcels_5 : decode cX1_pointsByParcels 5 = .ok (.getfield 19, 3) := dk_180 0 19 (dk_at dksX1_pointsByParcels_0 5 rfl rfl)
theorem dX1_pointsByParcels_8 : decode cX1_pointsByParcels 8 = .ok (.iload_n 1, 1) := dk_27 (dk_at dksX1_pointsByParcels_0 8 rfl rfl)
theorem dX1_pointsByParcels_9 : decode cX1_pointsByParcels 9 = .ok (.invokevirtual 279, 3) := dk_182 1 23 (dk_at dksX1_pointsByParcels_0 9 rfl rfl)
theorem dX1_pointsByParcels_12 : decode cX1_pointsByParcels 12 = .ok (.ireturn, 1) := dk_172 (dk_at dksX1_pointsByParcels_0 12 rfl rfl)
abbrev cX1_reach : ByteArray := prog_1_method_63_code
def yX1_reach : MethodName := ⟨RX1, "reach", "(I)I"⟩
def dkwX1_reach_0 : List UInt8 := [42, 42, 27, 182, 0, 145, 182, 1, 43, 182, 1, 47, 172]
abbrev dktX1_reach_0 : List UInt8 := dkwX1_reach_0 ++ []
theorem dksX1_reach_0 : cX1_reach.data.toList.drop 0 = dktX1_reach_0 := by decide +kernel
theorem dX1_reach_0 : decode cX1_reach 0 = .ok (.aload_n 0, 1) := dk_42 (dk_at dksX1_reach_0 0 rfl rfl)
theorem dX1_reach_1 : decode cX1_reach 1 = .ok (.aload_n 0, 1) := dk_42 (dk_at dksX1_reach_0 1 rfl rfl)
theorem dX1_reach_2 : decode cX1_reach 2 = .ok (.iload_n 1, 1) := dk_27 (dk_at dksX1_reach_0 2 rfl rfl)
theorem dX1_reach_3 : decode cX1_reach 3 = .ok (.invokevirtual 145, 3) := dk_182 0 145 (dk_at dksX1_reach_0 3 rfl rfl)
theorem dX1_reach_6 : decode cX1_reach 6 = .ok (.invokevirtual 299, 3) := dk_182 1 43 (dk_at dksX1_reach_0 6 rfl rfl)
theorem dX1_reach_9 : decode cX1_reach 9 = .ok (.invokevirtual 303, 3) := dk_182 1 47 (dk_at dksX1_reach_0 9 rfl rfl)
theorem dX1_reach_12 : decode cX1_reach 12 = .ok (.ireturn, 1) := dk_172 (dk_at dksX1_reach_0 12 rfl rfl)
abbrev cX1_reachByJoining : ByteArray := prog_1_method_66_code
def yX1_reachByJoining : MethodName := ⟨RX1, "reachByJoining", "(I)I"⟩
def dkwX1_reachByJoining_0 : List UInt8 := [42, 42, 27, 182, 0, 145, 182, 1, 57, 172]
abbrev dktX1_reachByJoining_0 : List UInt8 := dkwX1_reachByJoining_0 ++ []
theorem dksX1_reachByJoining_0 : cX1_reachByJoining.data.toList.drop 0 = dktX1_reachByJoining_0 := by decide +kernel
theorem dX1_reachByJoining_0 : decode cX1_reachByJoining 0 = .ok (.aload_n 0, 1) := dk_42 (dk_at dksX1_reachByJoining_0 0 rfl rfl)
theorem dX1_reachByJoining_1 : decode cX1_reachByJoining 1 = .ok (.aload_n 0, 1) := dk_42 (dk_at dksX1_reachByJoining_0 1 rfl rfl)
theorem dX1_reachByJoining_2 : decode cX1_reachByJoining 2 = .ok (.iload_n 1, 1) := dk_27 (dk_at dksX1_reachByJoining_0 2 rfl rfl)
theorem dX1_reachByJoining_3 : decode cX1_reachByJoining 3 = .ok (.invokevirtual 145, 3) := dk_182 0 145 (dk_at dksX1_reachByJoining_0 3 rfl rfl)
theorem dX1_reachByJoining_6 : decode cX1_reachByJoining 6 = .ok (.invokevirtual 313, 3) := dk_182 1 57 (dk_at dksX1_reachByJoining_0 6 rfl rfl)
theorem dX1_reachByJoining_9 : decode cX1_reachByJoining 9 = .ok (.ireturn, 1) := dk_172 (dk_at dksX1_reachByJoining_0 9 rfl rfl)
abbrev cX1_distance : ByteArray := prog_1_method_67_code
def yX1_distance : MethodName := ⟨RX1, "distance", "(II)I"⟩
def dkwX1_distance_1 : List UInt8 := [180, 0, 19, 180, 0, 103, 27, 50, 182, 1, 43, 180, 1, 61, 28, 46, 172]
abbrev dktX1_distance_1 : List UInt8 := dkwX1_distance_1 ++ []
def dkwX1_distance_0 : List UInt8 := [27, 184, 0, 100, 153, 0, 14, 28, 184, 0, 112, 153, 0, 7, 4, 167, 0, 4, 3, 184, 0, 91, 42, 42]
abbrev dktX1_distance_0 : List UInt8 := dkwX1_distance_0 ++ dktX1_distance_1
theorem dksX1_distance_0 : cX1_distance.data.toList.drop 0 = dktX1_distance_0 := by decide +kernel
theorem dksX1_distance_1 : cX1_distance.data.toList.drop 24 = dktX1_distance_1 := dk_seg dksX1_distance_0 24 rfl rfl
theorem dX1_distance_0 : decode cX1_distance 0 = .ok (.iload_n 1, 1) := dk_27 (dk_at dksX1_distance_0 0 rfl rfl)
theorem dX1_distance_1 : decode cX1_distance 1 = .ok (.invokestatic 100, 3) := dk_184 0 100 (dk_at dksX1_distance_0 1 rfl rfl)
theorem dX1_distance_4 : decode cX1_distance 4 = .ok (.ifCond .eq 14, 3) := dk_153 0 14 (dk_at dksX1_distance_0 4 rfl rfl)
theorem dX1_distance_7 : decode cX1_distance 7 = .ok (.iload_n 2, 1) := dk_28 (dk_at dksX1_distance_0 7 rfl rfl)
theorem dX1_distance_8 : decode cX1_distance 8 = .ok (.invokestatic 112, 3) := dk_184 0 112 (dk_at dksX1_distance_0 8 rfl rfl)
theorem dX1_distance_11 : decode cX1_distance 11 = .ok (.ifCond .eq 7, 3) := dk_153 0 7 (dk_at dksX1_distance_0 11 rfl rfl)
theorem dX1_distance_14 : decode cX1_distance 14 = .ok (.iconst 1, 1) := dk_4 (dk_at dksX1_distance_0 14 rfl rfl)
theorem dX1_distance_15 : decode cX1_distance 15 = .ok (.goto 4, 3) := dk_167 0 4 (dk_at dksX1_distance_0 15 rfl rfl)
theorem dX1_distance_18 : decode cX1_distance 18 = .ok (.iconst 0, 1) := dk_3 (dk_at dksX1_distance_0 18 rfl rfl)
theorem dX1_distance_19 : decode cX1_distance 19 = .ok (.invokestatic 91, 3) := dk_184 0 91 (dk_at dksX1_distance_0 19 rfl rfl)
theorem dX1_distance_22 : decode cX1_distance 22 = .ok (.aload_n 0, 1) := dk_42 (dk_at dksX1_distance_0 22 rfl rfl)
theorem dX1_distance_23 : decode cX1_distance 23 = .ok (.aload_n 0, 1) := dk_42 (dk_at dksX1_distance_0 23 rfl rfl)
theorem dX1_distance_24 : decode cX1_distance 24 = .ok (.getfield 19, 3) := dk_180 0 19 (dk_at dksX1_distance_1 0 rfl rfl)
theorem dX1_distance_27 : decode cX1_distance 27 = .ok (.getfield 103, 3) := dk_180 0 103 (dk_at dksX1_distance_1 3 rfl rfl)
theorem dX1_distance_30 : decode cX1_distance 30 = .ok (.iload_n 1, 1) := dk_27 (dk_at dksX1_distance_1 6 rfl rfl)
theorem dX1_distance_31 : decode cX1_distance 31 = .ok (.aaload, 1) := dk_50 (dk_at dksX1_distance_1 7 rfl rfl)
theorem dX1_distance_32 : decode cX1_distance 32 = .ok (.invokevirtual 299, 3) := dk_182 1 43 (dk_at dksX1_distance_1 8 rfl rfl)
theorem dX1_distance_35 : decode cX1_distance 35 = .ok (.getfield 317, 3) := dk_180 1 61 (dk_at dksX1_distance_1 11 rfl rfl)
theorem dX1_distance_38 : decode cX1_distance 38 = .ok (.iload_n 2, 1) := dk_28 (dk_at dksX1_distance_1 14 rfl rfl)
theorem dX1_distance_39 : decode cX1_distance 39 = .ok (.iaload, 1) := dk_46 (dk_at dksX1_distance_1 15 rfl rfl)
theorem dX1_distance_40 : decode cX1_distance 40 = .ok (.ireturn, 1) := dk_172 (dk_at dksX1_distance_1 16 rfl rfl)
abbrev cX1_nextStreet : ByteArray := prog_1_method_68_code
def yX1_nextStreet : MethodName := ⟨RX1, "nextStreet", "(II)I"⟩
def dkwX1_nextStreet_4 : List UInt8 := [21, 5, 172]
abbrev dktX1_nextStreet_4 : List UInt8 := dkwX1_nextStreet_4 ++ []
def dkwX1_nextStreet_3 : List UInt8 := [21, 5, 182, 0, 95, 192, 0, 98, 28, 21, 4, 182, 1, 64, 154, 0, 9, 132, 5, 1, 167, 255, 227]
abbrev dktX1_nextStreet_3 : List UInt8 := dkwX1_nextStreet_3 ++ dktX1_nextStreet_4
def dkwX1_nextStreet_2 : List UInt8 := [158, 0, 7, 4, 167, 0, 4, 3, 184, 0, 122, 3, 54, 5, 42, 45, 42, 180, 0, 19, 180, 0, 84]
abbrev dktX1_nextStreet_2 : List UInt8 := dkwX1_nextStreet_2 ++ dktX1_nextStreet_3
def dkwX1_nextStreet_1 : List UInt8 := [180, 0, 19, 180, 0, 103, 27, 50, 78, 42, 45, 182, 1, 43, 180, 1, 61, 28, 46, 54, 4, 21, 4]
abbrev dktX1_nextStreet_1 : List UInt8 := dkwX1_nextStreet_1 ++ dktX1_nextStreet_2
def dkwX1_nextStreet_0 : List UInt8 := [27, 184, 0, 100, 153, 0, 14, 28, 184, 0, 112, 153, 0, 7, 4, 167, 0, 4, 3, 184, 0, 91, 42]
abbrev dktX1_nextStreet_0 : List UInt8 := dkwX1_nextStreet_0 ++ dktX1_nextStreet_1
theorem dksX1_nextStreet_0 : cX1_nextStreet.data.toList.drop 0 = dktX1_nextStreet_0 := by decide +kernel
theorem dksX1_nextStreet_1 : cX1_nextStreet.data.toList.drop 23 = dktX1_nextStreet_1 := dk_seg dksX1_nextStreet_0 23 rfl rfl
theorem dksX1_nextStreet_2 : cX1_nextStreet.data.toList.drop 46 = dktX1_nextStreet_2 := dk_seg dksX1_nextStreet_1 23 rfl rfl
theorem dksX1_nextStreet_3 : cX1_nextStreet.data.toList.drop 69 = dktX1_nextStreet_3 := dk_seg dksX1_nextStreet_2 23 rfl rfl
theorem dksX1_nextStreet_4 : cX1_nextStreet.data.toList.drop 92 = dktX1_nextStreet_4 := dk_seg dksX1_nextStreet_3 23 rfl rfl
theorem dX1_nextStreet_0 : decode cX1_nextStreet 0 = .ok (.iload_n 1, 1) := dk_27 (dk_at dksX1_nextStreet_0 0 rfl rfl)
theorem dX1_nextStreet_1 : decode cX1_nextStreet 1 = .ok (.invokestatic 100, 3) := dk_184 0 100 (dk_at dksX1_nextStreet_0 1 rfl rfl)
theorem dX1_nextStreet_4 : decode cX1_nextStreet 4 = .ok (.ifCond .eq 14, 3) := dk_153 0 14 (dk_at dksX1_nextStreet_0 4 rfl rfl)
theorem dX1_nextStreet_7 : decode cX1_nextStreet 7 = .ok (.iload_n 2, 1) := dk_28 (dk_at dksX1_nextStreet_0 7 rfl rfl)
theorem dX1_nextStreet_8 : decode cX1_nextStreet 8 = .ok (.invokestatic 112, 3) := dk_184 0 112 (dk_at dksX1_nextStreet_0 8 rfl rfl)
theorem dX1_nextStreet_11 : decode cX1_nextStreet 11 = .ok (.ifCond .eq 7, 3) := dk_153 0 7 (dk_at dksX1_nextStreet_0 11 rfl rfl)
theorem dX1_nextStreet_14 : decode cX1_nextStreet 14 = .ok (.iconst 1, 1) := dk_4 (dk_at dksX1_nextStreet_0 14 rfl rfl)
theorem dX1_nextStreet_15 : decode cX1_nextStreet 15 = .ok (.goto 4, 3) := dk_167 0 4 (dk_at dksX1_nextStreet_0 15 rfl rfl)
theorem dX1_nextStreet_18 : decode cX1_nextStreet 18 = .ok (.iconst 0, 1) := dk_3 (dk_at dksX1_nextStreet_0 18 rfl rfl)
theorem dX1_nextStreet_19 : decode cX1_nextStreet 19 = .ok (.invokestatic 91, 3) := dk_184 0 91 (dk_at dksX1_nextStreet_0 19 rfl rfl)
theorem dX1_nextStreet_22 : decode cX1_nextStreet 22 = .ok (.aload_n 0, 1) := dk_42 (dk_at dksX1_nextStreet_0 22 rfl rfl)
theorem dX1_nextStreet_23 : decode cX1_nextStreet 23 = .ok (.getfield 19, 3) := dk_180 0 19 (dk_at dksX1_nextStreet_1 0 rfl rfl)
theorem dX1_nextStreet_26 : decode cX1_nextStreet 26 = .ok (.getfield 103, 3) := dk_180 0 103 (dk_at dksX1_nextStreet_1 3 rfl rfl)
theorem dX1_nextStreet_29 : decode cX1_nextStreet 29 = .ok (.iload_n 1, 1) := dk_27 (dk_at dksX1_nextStreet_1 6 rfl rfl)
theorem dX1_nextStreet_30 : decode cX1_nextStreet 30 = .ok (.aaload, 1) := dk_50 (dk_at dksX1_nextStreet_1 7 rfl rfl)
theorem dX1_nextStreet_31 : decode cX1_nextStreet 31 = .ok (.astore_n 3, 1) := dk_78 (dk_at dksX1_nextStreet_1 8 rfl rfl)
theorem dX1_nextStreet_32 : decode cX1_nextStreet 32 = .ok (.aload_n 0, 1) := dk_42 (dk_at dksX1_nextStreet_1 9 rfl rfl)
theorem dX1_nextStreet_33 : decode cX1_nextStreet 33 = .ok (.aload_n 3, 1) := dk_45 (dk_at dksX1_nextStreet_1 10 rfl rfl)
theorem dX1_nextStreet_34 : decode cX1_nextStreet 34 = .ok (.invokevirtual 299, 3) := dk_182 1 43 (dk_at dksX1_nextStreet_1 11 rfl rfl)
theorem dX1_nextStreet_37 : decode cX1_nextStreet 37 = .ok (.getfield 317, 3) := dk_180 1 61 (dk_at dksX1_nextStreet_1 14 rfl rfl)
theorem dX1_nextStreet_40 : decode cX1_nextStreet 40 = .ok (.iload_n 2, 1) := dk_28 (dk_at dksX1_nextStreet_1 17 rfl rfl)
theorem dX1_nextStreet_41 : decode cX1_nextStreet 41 = .ok (.iaload, 1) := dk_46 (dk_at dksX1_nextStreet_1 18 rfl rfl)
theorem dX1_nextStreet_42 : decode cX1_nextStreet 42 = .ok (.istore 4, 2) := dk_54 4 (dk_at dksX1_nextStreet_1 19 rfl rfl)
theorem dX1_nextStreet_44 : decode cX1_nextStreet 44 = .ok (.iload 4, 2) := dk_21 4 (dk_at dksX1_nextStreet_1 21 rfl rfl)
theorem dX1_nextStreet_46 : decode cX1_nextStreet 46 = .ok (.ifCond .le 7, 3) := dk_158 0 7 (dk_at dksX1_nextStreet_2 0 rfl rfl)
theorem dX1_nextStreet_49 : decode cX1_nextStreet 49 = .ok (.iconst 1, 1) := dk_4 (dk_at dksX1_nextStreet_2 3 rfl rfl)
theorem dX1_nextStreet_50 : decode cX1_nextStreet 50 = .ok (.goto 4, 3) := dk_167 0 4 (dk_at dksX1_nextStreet_2 4 rfl rfl)
theorem dX1_nextStreet_53 : decode cX1_nextStreet 53 = .ok (.iconst 0, 1) := dk_3 (dk_at dksX1_nextStreet_2 7 rfl rfl)
theorem dX1_nextStreet_54 : decode cX1_nextStreet 54 = .ok (.invokestatic 122, 3) := dk_184 0 122 (dk_at dksX1_nextStreet_2 8 rfl rfl)
theorem dX1_nextStreet_57 : decode cX1_nextStreet 57 = .ok (.iconst 0, 1) := dk_3 (dk_at dksX1_nextStreet_2 11 rfl rfl)
theorem dX1_nextStreet_58 : decode cX1_nextStreet 58 = .ok (.istore 5, 2) := dk_54 5 (dk_at dksX1_nextStreet_2 12 rfl rfl)
theorem dX1_nextStreet_60 : decode cX1_nextStreet 60 = .ok (.aload_n 0, 1) := dk_42 (dk_at dksX1_nextStreet_2 14 rfl rfl)
theorem dX1_nextStreet_61 : decode cX1_nextStreet 61 = .ok (.aload_n 3, 1) := dk_45 (dk_at dksX1_nextStreet_2 15 rfl rfl)
theorem dX1_nextStreet_62 : decode cX1_nextStreet 62 = .ok (.aload_n 0, 1) := dk_42 (dk_at dksX1_nextStreet_2 16 rfl rfl)
theorem dX1_nextStreet_63 : decode cX1_nextStreet 63 = .ok (.getfield 19, 3) := dk_180 0 19 (dk_at dksX1_nextStreet_2 17 rfl rfl)
theorem dX1_nextStreet_66 : decode cX1_nextStreet 66 = .ok (.getfield 84, 3) := dk_180 0 84 (dk_at dksX1_nextStreet_2 20 rfl rfl)
theorem dX1_nextStreet_69 : decode cX1_nextStreet 69 = .ok (.iload 5, 2) := dk_21 5 (dk_at dksX1_nextStreet_3 0 rfl rfl)
theorem dX1_nextStreet_71 : decode cX1_nextStreet 71 = .ok (.invokevirtual 95, 3) := dk_182 0 95 (dk_at dksX1_nextStreet_3 2 rfl rfl)
theorem dX1_nextStreet_74 : decode cX1_nextStreet 74 = .ok (.checkcast 98, 3) := dk_192 0 98 (dk_at dksX1_nextStreet_3 5 rfl rfl)
theorem dX1_nextStreet_77 : decode cX1_nextStreet 77 = .ok (.iload_n 2, 1) := dk_28 (dk_at dksX1_nextStreet_3 8 rfl rfl)
theorem dX1_nextStreet_78 : decode cX1_nextStreet 78 = .ok (.iload 4, 2) := dk_21 4 (dk_at dksX1_nextStreet_3 9 rfl rfl)
theorem dX1_nextStreet_80 : decode cX1_nextStreet 80 = .ok (.invokevirtual 320, 3) := dk_182 1 64 (dk_at dksX1_nextStreet_3 11 rfl rfl)
theorem dX1_nextStreet_83 : decode cX1_nextStreet 83 = .ok (.ifCond .ne 9, 3) := dk_154 0 9 (dk_at dksX1_nextStreet_3 14 rfl rfl)
theorem dX1_nextStreet_86 : decode cX1_nextStreet 86 = .ok (.iinc 5 1, 3) := dk_132 5 1 (dk_at dksX1_nextStreet_3 17 rfl rfl)
theorem dX1_nextStreet_89 : decode cX1_nextStreet 89 = .ok (.goto (-29), 3) := dk_167 255 227 (dk_at dksX1_nextStreet_3 20 rfl rfl)
theorem dX1_nextStreet_92 : decode cX1_nextStreet 92 = .ok (.iload 5, 2) := dk_21 5 (dk_at dksX1_nextStreet_4 0 rfl rfl)
theorem dX1_nextStreet_94 : decode cX1_nextStreet 94 = .ok (.ireturn, 1) := dk_172 (dk_at dksX1_nextStreet_4 2 rfl rfl)
abbrev cX1_beginsWith : ByteArray := prog_1_method_69_code
def yX1_beginsWith : MethodName := ⟨RX1, "beginsWith", "(LCourierClash$Courier;LCourierClash$Street;II)Z"⟩
def dkwX1_beginsWith_2 : List UInt8 := [21, 4, 4, 100, 160, 0, 7, 4, 167, 0, 4, 3, 172]
abbrev dktX1_beginsWith_2 : List UInt8 := dkwX1_beginsWith_2 ++ []
def dkwX1_beginsWith_1 : List UInt8 := [180, 0, 28, 42, 180, 0, 19, 43, 180, 0, 149, 44, 180, 0, 186, 182, 1, 39, 180, 1, 61, 29, 46]
abbrev dktX1_beginsWith_1 : List UInt8 := dkwX1_beginsWith_1 ++ dktX1_beginsWith_2
def dkwX1_beginsWith_0 : List UInt8 := [44, 180, 0, 240, 43, 180, 0, 247, 160, 0, 49, 44, 43, 180, 0, 149, 182, 1, 50, 153, 0, 38, 42]
abbrev dktX1_beginsWith_0 : List UInt8 := dkwX1_beginsWith_0 ++ dktX1_beginsWith_1
theorem dksX1_beginsWith_0 : cX1_beginsWith.data.toList.drop 0 = dktX1_beginsWith_0 := by decide +kernel
theorem dksX1_beginsWith_1 : cX1_beginsWith.data.toList.drop 23 = dktX1_beginsWith_1 := dk_seg dksX1_beginsWith_0 23 rfl rfl
theorem dksX1_beginsWith_2 : cX1_beginsWith.data.toList.drop 46 = dktX1_beginsWith_2 := dk_seg dksX1_beginsWith_1 23 rfl rfl
theorem dX1_beginsWith_0 : decode cX1_beginsWith 0 = .ok (.aload_n 2, 1) := dk_44 (dk_at dksX1_beginsWith_0 0 rfl rfl)
theorem dX1_beginsWith_1 : decode cX1_beginsWith 1 = .ok (.getfield 240, 3) := dk_180 0 240 (dk_at dksX1_beginsWith_0 1 rfl rfl)
theorem dX1_beginsWith_4 : decode cX1_beginsWith 4 = .ok (.aload_n 1, 1) := dk_43 (dk_at dksX1_beginsWith_0 4 rfl rfl)
theorem dX1_beginsWith_5 : decode cX1_beginsWith 5 = .ok (.getfield 247, 3) := dk_180 0 247 (dk_at dksX1_beginsWith_0 5 rfl rfl)
theorem dX1_beginsWith_8 : decode cX1_beginsWith 8 = .ok (.if_icmp .ne 49, 3) := dk_160 0 49 (dk_at dksX1_beginsWith_0 8 rfl rfl)
theorem dX1_beginsWith_11 : decode cX1_beginsWith 11 = .ok (.aload_n 2, 1) := dk_44 (dk_at dksX1_beginsWith_0 11 rfl rfl)
theorem dX1_beginsWith_12 : decode cX1_beginsWith 12 = .ok (.aload_n 1, 1) := dk_43 (dk_at dksX1_beginsWith_0 12 rfl rfl)
theorem dX1_beginsWith_13 : decode cX1_beginsWith 13 = .ok (.getfield 149, 3) := dk_180 0 149 (dk_at dksX1_beginsWith_0 13 rfl rfl)
theorem dX1_beginsWith_16 : decode cX1_beginsWith 16 = .ok (.invokevirtual 306, 3) := dk_182 1 50 (dk_at dksX1_beginsWith_0 16 rfl rfl)
theorem dX1_beginsWith_19 : decode cX1_beginsWith 19 = .ok (.ifCond .eq 38, 3) := dk_153 0 38 (dk_at dksX1_beginsWith_0 19 rfl rfl)
theorem dX1_beginsWith_22 : decode cX1_beginsWith 22 = .ok (.aload_n 0, 1) := dk_42 (dk_at dksX1_beginsWith_0 22 rfl rfl)
theorem dX1_beginsWith_23 : decode cX1_beginsWith 23 = .ok (.getfield 28, 3) := dk_180 0 28 (dk_at dksX1_beginsWith_1 0 rfl rfl)
theorem dX1_beginsWith_26 : decode cX1_beginsWith 26 = .ok (.aload_n 0, 1) := dk_42 (dk_at dksX1_beginsWith_1 3 rfl rfl)
theorem dX1_beginsWith_27 : decode cX1_beginsWith 27 = .ok (.getfield 19, 3) := dk_180 0 19 (dk_at dksX1_beginsWith_1 4 rfl rfl)
theorem dX1_beginsWith_30 : decode cX1_beginsWith 30 = .ok (.aload_n 1, 1) := dk_43 (dk_at dksX1_beginsWith_1 7 rfl rfl)
theorem dX1_beginsWith_31 : decode cX1_beginsWith 31 = .ok (.getfield 149, 3) := dk_180 0 149 (dk_at dksX1_beginsWith_1 8 rfl rfl)
theorem dX1_beginsWith_34 : decode cX1_beginsWith 34 = .ok (.aload_n 2, 1) := dk_44 (dk_at dksX1_beginsWith_1 11 rfl rfl)
theorem dX1_beginsWith_35 : decode cX1_beginsWith 35 = .ok (.getfield 186, 3) := dk_180 0 186 (dk_at dksX1_beginsWith_1 12 rfl rfl)
theorem dX1_beginsWith_38 : decode cX1_beginsWith 38 = .ok (.invokevirtual 295, 3) := dk_182 1 39 (dk_at dksX1_beginsWith_1 15 rfl rfl)
theorem dX1_beginsWith_41 : decode cX1_beginsWith 41 = .ok (.getfield 317, 3) := dk_180 1 61 (dk_at dksX1_beginsWith_1 18 rfl rfl)
theorem dX1_beginsWith_44 : decode cX1_beginsWith 44 = .ok (.iload_n 3, 1) := dk_29 (dk_at dksX1_beginsWith_1 21 rfl rfl)
theorem dX1_beginsWith_45 : decode cX1_beginsWith 45 = .ok (.iaload, 1) := dk_46 (dk_at dksX1_beginsWith_1 22 rfl rfl)
theorem dX1_beginsWith_46 : decode cX1_beginsWith 46 = .ok (.iload 4, 2) := dk_21 4 (dk_at dksX1_beginsWith_2 0 rfl rfl)
theorem dX1_beginsWith_48 : decode cX1_beginsWith 48 = .ok (.iconst 1, 1) := dk_4 (dk_at dksX1_beginsWith_2 2 rfl rfl)
theorem dX1_beginsWith_49 : decode cX1_beginsWith 49 = .ok (.isub, 1) := dk_100 (dk_at dksX1_beginsWith_2 3 rfl rfl)
theorem dX1_beginsWith_50 : decode cX1_beginsWith 50 = .ok (.if_icmp .ne 7, 3) := dk_160 0 7 (dk_at dksX1_beginsWith_2 4 rfl rfl)
theorem dX1_beginsWith_53 : decode cX1_beginsWith 53 = .ok (.iconst 1, 1) := dk_4 (dk_at dksX1_beginsWith_2 7 rfl rfl)
theorem dX1_beginsWith_54 : decode cX1_beginsWith 54 = .ok (.goto 4, 3) := dk_167 0 4 (dk_at dksX1_beginsWith_2 8 rfl rfl)
theorem dX1_beginsWith_57 : decode cX1_beginsWith 57 = .ok (.iconst 0, 1) := dk_3 (dk_at dksX1_beginsWith_2 11 rfl rfl)
theorem dX1_beginsWith_58 : decode cX1_beginsWith 58 = .ok (.ireturn, 1) := dk_172 (dk_at dksX1_beginsWith_2 12 rfl rfl)
abbrev cX1_bestParcel : ByteArray := prog_1_method_71_code
def yX1_bestParcel : MethodName := ⟨RX1, "bestParcel", "(I)I"⟩
def dkwX1_bestParcel_5 : List UInt8 := [182, 1, 98, 192, 1, 91, 180, 1, 102, 180, 1, 106, 172]
abbrev dktX1_bestParcel_5 : List UInt8 := dkwX1_bestParcel_5 ++ []
def dkwX1_bestParcel_4 : List UInt8 := [132, 3, 1, 167, 255, 184, 44, 182, 1, 97, 154, 0, 7, 4, 167, 0, 4, 3, 184, 0, 122, 44]
abbrev dktX1_bestParcel_4 : List UInt8 := dkwX1_bestParcel_4 ++ dktX1_bestParcel_5
def dkwX1_bestParcel_3 : List UInt8 := [180, 0, 19, 180, 0, 107, 29, 182, 0, 95, 192, 0, 110, 21, 4, 183, 1, 93, 182, 1, 96, 87]
abbrev dktX1_bestParcel_3 : List UInt8 := dkwX1_bestParcel_3 ++ dktX1_bestParcel_4
def dkwX1_bestParcel_2 : List UInt8 := [182, 0, 95, 192, 0, 110, 182, 1, 87, 54, 4, 21, 4, 2, 159, 0, 31, 44, 187, 1, 91, 89, 42]
abbrev dktX1_bestParcel_2 : List UInt8 := dkwX1_bestParcel_2 ++ dktX1_bestParcel_3
def dkwX1_bestParcel_1 : List UInt8 := [180, 0, 19, 180, 0, 107, 182, 0, 55, 162, 0, 64, 42, 27, 42, 180, 0, 19, 180, 0, 107, 29]
abbrev dktX1_bestParcel_1 : List UInt8 := dkwX1_bestParcel_1 ++ dktX1_bestParcel_2
def dkwX1_bestParcel_0 : List UInt8 := [42, 27, 182, 0, 145, 87, 187, 1, 78, 89, 16, 8, 184, 1, 80, 183, 1, 84, 77, 3, 62, 29, 42]
abbrev dktX1_bestParcel_0 : List UInt8 := dkwX1_bestParcel_0 ++ dktX1_bestParcel_1
theorem dksX1_bestParcel_0 : cX1_bestParcel.data.toList.drop 0 = dktX1_bestParcel_0 := by decide +kernel
theorem dksX1_bestParcel_1 : cX1_bestParcel.data.toList.drop 23 = dktX1_bestParcel_1 := dk_seg dksX1_bestParcel_0 23 rfl rfl
theorem dksX1_bestParcel_2 : cX1_bestParcel.data.toList.drop 45 = dktX1_bestParcel_2 := dk_seg dksX1_bestParcel_1 22 rfl rfl
theorem dksX1_bestParcel_3 : cX1_bestParcel.data.toList.drop 68 = dktX1_bestParcel_3 := dk_seg dksX1_bestParcel_2 23 rfl rfl
theorem dksX1_bestParcel_4 : cX1_bestParcel.data.toList.drop 90 = dktX1_bestParcel_4 := dk_seg dksX1_bestParcel_3 22 rfl rfl
theorem dksX1_bestParcel_5 : cX1_bestParcel.data.toList.drop 112 = dktX1_bestParcel_5 := dk_seg dksX1_bestParcel_4 22 rfl rfl
theorem dX1_bestParcel_0 : decode cX1_bestParcel 0 = .ok (.aload_n 0, 1) := dk_42 (dk_at dksX1_bestParcel_0 0 rfl rfl)
theorem dX1_bestParcel_1 : decode cX1_bestParcel 1 = .ok (.iload_n 1, 1) := dk_27 (dk_at dksX1_bestParcel_0 1 rfl rfl)
theorem dX1_bestParcel_2 : decode cX1_bestParcel 2 = .ok (.invokevirtual 145, 3) := dk_182 0 145 (dk_at dksX1_bestParcel_0 2 rfl rfl)
theorem dX1_bestParcel_5 : decode cX1_bestParcel 5 = .ok (.pop, 1) := dk_87 (dk_at dksX1_bestParcel_0 5 rfl rfl)
theorem dX1_bestParcel_6 : decode cX1_bestParcel 6 = .ok (.new 334, 3) := dk_187 1 78 (dk_at dksX1_bestParcel_0 6 rfl rfl)
theorem dX1_bestParcel_9 : decode cX1_bestParcel 9 = .ok (.dup, 1) := dk_89 (dk_at dksX1_bestParcel_0 9 rfl rfl)
theorem dX1_bestParcel_10 : decode cX1_bestParcel 10 = .ok (.bipush 8, 2) := dk_16 8 (dk_at dksX1_bestParcel_0 10 rfl rfl)
theorem dX1_bestParcel_12 : decode cX1_bestParcel 12 = .ok (.invokestatic 336, 3) := dk_184 1 80 (dk_at dksX1_bestParcel_0 12 rfl rfl)
theorem dX1_bestParcel_15 : decode cX1_bestParcel 15 = .ok (.invokespecial 340, 3) := dk_183 1 84 (dk_at dksX1_bestParcel_0 15 rfl rfl)
theorem dX1_bestParcel_18 : decode cX1_bestParcel 18 = .ok (.astore_n 2, 1) := dk_77 (dk_at dksX1_bestParcel_0 18 rfl rfl)
theorem dX1_bestParcel_19 : decode cX1_bestParcel 19 = .ok (.iconst 0, 1) := dk_3 (dk_at dksX1_bestParcel_0 19 rfl rfl)
theorem dX1_bestParcel_20 : decode cX1_bestParcel 20 = .ok (.istore_n 3, 1) := dk_62 (dk_at dksX1_bestParcel_0 20 rfl rfl)
theorem dX1_bestParcel_21 : decode cX1_bestParcel 21 = .ok (.iload_n 3, 1) := dk_29 (dk_at dksX1_bestParcel_0 21 rfl rfl)
theorem dX1_bestParcel_22 : decode cX1_bestParcel 22 = .ok (.aload_n 0, 1) := dk_42 (dk_at dksX1_bestParcel_0 22 rfl rfl)
theorem dX1_bestParcel_23 : decode cX1_bestParcel 23 = .ok (.getfield 19, 3) := dk_180 0 19 (dk_at dksX1_bestParcel_1 0 rfl rfl)
theorem dX1_bestParcel_26 : decode cX1_bestParcel 26 = .ok (.getfield 107, 3) := dk_180 0 107 (dk_at dksX1_bestParcel_1 3 rfl rfl)
theorem dX1_bestParcel_29 : decode cX1_bestParcel 29 = .ok (.invokevirtual 55, 3) := dk_182 0 55 (dk_at dksX1_bestParcel_1 6 rfl rfl)
theorem dX1_bestParcel_32 : decode cX1_bestParcel 32 = .ok (.if_icmp .ge 64, 3) := dk_162 0 64 (dk_at dksX1_bestParcel_1 9 rfl rfl)
theorem dX1_bestParcel_35 : decode cX1_bestParcel 35 = .ok (.aload_n 0, 1) := dk_42 (dk_at dksX1_bestParcel_1 12 rfl rfl)
theorem dX1_bestParcel_36 : decode cX1_bestParcel 36 = .ok (.iload_n 1, 1) := dk_27 (dk_at dksX1_bestParcel_1 13 rfl rfl)
theorem dX1_bestParcel_37 : decode cX1_bestParcel 37 = .ok (.aload_n 0, 1) := dk_42 (dk_at dksX1_bestParcel_1 14 rfl rfl)
theorem dX1_bestParcel_38 : decode cX1_bestParcel 38 = .ok (.getfield 19, 3) := dk_180 0 19 (dk_at dksX1_bestParcel_1 15 rfl rfl)
theorem dX1_bestParcel_41 : decode cX1_bestParcel 41 = .ok (.getfield 107, 3) := dk_180 0 107 (dk_at dksX1_bestParcel_1 18 rfl rfl)
theorem dX1_bestParcel_44 : decode cX1_bestParcel 44 = .ok (.iload_n 3, 1) := dk_29 (dk_at dksX1_bestParcel_1 21 rfl rfl)
theorem dX1_bestParcel_45 : decode cX1_bestParcel 45 = .ok (.invokevirtual 95, 3) := dk_182 0 95 (dk_at dksX1_bestParcel_2 0 rfl rfl)
theorem dX1_bestParcel_48 : decode cX1_bestParcel 48 = .ok (.checkcast 110, 3) := dk_192 0 110 (dk_at dksX1_bestParcel_2 3 rfl rfl)
theorem dX1_bestParcel_51 : decode cX1_bestParcel 51 = .ok (.invokevirtual 343, 3) := dk_182 1 87 (dk_at dksX1_bestParcel_2 6 rfl rfl)
theorem dX1_bestParcel_54 : decode cX1_bestParcel 54 = .ok (.istore 4, 2) := dk_54 4 (dk_at dksX1_bestParcel_2 9 rfl rfl)
theorem dX1_bestParcel_56 : decode cX1_bestParcel 56 = .ok (.iload 4, 2) := dk_21 4 (dk_at dksX1_bestParcel_2 11 rfl rfl)
theorem dX1_bestParcel_58 : decode cX1_bestParcel 58 = .ok (.iconst (-1), 1) := dk_2 (dk_at dksX1_bestParcel_2 13 rfl rfl)
theorem dX1_bestParcel_59 : decode cX1_bestParcel 59 = .ok (.if_icmp .eq 31, 3) := dk_159 0 31 (dk_at dksX1_bestParcel_2 14 rfl rfl)
theorem dX1_bestParcel_62 : decode cX1_bestParcel 62 = .ok (.aload_n 2, 1) := dk_44 (dk_at dksX1_bestParcel_2 17 rfl rfl)
theorem dX1_bestParcel_63 : decode cX1_bestParcel 63 = .ok (.new 347, 3) := dk_187 1 91 (dk_at dksX1_bestParcel_2 18 rfl rfl)
theorem dX1_bestParcel_66 : decode cX1_bestParcel 66 = .ok (.dup, 1) := dk_89 (dk_at dksX1_bestParcel_2 21 rfl rfl)
theorem dX1_bestParcel_67 : decode cX1_bestParcel 67 = .ok (.aload_n 0, 1) := dk_42 (dk_at dksX1_bestParcel_2 22 rfl rfl)
theorem dX1_bestParcel_68 : decode cX1_bestParcel 68 = .ok (.getfield 19, 3) := dk_180 0 19 (dk_at dksX1_bestParcel_3 0 rfl rfl)
theorem dX1_bestParcel_71 : decode cX1_bestParcel 71 = .ok (.getfield 107, 3) := dk_180 0 107 (dk_at dksX1_bestParcel_3 3 rfl rfl)
theorem dX1_bestParcel_74 : decode cX1_bestParcel 74 = .ok (.iload_n 3, 1) := dk_29 (dk_at dksX1_bestParcel_3 6 rfl rfl)
theorem dX1_bestParcel_75 : decode cX1_bestParcel 75 = .ok (.invokevirtual 95, 3) := dk_182 0 95 (dk_at dksX1_bestParcel_3 7 rfl rfl)
theorem dX1_bestParcel_78 : decode cX1_bestParcel 78 = .ok (.checkcast 110, 3) := dk_192 0 110 (dk_at dksX1_bestParcel_3 10 rfl rfl)
theorem dX1_bestParcel_81 : decode cX1_bestParcel 81 = .ok (.iload 4, 2) := dk_21 4 (dk_at dksX1_bestParcel_3 13 rfl rfl)
theorem dX1_bestParcel_83 : decode cX1_bestParcel 83 = .ok (.invokespecial 349, 3) := dk_183 1 93 (dk_at dksX1_bestParcel_3 15 rfl rfl)
theorem dX1_bestParcel_86 : decode cX1_bestParcel 86 = .ok (.invokevirtual 352, 3) := dk_182 1 96 (dk_at dksX1_bestParcel_3 18 rfl rfl)
theorem dX1_bestParcel_89 : decode cX1_bestParcel 89 = .ok (.pop, 1) := dk_87 (dk_at dksX1_bestParcel_3 21 rfl rfl)
theorem dX1_bestParcel_90 : decode cX1_bestParcel 90 = .ok (.iinc 3 1, 3) := dk_132 3 1 (dk_at dksX1_bestParcel_4 0 rfl rfl)
theorem dX1_bestParcel_93 : decode cX1_bestParcel 93 = .ok (.goto (-72), 3) := dk_167 255 184 (dk_at dksX1_bestParcel_4 3 rfl rfl)
theorem dX1_bestParcel_96 : decode cX1_bestParcel 96 = .ok (.aload_n 2, 1) := dk_44 (dk_at dksX1_bestParcel_4 6 rfl rfl)
theorem dX1_bestParcel_97 : decode cX1_bestParcel 97 = .ok (.invokevirtual 353, 3) := dk_182 1 97 (dk_at dksX1_bestParcel_4 7 rfl rfl)
theorem dX1_bestParcel_100 : decode cX1_bestParcel 100 = .ok (.ifCond .ne 7, 3) := dk_154 0 7 (dk_at dksX1_bestParcel_4 10 rfl rfl)
theorem dX1_bestParcel_103 : decode cX1_bestParcel 103 = .ok (.iconst 1, 1) := dk_4 (dk_at dksX1_bestParcel_4 13 rfl rfl)
theorem dX1_bestParcel_104 : decode cX1_bestParcel 104 = .ok (.goto 4, 3) := dk_167 0 4 (dk_at dksX1_bestParcel_4 14 rfl rfl)
theorem dX1_bestParcel_107 : decode cX1_bestParcel 107 = .ok (.iconst 0, 1) := dk_3 (dk_at dksX1_bestParcel_4 17 rfl rfl)
theorem dX1_bestParcel_108 : decode cX1_bestParcel 108 = .ok (.invokestatic 122, 3) := dk_184 0 122 (dk_at dksX1_bestParcel_4 18 rfl rfl)
theorem dX1_bestParcel_111 : decode cX1_bestParcel 111 = .ok (.aload_n 2, 1) := dk_44 (dk_at dksX1_bestParcel_4 21 rfl rfl)
theorem dX1_bestParcel_112 : decode cX1_bestParcel 112 = .ok (.invokevirtual 354, 3) := dk_182 1 98 (dk_at dksX1_bestParcel_5 0 rfl rfl)
theorem dX1_bestParcel_115 : decode cX1_bestParcel 115 = .ok (.checkcast 347, 3) := dk_192 1 91 (dk_at dksX1_bestParcel_5 3 rfl rfl)
theorem dX1_bestParcel_118 : decode cX1_bestParcel 118 = .ok (.getfield 358, 3) := dk_180 1 102 (dk_at dksX1_bestParcel_5 6 rfl rfl)
theorem dX1_bestParcel_121 : decode cX1_bestParcel 121 = .ok (.getfield 362, 3) := dk_180 1 106 (dk_at dksX1_bestParcel_5 9 rfl rfl)
theorem dX1_bestParcel_124 : decode cX1_bestParcel 124 = .ok (.ireturn, 1) := dk_172 (dk_at dksX1_bestParcel_5 12 rfl rfl)
abbrev cX1_bestFirst : ByteArray := prog_1_method_3_code
def yX1_bestFirst : MethodName := ⟨RX1, "bestFirst", "()Ljava/util/Comparator;"⟩
def dkwX1_bestFirst_0 : List UInt8 := [187, 0, 7, 89, 183, 0, 9, 176]
abbrev dktX1_bestFirst_0 : List UInt8 := dkwX1_bestFirst_0 ++ []
theorem dksX1_bestFirst_0 : cX1_bestFirst.data.toList.drop 0 = dktX1_bestFirst_0 := by decide +kernel
theorem dX1_bestFirst_0 : decode cX1_bestFirst 0 = .ok (.new 7, 3) := dk_187 0 7 (dk_at dksX1_bestFirst_0 0 rfl rfl)
theorem dX1_bestFirst_3 : decode cX1_bestFirst 3 = .ok (.dup, 1) := dk_89 (dk_at dksX1_bestFirst_0 3 rfl rfl)
theorem dX1_bestFirst_4 : decode cX1_bestFirst 4 = .ok (.invokespecial 9, 3) := dk_183 0 9 (dk_at dksX1_bestFirst_0 4 rfl rfl)
theorem dX1_bestFirst_7 : decode cX1_bestFirst 7 = .ok (.areturn, 1) := dk_176 (dk_at dksX1_bestFirst_0 7 rfl rfl)
abbrev cX1_wayBy : ByteArray := prog_1_method_70_code
def yX1_wayBy : MethodName := ⟨RX1, "wayBy", "(ILCourierClash$Parcel;)I"⟩
def dkwX1_wayBy_4 : List UInt8 := [167, 0, 8, 21, 4, 21, 5, 96, 172]
abbrev dktX1_wayBy_4 : List UInt8 := dkwX1_wayBy_4 ++ []
def dkwX1_wayBy_3 : List UInt8 := [180, 1, 61, 44, 180, 1, 75, 46, 54, 5, 21, 4, 2, 159, 0, 9, 21, 5, 2, 160, 0, 7, 2]
abbrev dktX1_wayBy_3 : List UInt8 := dkwX1_wayBy_3 ++ dktX1_wayBy_4
def dkwX1_wayBy_2 : List UInt8 := [46, 54, 4, 42, 180, 0, 28, 42, 180, 0, 19, 45, 180, 0, 149, 44, 180, 1, 74, 182, 1, 39]
abbrev dktX1_wayBy_2 : List UInt8 := dkwX1_wayBy_2 ++ dktX1_wayBy_3
def dkwX1_wayBy_1 : List UInt8 := [180, 0, 19, 27, 182, 1, 71, 164, 0, 5, 2, 172, 42, 45, 182, 1, 43, 180, 1, 61, 44, 180, 1, 74]
abbrev dktX1_wayBy_1 : List UInt8 := dkwX1_wayBy_1 ++ dktX1_wayBy_2
def dkwX1_wayBy_0 : List UInt8 := [42, 180, 0, 19, 180, 0, 103, 27, 50, 78, 44, 182, 1, 4, 153, 0, 18, 44, 180, 1, 68, 42]
abbrev dktX1_wayBy_0 : List UInt8 := dkwX1_wayBy_0 ++ dktX1_wayBy_1
theorem dksX1_wayBy_0 : cX1_wayBy.data.toList.drop 0 = dktX1_wayBy_0 := by decide +kernel
theorem dksX1_wayBy_1 : cX1_wayBy.data.toList.drop 22 = dktX1_wayBy_1 := dk_seg dksX1_wayBy_0 22 rfl rfl
theorem dksX1_wayBy_2 : cX1_wayBy.data.toList.drop 46 = dktX1_wayBy_2 := dk_seg dksX1_wayBy_1 24 rfl rfl
theorem dksX1_wayBy_3 : cX1_wayBy.data.toList.drop 68 = dktX1_wayBy_3 := dk_seg dksX1_wayBy_2 22 rfl rfl
theorem dksX1_wayBy_4 : cX1_wayBy.data.toList.drop 91 = dktX1_wayBy_4 := dk_seg dksX1_wayBy_3 23 rfl rfl
theorem dX1_wayBy_0 : decode cX1_wayBy 0 = .ok (.aload_n 0, 1) := dk_42 (dk_at dksX1_wayBy_0 0 rfl rfl)
theorem dX1_wayBy_1 : decode cX1_wayBy 1 = .ok (.getfield 19, 3) := dk_180 0 19 (dk_at dksX1_wayBy_0 1 rfl rfl)
theorem dX1_wayBy_4 : decode cX1_wayBy 4 = .ok (.getfield 103, 3) := dk_180 0 103 (dk_at dksX1_wayBy_0 4 rfl rfl)
theorem dX1_wayBy_7 : decode cX1_wayBy 7 = .ok (.iload_n 1, 1) := dk_27 (dk_at dksX1_wayBy_0 7 rfl rfl)
theorem dX1_wayBy_8 : decode cX1_wayBy 8 = .ok (.aaload, 1) := dk_50 (dk_at dksX1_wayBy_0 8 rfl rfl)
theorem dX1_wayBy_9 : decode cX1_wayBy 9 = .ok (.astore_n 3, 1) := dk_78 (dk_at dksX1_wayBy_0 9 rfl rfl)
theorem dX1_wayBy_10 : decode cX1_wayBy 10 = .ok (.aload_n 2, 1) := dk_44 (dk_at dksX1_wayBy_0 10 rfl rfl)
theorem dX1_wayBy_11 : decode cX1_wayBy 11 = .ok (.invokevirtual 260, 3) := dk_182 1 4 (dk_at dksX1_wayBy_0 11 rfl rfl)
theorem dX1_wayBy_14 : decode cX1_wayBy 14 = .ok (.ifCond .eq 18, 3) := dk_153 0 18 (dk_at dksX1_wayBy_0 14 rfl rfl)
theorem dX1_wayBy_17 : decode cX1_wayBy 17 = .ok (.aload_n 2, 1) := dk_44 (dk_at dksX1_wayBy_0 17 rfl rfl)
theorem dX1_wayBy_18 : decode cX1_wayBy 18 = .ok (.getfield 324, 3) := dk_180 1 68 (dk_at dksX1_wayBy_0 18 rfl rfl)
theorem dX1_wayBy_21 : decode cX1_wayBy 21 = .ok (.aload_n 0, 1) := dk_42 (dk_at dksX1_wayBy_0 21 rfl rfl)
theorem dX1_wayBy_22 : decode cX1_wayBy 22 = .ok (.getfield 19, 3) := dk_180 0 19 (dk_at dksX1_wayBy_1 0 rfl rfl)
theorem dX1_wayBy_25 : decode cX1_wayBy 25 = .ok (.iload_n 1, 1) := dk_27 (dk_at dksX1_wayBy_1 3 rfl rfl)
theorem dX1_wayBy_26 : decode cX1_wayBy 26 = .ok (.invokevirtual 327, 3) := dk_182 1 71 (dk_at dksX1_wayBy_1 4 rfl rfl)
theorem dX1_wayBy_29 : decode cX1_wayBy 29 = .ok (.if_icmp .le 5, 3) := dk_164 0 5 (dk_at dksX1_wayBy_1 7 rfl rfl)
theorem dX1_wayBy_32 : decode cX1_wayBy 32 = .ok (.iconst (-1), 1) := dk_2 (dk_at dksX1_wayBy_1 10 rfl rfl)
theorem dX1_wayBy_33 : decode cX1_wayBy 33 = .ok (.ireturn, 1) := dk_172 (dk_at dksX1_wayBy_1 11 rfl rfl)
theorem dX1_wayBy_34 : decode cX1_wayBy 34 = .ok (.aload_n 0, 1) := dk_42 (dk_at dksX1_wayBy_1 12 rfl rfl)
theorem dX1_wayBy_35 : decode cX1_wayBy 35 = .ok (.aload_n 3, 1) := dk_45 (dk_at dksX1_wayBy_1 13 rfl rfl)
theorem dX1_wayBy_36 : decode cX1_wayBy 36 = .ok (.invokevirtual 299, 3) := dk_182 1 43 (dk_at dksX1_wayBy_1 14 rfl rfl)
theorem dX1_wayBy_39 : decode cX1_wayBy 39 = .ok (.getfield 317, 3) := dk_180 1 61 (dk_at dksX1_wayBy_1 17 rfl rfl)
theorem dX1_wayBy_42 : decode cX1_wayBy 42 = .ok (.aload_n 2, 1) := dk_44 (dk_at dksX1_wayBy_1 20 rfl rfl)
theorem dX1_wayBy_43 : decode cX1_wayBy 43 = .ok (.getfield 330, 3) := dk_180 1 74 (dk_at dksX1_wayBy_1 21 rfl rfl)
theorem dX1_wayBy_46 : decode cX1_wayBy 46 = .ok (.iaload, 1) := dk_46 (dk_at dksX1_wayBy_2 0 rfl rfl)
theorem dX1_wayBy_47 : decode cX1_wayBy 47 = .ok (.istore 4, 2) := dk_54 4 (dk_at dksX1_wayBy_2 1 rfl rfl)
theorem dX1_wayBy_49 : decode cX1_wayBy 49 = .ok (.aload_n 0, 1) := dk_42 (dk_at dksX1_wayBy_2 3 rfl rfl)
theorem dX1_wayBy_50 : decode cX1_wayBy 50 = .ok (.getfield 28, 3) := dk_180 0 28 (dk_at dksX1_wayBy_2 4 rfl rfl)
theorem dX1_wayBy_53 : decode cX1_wayBy 53 = .ok (.aload_n 0, 1) := dk_42 (dk_at dksX1_wayBy_2 7 rfl rfl)
theorem dX1_wayBy_54 : decode cX1_wayBy 54 = .ok (.getfield 19, 3) := dk_180 0 19 (dk_at dksX1_wayBy_2 8 rfl rfl)
theorem dX1_wayBy_57 : decode cX1_wayBy 57 = .ok (.aload_n 3, 1) := dk_45 (dk_at dksX1_wayBy_2 11 rfl rfl)
theorem dX1_wayBy_58 : decode cX1_wayBy 58 = .ok (.getfield 149, 3) := dk_180 0 149 (dk_at dksX1_wayBy_2 12 rfl rfl)
theorem dX1_wayBy_61 : decode cX1_wayBy 61 = .ok (.aload_n 2, 1) := dk_44 (dk_at dksX1_wayBy_2 15 rfl rfl)
theorem dX1_wayBy_62 : decode cX1_wayBy 62 = .ok (.getfield 330, 3) := dk_180 1 74 (dk_at dksX1_wayBy_2 16 rfl rfl)
theorem dX1_wayBy_65 : decode cX1_wayBy 65 = .ok (.invokevirtual 295, 3) := dk_182 1 39 (dk_at dksX1_wayBy_2 19 rfl rfl)
theorem dX1_wayBy_68 : decode cX1_wayBy 68 = .ok (.getfield 317, 3) := dk_180 1 61 (dk_at dksX1_wayBy_3 0 rfl rfl)
theorem dX1_wayBy_71 : decode cX1_wayBy 71 = .ok (.aload_n 2, 1) := dk_44 (dk_at dksX1_wayBy_3 3 rfl rfl)
theorem dX1_wayBy_72 : decode cX1_wayBy 72 = .ok (.getfield 331, 3) := dk_180 1 75 (dk_at dksX1_wayBy_3 4 rfl rfl)
theorem dX1_wayBy_75 : decode cX1_wayBy 75 = .ok (.iaload, 1) := dk_46 (dk_at dksX1_wayBy_3 7 rfl rfl)
theorem dX1_wayBy_76 : decode cX1_wayBy 76 = .ok (.istore 5, 2) := dk_54 5 (dk_at dksX1_wayBy_3 8 rfl rfl)
theorem dX1_wayBy_78 : decode cX1_wayBy 78 = .ok (.iload 4, 2) := dk_21 4 (dk_at dksX1_wayBy_3 10 rfl rfl)
theorem dX1_wayBy_80 : decode cX1_wayBy 80 = .ok (.iconst (-1), 1) := dk_2 (dk_at dksX1_wayBy_3 12 rfl rfl)
theorem dX1_wayBy_81 : decode cX1_wayBy 81 = .ok (.if_icmp .eq 9, 3) := dk_159 0 9 (dk_at dksX1_wayBy_3 13 rfl rfl)
theorem dX1_wayBy_84 : decode cX1_wayBy 84 = .ok (.iload 5, 2) := dk_21 5 (dk_at dksX1_wayBy_3 16 rfl rfl)
theorem dX1_wayBy_86 : decode cX1_wayBy 86 = .ok (.iconst (-1), 1) := dk_2 (dk_at dksX1_wayBy_3 18 rfl rfl)
theorem dX1_wayBy_87 : decode cX1_wayBy 87 = .ok (.if_icmp .ne 7, 3) := dk_160 0 7 (dk_at dksX1_wayBy_3 19 rfl rfl)
theorem dX1_wayBy_90 : decode cX1_wayBy 90 = .ok (.iconst (-1), 1) := dk_2 (dk_at dksX1_wayBy_3 22 rfl rfl)
theorem dX1_wayBy_91 : decode cX1_wayBy 91 = .ok (.goto 8, 3) := dk_167 0 8 (dk_at dksX1_wayBy_4 0 rfl rfl)
theorem dX1_wayBy_94 : decode cX1_wayBy 94 = .ok (.iload 4, 2) := dk_21 4 (dk_at dksX1_wayBy_4 3 rfl rfl)
theorem dX1_wayBy_96 : decode cX1_wayBy 96 = .ok (.iload 5, 2) := dk_21 5 (dk_at dksX1_wayBy_4 5 rfl rfl)
theorem dX1_wayBy_98 : decode cX1_wayBy 98 = .ok (.iadd, 1) := dk_96 (dk_at dksX1_wayBy_4 7 rfl rfl)
theorem dX1_wayBy_99 : decode cX1_wayBy 99 = .ok (.ireturn, 1) := dk_172 (dk_at dksX1_wayBy_4 8 rfl rfl)
abbrev cX1_whyNoOrder : ByteArray := prog_1_method_72_code
def yX1_whyNoOrder : MethodName := ⟨RX1, "whyNoOrder", "(II)I"⟩
def dkwX1_whyNoOrder_1 : List UInt8 := [180, 0, 19, 27, 28, 182, 0, 180, 172]
abbrev dktX1_whyNoOrder_1 : List UInt8 := dkwX1_whyNoOrder_1 ++ []
def dkwX1_whyNoOrder_0 : List UInt8 := [27, 184, 0, 100, 153, 0, 15, 42, 28, 182, 0, 87, 153, 0, 7, 4, 167, 0, 4, 3, 184, 0, 91, 42]
abbrev dktX1_whyNoOrder_0 : List UInt8 := dkwX1_whyNoOrder_0 ++ dktX1_whyNoOrder_1
theorem dksX1_whyNoOrder_0 : cX1_whyNoOrder.data.toList.drop 0 = dktX1_whyNoOrder_0 := by decide +kernel
theorem dksX1_whyNoOrder_1 : cX1_whyNoOrder.data.toList.drop 24 = dktX1_whyNoOrder_1 := dk_seg dksX1_whyNoOrder_0 24 rfl rfl
theorem dX1_whyNoOrder_0 : decode cX1_whyNoOrder 0 = .ok (.iload_n 1, 1) := dk_27 (dk_at dksX1_whyNoOrder_0 0 rfl rfl)
theorem dX1_whyNoOrder_1 : decode cX1_whyNoOrder 1 = .ok (.invokestatic 100, 3) := dk_184 0 100 (dk_at dksX1_whyNoOrder_0 1 rfl rfl)
theorem dX1_whyNoOrder_4 : decode cX1_whyNoOrder 4 = .ok (.ifCond .eq 15, 3) := dk_153 0 15 (dk_at dksX1_whyNoOrder_0 4 rfl rfl)
theorem dX1_whyNoOrder_7 : decode cX1_whyNoOrder 7 = .ok (.aload_n 0, 1) := dk_42 (dk_at dksX1_whyNoOrder_0 7 rfl rfl)
theorem dX1_whyNoOrder_8 : decode cX1_whyNoOrder 8 = .ok (.iload_n 2, 1) := dk_28 (dk_at dksX1_whyNoOrder_0 8 rfl rfl)
theorem dX1_whyNoOrder_9 : decode cX1_whyNoOrder 9 = .ok (.invokevirtual 87, 3) := dk_182 0 87 (dk_at dksX1_whyNoOrder_0 9 rfl rfl)
theorem dX1_whyNoOrder_12 : decode cX1_whyNoOrder 12 = .ok (.ifCond .eq 7, 3) := dk_153 0 7 (dk_at dksX1_whyNoOrder_0 12 rfl rfl)
theorem dX1_whyNoOrder_15 : decode cX1_whyNoOrder 15 = .ok (.iconst 1, 1) := dk_4 (dk_at dksX1_whyNoOrder_0 15 rfl rfl)
theorem dX1_whyNoOrder_16 : decode cX1_whyNoOrder 16 = .ok (.goto 4, 3) := dk_167 0 4 (dk_at dksX1_whyNoOrder_0 16 rfl rfl)
theorem dX1_whyNoOrder_19 : decode cX1_whyNoOrder 19 = .ok (.iconst 0, 1) := dk_3 (dk_at dksX1_whyNoOrder_0 19 rfl rfl)
theorem dX1_whyNoOrder_20 : decode cX1_whyNoOrder 20 = .ok (.invokestatic 91, 3) := dk_184 0 91 (dk_at dksX1_whyNoOrder_0 20 rfl rfl)
theorem dX1_whyNoOrder_23 : decode cX1_whyNoOrder 23 = .ok (.aload_n 0, 1) := dk_42 (dk_at dksX1_whyNoOrder_0 23 rfl rfl)
theorem dX1_whyNoOrder_24 : decode cX1_whyNoOrder 24 = .ok (.getfield 19, 3) := dk_180 0 19 (dk_at dksX1_whyNoOrder_1 0 rfl rfl)
theorem dX1_whyNoOrder_27 : decode cX1_whyNoOrder 27 = .ok (.iload_n 1, 1) := dk_27 (dk_at dksX1_whyNoOrder_1 3 rfl rfl)
theorem dX1_whyNoOrder_28 : decode cX1_whyNoOrder 28 = .ok (.iload_n 2, 1) := dk_28 (dk_at dksX1_whyNoOrder_1 4 rfl rfl)
theorem dX1_whyNoOrder_29 : decode cX1_whyNoOrder 29 = .ok (.invokevirtual 180, 3) := dk_182 0 180 (dk_at dksX1_whyNoOrder_1 5 rfl rfl)
theorem dX1_whyNoOrder_32 : decode cX1_whyNoOrder 32 = .ok (.ireturn, 1) := dk_172 (dk_at dksX1_whyNoOrder_1 8 rfl rfl)
abbrev cX1_wouldGo : ByteArray := prog_1_method_73_code
def yX1_wouldGo : MethodName := ⟨RX1, "wouldGo", "(I)I"⟩
def dkwX1_wouldGo_0 : List UInt8 := [42, 27, 182, 0, 145, 87, 42, 180, 0, 19, 182, 1, 109, 27, 46, 172]
abbrev dktX1_wouldGo_0 : List UInt8 := dkwX1_wouldGo_0 ++ []
theorem dksX1_wouldGo_0 : cX1_wouldGo.data.toList.drop 0 = dktX1_wouldGo_0 := by decide +kernel
theorem dX1_wouldGo_0 : decode cX1_wouldGo 0 = .ok (.aload_n 0, 1) := dk_42 (dk_at dksX1_wouldGo_0 0 rfl rfl)
theorem dX1_wouldGo_1 : decode cX1_wouldGo 1 = .ok (.iload_n 1, 1) := dk_27 (dk_at dksX1_wouldGo_0 1 rfl rfl)
theorem dX1_wouldGo_2 : decode cX1_wouldGo 2 = .ok (.invokevirtual 145, 3) := dk_182 0 145 (dk_at dksX1_wouldGo_0 2 rfl rfl)
theorem dX1_wouldGo_5 : decode cX1_wouldGo 5 = .ok (.pop, 1) := dk_87 (dk_at dksX1_wouldGo_0 5 rfl rfl)
theorem dX1_wouldGo_6 : decode cX1_wouldGo 6 = .ok (.aload_n 0, 1) := dk_42 (dk_at dksX1_wouldGo_0 6 rfl rfl)
theorem dX1_wouldGo_7 : decode cX1_wouldGo 7 = .ok (.getfield 19, 3) := dk_180 0 19 (dk_at dksX1_wouldGo_0 7 rfl rfl)
theorem dX1_wouldGo_10 : decode cX1_wouldGo 10 = .ok (.invokevirtual 365, 3) := dk_182 1 109 (dk_at dksX1_wouldGo_0 10 rfl rfl)
theorem dX1_wouldGo_13 : decode cX1_wouldGo 13 = .ok (.iload_n 1, 1) := dk_27 (dk_at dksX1_wouldGo_0 13 rfl rfl)
theorem dX1_wouldGo_14 : decode cX1_wouldGo 14 = .ok (.iaload, 1) := dk_46 (dk_at dksX1_wouldGo_0 14 rfl rfl)
theorem dX1_wouldGo_15 : decode cX1_wouldGo 15 = .ok (.ireturn, 1) := dk_172 (dk_at dksX1_wouldGo_0 15 rfl rfl)
theorem q96 : (Jvm.Cond.initialized "CourierClash") ∈ lw_all := lw_g (lw_at lw_m1 1 rfl) rfl
theorem q153 : (Jvm.Cond.instantiable "CourierClash" (7 : Nat)) ∈ lw_all := lw_g (lw_at lw_m1 58 rfl) rfl
theorem q155 : (Jvm.Cond.instanceMethod ({ cls := "CourierClash", name := "<init>", desc := "()V" } : Jvm.MethodName)) ∈ lw_all := lw_g (lw_at lw_m1 60 rfl) rfl
theorem q156 : (Jvm.Cond.code ({ cls := "CourierClash", name := "<init>", desc := "()V" } : Jvm.MethodName) prog_1_method_5_code (1 : Nat) (Option.none : Option Jvm.ClassFile.FieldType)) ∈ lw_all := lw_g (lw_at lw_m1 61 rfl) rfl
theorem q157 : (Jvm.Cond.methodLink "CourierClash" (13 : Nat) ({ cls := "java/lang/Object", name := "<init>", desc := "()V" } : Jvm.MethodName)) ∈ lw_all := lw_g (lw_at lw_m1 62 rfl) rfl
theorem q160 : (Jvm.Cond.classLink "CourierClash" (16 : Nat) "CourierClash$Game") ∈ lw_all := lw_g (lw_at lw_m1 65 rfl) rfl
theorem q162 : (Jvm.Cond.methodLinkNest "CourierClash" (18 : Nat) ({ cls := "CourierClash$Game", name := "<init>", desc := "()V" } : Jvm.MethodName) "CourierClash") ∈ lw_tbl := lw_at lw_m1 67 rfl
theorem q211 : (Jvm.Cond.fieldLinkNest "CourierClash" (247 : Nat) "CourierClash$Courier" "junction" "I" "CourierClash") ∈ lw_tbl := lw_at lw_m1 116 rfl
theorem q214 : (Jvm.Cond.fieldLinkNest "CourierClash" (149 : Nat) "CourierClash$Courier" "vehicle" "LCourierClash$Vehicle;" "CourierClash") ∈ lw_tbl := lw_at lw_m1 119 rfl
theorem q217 : (Jvm.Cond.fieldLinkNest "CourierClash" (183 : Nat) "CourierClash$Courier" "order" "I" "CourierClash") ∈ lw_tbl := lw_at lw_m1 122 rfl
theorem q220 : (Jvm.Cond.fieldLinkNest "CourierClash" (250 : Nat) "CourierClash$Courier" "moves" "I" "CourierClash") ∈ lw_tbl := lw_at lw_m1 125 rfl
theorem q223 : (Jvm.Cond.fieldLinkNest "CourierClash" (253 : Nat) "CourierClash$Courier" "outcome" "I" "CourierClash") ∈ lw_tbl := lw_at lw_m1 128 rfl
theorem q238 : (Jvm.Cond.static ({ cls := "CourierClash", name := "byRows", desc := "()Ljava/util/Comparator;" } : Jvm.MethodName)) ∈ lw_all := lw_g (lw_at lw_m1 143 rfl) rfl
theorem q239 : (Jvm.Cond.code ({ cls := "CourierClash", name := "byRows", desc := "()Ljava/util/Comparator;" } : Jvm.MethodName) prog_1_method_4_code (0 : Nat) (Option.some (Jvm.ClassFile.FieldType.object "java/util/Comparator"))) ∈ lw_all := lw_g (lw_at lw_m1 144 rfl) rfl
theorem q240 : (Jvm.Cond.classLink "CourierClash" (10 : Nat) "CourierClash$3") ∈ lw_all := lw_g (lw_at lw_m1 145 rfl) rfl
theorem q242 : (Jvm.Cond.methodLink "CourierClash" (12 : Nat) ({ cls := "CourierClash$3", name := "<init>", desc := "()V" } : Jvm.MethodName)) ∈ lw_all := lw_g (lw_at lw_m1 147 rfl) rfl
theorem q281 : (Jvm.Cond.fieldLinkNest "CourierClash" (84 : Nat) "CourierClash$Game" "streets" "Ljava/util/ArrayList;" "CourierClash") ∈ lw_tbl := lw_at lw_m1 186 rfl
theorem q283 : (Jvm.Cond.fieldLinkNest "CourierClash" (103 : Nat) "CourierClash$Game" "couriers" "[LCourierClash$Courier;" "CourierClash") ∈ lw_tbl := lw_at lw_m1 188 rfl
theorem q285 : (Jvm.Cond.fieldLinkNest "CourierClash" (107 : Nat) "CourierClash$Game" "parcels" "Ljava/util/ArrayList;" "CourierClash") ∈ lw_tbl := lw_at lw_m1 190 rfl
theorem q287 : (Jvm.Cond.fieldLinkNest "CourierClash" (288 : Nat) "CourierClash$Game" "notes" "Ljava/util/TreeMap;" "CourierClash") ∈ lw_tbl := lw_at lw_m1 192 rfl
theorem q289 : (Jvm.Cond.fieldLinkNest "CourierClash" (276 : Nat) "CourierClash$Game" "points" "[I" "CourierClash") ∈ lw_tbl := lw_at lw_m1 194 rfl
theorem q291 : (Jvm.Cond.fieldLinkNest "CourierClash" (164 : Nat) "CourierClash$Game" "capacity" "I" "CourierClash") ∈ lw_tbl := lw_at lw_m1 196 rfl
theorem q293 : (Jvm.Cond.fieldLinkNest "CourierClash" (177 : Nat) "CourierClash$Game" "limit" "I" "CourierClash") ∈ lw_tbl := lw_at lw_m1 198 rfl
theorem q295 : (Jvm.Cond.fieldLinkNest "CourierClash" (237 : Nat) "CourierClash$Game" "turns" "I" "CourierClash") ∈ lw_tbl := lw_at lw_m1 200 rfl
theorem q297 : (Jvm.Cond.fieldLinkNest "CourierClash" (282 : Nat) "CourierClash$Game" "failed" "I" "CourierClash") ∈ lw_tbl := lw_at lw_m1 202 rfl
theorem q299 : (Jvm.Cond.fieldLinkNest "CourierClash" (228 : Nat) "CourierClash$Game" "stop" "I" "CourierClash") ∈ lw_tbl := lw_at lw_m1 204 rfl
theorem q331 : (Jvm.Cond.classLink "CourierClash" (25 : Nat) "CourierClash$Ways") ∈ lw_all := lw_g (lw_at lw_m1 236 rfl) rfl
theorem q333 : (Jvm.Cond.methodLinkNest "CourierClash" (27 : Nat) ({ cls := "CourierClash$Ways", name := "<init>", desc := "()V" } : Jvm.MethodName) "CourierClash") ∈ lw_tbl := lw_at lw_m1 238 rfl
theorem q338 : (Jvm.Cond.fieldLinkNest "CourierClash" (317 : Nat) "CourierClash$Ways" "far" "[I" "CourierClash") ∈ lw_tbl := lw_at lw_m2 3 rfl
theorem q348 : (Jvm.Cond.classLink "CourierClash" (36 : Nat) "java/util/ArrayList") ∈ lw_all := lw_g (lw_at lw_m2 13 rfl) rfl
theorem q349 : (Jvm.Cond.methodLink "CourierClash" (38 : Nat) ({ cls := "java/util/ArrayList", name := "<init>", desc := "()V" } : Jvm.MethodName)) ∈ lw_all := lw_g (lw_at lw_m2 14 rfl) rfl
theorem q350 : (Jvm.Cond.classLink "CourierClash" (43 : Nat) "java/lang/StringBuilder") ∈ lw_all := lw_g (lw_at lw_m2 15 rfl) rfl
theorem q352 : (Jvm.Cond.methodLink "CourierClash" (45 : Nat) ({ cls := "java/lang/StringBuilder", name := "<init>", desc := "(I)V" } : Jvm.MethodName)) ∈ lw_all := lw_g (lw_at lw_m2 17 rfl) rfl
theorem q383 : (Jvm.Cond.methodLink "CourierClash" (52 : Nat) ({ cls := "CourierClash$Game", name := "noteAnew", desc := "()V" } : Jvm.MethodName)) ∈ lw_all := lw_g (lw_at lw_m2 48 rfl) rfl
theorem q831 : (Jvm.Cond.fieldLink "CourierClash" (19 : Nat) "CourierClash" "now" "LCourierClash$Game;") ∈ lw_all := lw_g (lw_at lw_m4 16 rfl) rfl
theorem q832 : (Jvm.Cond.fieldLink "CourierClash" (28 : Nat) "CourierClash" "ways" "LCourierClash$Ways;") ∈ lw_all := lw_g (lw_at lw_m4 17 rfl) rfl
theorem q833 : (Jvm.Cond.fieldLink "CourierClash" (32 : Nat) "CourierClash" "masks" "[I") ∈ lw_all := lw_g (lw_at lw_m4 18 rfl) rfl
theorem q834 : (Jvm.Cond.fieldLink "CourierClash" (39 : Nat) "CourierClash" "saved" "Ljava/util/ArrayList;") ∈ lw_all := lw_g (lw_at lw_m4 19 rfl) rfl
theorem q835 : (Jvm.Cond.fieldLink "CourierClash" (234 : Nat) "CourierClash" "snapshot" "LCourierClash$Game;") ∈ lw_all := lw_g (lw_at lw_m4 20 rfl) rfl
theorem q837 : (Jvm.Cond.fieldLink "CourierClash" (48 : Nat) "CourierClash" "text" "Ljava/lang/StringBuilder;") ∈ lw_all := lw_g (lw_at lw_m4 22 rfl) rfl
theorem q838 : (Jvm.Cond.fieldLink "CourierClash" (386 : Nat) "CourierClash" "hash" "J") ∈ lw_all := lw_g (lw_at lw_m4 23 rfl) rfl
theorem q839 : (Jvm.Cond.laysFinal "CourierClash" "CourierClash" "now" "LCourierClash$Game;") ∈ lw_all := lw_g (lw_at lw_m4 24 rfl) rfl
theorem q840 : (Jvm.Cond.soleField "CourierClash" "now") ∈ lw_all := lw_g (lw_at lw_m4 25 rfl) rfl
theorem q841 : (Jvm.Cond.laysFinal "CourierClash" "CourierClash" "ways" "LCourierClash$Ways;") ∈ lw_all := lw_g (lw_at lw_m4 26 rfl) rfl
theorem q842 : (Jvm.Cond.soleField "CourierClash" "ways") ∈ lw_all := lw_g (lw_at lw_m4 27 rfl) rfl
theorem q843 : (Jvm.Cond.laysFinal "CourierClash" "CourierClash" "masks" "[I") ∈ lw_all := lw_g (lw_at lw_m4 28 rfl) rfl
theorem q844 : (Jvm.Cond.soleField "CourierClash" "masks") ∈ lw_all := lw_g (lw_at lw_m4 29 rfl) rfl
theorem q845 : (Jvm.Cond.laysFinal "CourierClash" "CourierClash" "saved" "Ljava/util/ArrayList;") ∈ lw_all := lw_g (lw_at lw_m4 30 rfl) rfl
theorem q846 : (Jvm.Cond.soleField "CourierClash" "saved") ∈ lw_all := lw_g (lw_at lw_m4 31 rfl) rfl
theorem q847 : (Jvm.Cond.lays "CourierClash" "CourierClash" "snapshot" "LCourierClash$Game;") ∈ lw_all := lw_g (lw_at lw_m4 32 rfl) rfl
theorem q848 : (Jvm.Cond.soleField "CourierClash" "snapshot") ∈ lw_all := lw_g (lw_at lw_m4 33 rfl) rfl
theorem q849 : (Jvm.Cond.laysFinal "CourierClash" "CourierClash" "text" "Ljava/lang/StringBuilder;") ∈ lw_all := lw_g (lw_at lw_m4 34 rfl) rfl
theorem q850 : (Jvm.Cond.soleField "CourierClash" "text") ∈ lw_all := lw_g (lw_at lw_m4 35 rfl) rfl
theorem q851 : (Jvm.Cond.lays "CourierClash" "CourierClash" "hash" "J") ∈ lw_all := lw_g (lw_at lw_m4 36 rfl) rfl
theorem q852 : (Jvm.Cond.soleField "CourierClash" "hash") ∈ lw_all := lw_g (lw_at lw_m4 37 rfl) rfl
theorem q853 : (Jvm.Cond.superclass "CourierClash" "java/lang/Object") ∈ lw_all := lw_g (lw_at lw_m4 38 rfl) rfl
theorem q855 : (Jvm.Cond.instanceMethod ({ cls := "CourierClash", name := "clearBuffer", desc := "()I" } : Jvm.MethodName)) ∈ lw_all := lw_g (lw_at lw_m4 40 rfl) rfl
theorem q856 : (Jvm.Cond.selects "CourierClash" ({ cls := "CourierClash", name := "clearBuffer", desc := "()I" } : Jvm.MethodName) ({ cls := "CourierClash", name := "clearBuffer", desc := "()I" } : Jvm.MethodName)) ∈ lw_all := lw_g (lw_at lw_m4 41 rfl) rfl
theorem q857 : (Jvm.Cond.code ({ cls := "CourierClash", name := "clearBuffer", desc := "()I" } : Jvm.MethodName) prog_1_method_28_code (2 : Nat) (Option.some Jvm.ClassFile.FieldType.int)) ∈ lw_all := lw_g (lw_at lw_m4 42 rfl) rfl
theorem q858 : (Jvm.Cond.methodLink "CourierClash" (195 : Nat) ({ cls := "java/lang/StringBuilder", name := "length", desc := "()I" } : Jvm.MethodName)) ∈ lw_all := lw_g (lw_at lw_m4 43 rfl) rfl
theorem q865 : (Jvm.Cond.methodLink "CourierClash" (202 : Nat) ({ cls := "java/lang/StringBuilder", name := "setLength", desc := "(I)V" } : Jvm.MethodName)) ∈ lw_all := lw_g (lw_at lw_m4 50 rfl) rfl
theorem q1175 : (Jvm.Cond.instanceMethod ({ cls := "CourierClash", name := "firstError", desc := "()I" } : Jvm.MethodName)) ∈ lw_all := lw_g (lw_at lw_m5 120 rfl) rfl
theorem q1176 : (Jvm.Cond.selects "CourierClash" ({ cls := "CourierClash", name := "firstError", desc := "()I" } : Jvm.MethodName) ({ cls := "CourierClash", name := "firstError", desc := "()I" } : Jvm.MethodName)) ∈ lw_all := lw_g (lw_at lw_m5 121 rfl) rfl
theorem q1177 : (Jvm.Cond.code ({ cls := "CourierClash", name := "firstError", desc := "()I" } : Jvm.MethodName) prog_1_method_29_code (2 : Nat) (Option.some Jvm.ClassFile.FieldType.int)) ∈ lw_all := lw_g (lw_at lw_m5 122 rfl) rfl
theorem q1178 : (Jvm.Cond.classLink "CourierClash" (205 : Nat) "CourierClash$Reader") ∈ lw_all := lw_g (lw_at lw_m5 123 rfl) rfl
theorem q1180 : (Jvm.Cond.methodLinkNest "CourierClash" (207 : Nat) ({ cls := "CourierClash$Reader", name := "<init>", desc := "(LCourierClash;)V" } : Jvm.MethodName) "CourierClash") ∈ lw_tbl := lw_at lw_m5 125 rfl
theorem q1185 : (Jvm.Cond.fieldLinkNest "CourierClash" (218 : Nat) "CourierClash$Reader" "parts" "[I" "CourierClash") ∈ lw_tbl := lw_at lw_m5 130 rfl
theorem q1187 : (Jvm.Cond.fieldLinkNest "CourierClash" (215 : Nat) "CourierClash$Reader" "many" "I" "CourierClash") ∈ lw_tbl := lw_at lw_m5 132 rfl
theorem q1189 : (Jvm.Cond.fieldLinkNest "CourierClash" (213 : Nat) "CourierClash$Reader" "place" "I" "CourierClash") ∈ lw_tbl := lw_at lw_m5 134 rfl
theorem q1200 : (Jvm.Cond.methodLink "CourierClash" (210 : Nat) ({ cls := "CourierClash$Reader", name := "isGame", desc := "()Z" } : Jvm.MethodName)) ∈ lw_all := lw_g (lw_at lw_m5 145 rfl) rfl
theorem q1235 : (Jvm.Cond.static ({ cls := "CourierClash", name := "in", desc := "(III)Z" } : Jvm.MethodName)) ∈ lw_all := lw_g (lw_at lw_m5 180 rfl) rfl
theorem q1236 : (Jvm.Cond.code ({ cls := "CourierClash", name := "in", desc := "(III)Z" } : Jvm.MethodName) prog_1_method_1_code (3 : Nat) (Option.some Jvm.ClassFile.FieldType.boolean)) ∈ lw_all := lw_g (lw_at lw_m5 181 rfl) rfl
theorem q1243 : (Jvm.Cond.instanceMethod ({ cls := "CourierClash", name := "hasStopped", desc := "()Z" } : Jvm.MethodName)) ∈ lw_all := lw_g (lw_at lw_m5 188 rfl) rfl
theorem q1244 : (Jvm.Cond.selects "CourierClash" ({ cls := "CourierClash", name := "hasStopped", desc := "()Z" } : Jvm.MethodName) ({ cls := "CourierClash", name := "hasStopped", desc := "()Z" } : Jvm.MethodName)) ∈ lw_all := lw_g (lw_at lw_m5 189 rfl) rfl
theorem q1245 : (Jvm.Cond.code ({ cls := "CourierClash", name := "hasStopped", desc := "()Z" } : Jvm.MethodName) prog_1_method_33_code (1 : Nat) (Option.some Jvm.ClassFile.FieldType.boolean)) ∈ lw_all := lw_g (lw_at lw_m5 190 rfl) rfl
theorem q1247 : (Jvm.Cond.instanceMethod ({ cls := "CourierClash", name := "keep", desc := "()I" } : Jvm.MethodName)) ∈ lw_all := lw_g (lw_at lw_m5 192 rfl) rfl
theorem q1248 : (Jvm.Cond.selects "CourierClash" ({ cls := "CourierClash", name := "keep", desc := "()I" } : Jvm.MethodName) ({ cls := "CourierClash", name := "keep", desc := "()I" } : Jvm.MethodName)) ∈ lw_all := lw_g (lw_at lw_m5 193 rfl) rfl
theorem q1249 : (Jvm.Cond.code ({ cls := "CourierClash", name := "keep", desc := "()I" } : Jvm.MethodName) prog_1_method_36_code (1 : Nat) (Option.some Jvm.ClassFile.FieldType.int)) ∈ lw_all := lw_g (lw_at lw_m5 194 rfl) rfl
theorem q1250 : (Jvm.Cond.methodLink "CourierClash" (63 : Nat) ({ cls := "CourierClash$Game", name := "become", desc := "(LCourierClash$Game;)LCourierClash$Game;" } : Jvm.MethodName)) ∈ lw_all := lw_g (lw_at lw_m5 195 rfl) rfl
theorem q1272 : (Jvm.Cond.fieldLinkNest "CourierClash" (240 : Nat) "CourierClash$Street" "from" "I" "CourierClash") ∈ lw_tbl := lw_at lw_m5 217 rfl
theorem q1276 : (Jvm.Cond.fieldLinkNest "CourierClash" (186 : Nat) "CourierClash$Street" "to" "I" "CourierClash") ∈ lw_tbl := lw_at lw_m5 221 rfl
theorem q1280 : (Jvm.Cond.fieldLinkNest "CourierClash" (243 : Nat) "CourierClash$Street" "isOpen" "Z" "CourierClash") ∈ lw_tbl := lw_at lw_m5 225 rfl
theorem q1313 : (Jvm.Cond.selects "CourierClash" ({ cls := "java/lang/Object", name := "getClass", desc := "()Ljava/lang/Class;" } : Jvm.MethodName) ({ cls := "java/lang/Object", name := "getClass", desc := "()Ljava/lang/Class;" } : Jvm.MethodName)) ∈ lw_all := lw_g (lw_at lw_m6 18 rfl) rfl
theorem q1370 : (Jvm.Cond.fieldLinkNest "CourierClash" (362 : Nat) "CourierClash$Parcel" "number" "I" "CourierClash") ∈ lw_tbl := lw_at lw_m6 75 rfl
theorem q1373 : (Jvm.Cond.fieldLinkNest "CourierClash" (331 : Nat) "CourierClash$Parcel" "target" "I" "CourierClash") ∈ lw_tbl := lw_at lw_m6 78 rfl
theorem q1377 : (Jvm.Cond.fieldLinkNest "CourierClash" (324 : Nat) "CourierClash$Parcel" "weight" "I" "CourierClash") ∈ lw_tbl := lw_at lw_m6 82 rfl
theorem q1384 : (Jvm.Cond.fieldLinkNest "CourierClash" (330 : Nat) "CourierClash$Parcel" "junction" "I" "CourierClash") ∈ lw_tbl := lw_at lw_m6 89 rfl
theorem q1387 : (Jvm.Cond.fieldLinkNest "CourierClash" (266 : Nat) "CourierClash$Parcel" "courier" "I" "CourierClash") ∈ lw_tbl := lw_at lw_m6 92 rfl
theorem q1390 : (Jvm.Cond.fieldLinkNest "CourierClash" (263 : Nat) "CourierClash$Parcel" "isDelivered" "Z" "CourierClash") ∈ lw_tbl := lw_at lw_m6 95 rfl
theorem q1502 : (Jvm.Cond.instanceMethod ({ cls := "CourierClash", name := "savedStates", desc := "()I" } : Jvm.MethodName)) ∈ lw_all := lw_g (lw_at lw_m6 207 rfl) rfl
theorem q1503 : (Jvm.Cond.selects "CourierClash" ({ cls := "CourierClash", name := "savedStates", desc := "()I" } : Jvm.MethodName) ({ cls := "CourierClash", name := "savedStates", desc := "()I" } : Jvm.MethodName)) ∈ lw_all := lw_g (lw_at lw_m6 208 rfl) rfl
theorem q1504 : (Jvm.Cond.code ({ cls := "CourierClash", name := "savedStates", desc := "()I" } : Jvm.MethodName) prog_1_method_38_code (1 : Nat) (Option.some Jvm.ClassFile.FieldType.int)) ∈ lw_all := lw_g (lw_at lw_m6 209 rfl) rfl
theorem q1505 : (Jvm.Cond.methodLink "CourierClash" (55 : Nat) ({ cls := "java/util/ArrayList", name := "size", desc := "()I" } : Jvm.MethodName)) ∈ lw_all := lw_g (lw_at lw_m6 210 rfl) rfl
theorem q1507 : (Jvm.Cond.instanceMethod ({ cls := "CourierClash", name := "streets", desc := "()I" } : Jvm.MethodName)) ∈ lw_all := lw_g (lw_at lw_m6 212 rfl) rfl
theorem q1508 : (Jvm.Cond.selects "CourierClash" ({ cls := "CourierClash", name := "streets", desc := "()I" } : Jvm.MethodName) ({ cls := "CourierClash", name := "streets", desc := "()I" } : Jvm.MethodName)) ∈ lw_all := lw_g (lw_at lw_m6 213 rfl) rfl
theorem q1509 : (Jvm.Cond.code ({ cls := "CourierClash", name := "streets", desc := "()I" } : Jvm.MethodName) prog_1_method_39_code (1 : Nat) (Option.some Jvm.ClassFile.FieldType.int)) ∈ lw_all := lw_g (lw_at lw_m6 214 rfl) rfl
theorem q1511 : (Jvm.Cond.instanceMethod ({ cls := "CourierClash", name := "parcels", desc := "()I" } : Jvm.MethodName)) ∈ lw_all := lw_g (lw_at lw_m6 216 rfl) rfl
theorem q1512 : (Jvm.Cond.selects "CourierClash" ({ cls := "CourierClash", name := "parcels", desc := "()I" } : Jvm.MethodName) ({ cls := "CourierClash", name := "parcels", desc := "()I" } : Jvm.MethodName)) ∈ lw_all := lw_g (lw_at lw_m6 217 rfl) rfl
theorem q1513 : (Jvm.Cond.code ({ cls := "CourierClash", name := "parcels", desc := "()I" } : Jvm.MethodName) prog_1_method_50_code (1 : Nat) (Option.some Jvm.ClassFile.FieldType.int)) ∈ lw_all := lw_g (lw_at lw_m6 218 rfl) rfl
theorem q1515 : (Jvm.Cond.instanceMethod ({ cls := "CourierClash", name := "turnsPassed", desc := "()I" } : Jvm.MethodName)) ∈ lw_all := lw_g (lw_at lw_m6 220 rfl) rfl
theorem q1516 : (Jvm.Cond.selects "CourierClash" ({ cls := "CourierClash", name := "turnsPassed", desc := "()I" } : Jvm.MethodName) ({ cls := "CourierClash", name := "turnsPassed", desc := "()I" } : Jvm.MethodName)) ∈ lw_all := lw_g (lw_at lw_m6 221 rfl) rfl
theorem q1517 : (Jvm.Cond.code ({ cls := "CourierClash", name := "turnsPassed", desc := "()I" } : Jvm.MethodName) prog_1_method_57_code (1 : Nat) (Option.some Jvm.ClassFile.FieldType.int)) ∈ lw_all := lw_g (lw_at lw_m6 222 rfl) rfl
theorem q1519 : (Jvm.Cond.instanceMethod ({ cls := "CourierClash", name := "failedMoves", desc := "()I" } : Jvm.MethodName)) ∈ lw_all := lw_g (lw_at lw_m6 224 rfl) rfl
theorem q1520 : (Jvm.Cond.selects "CourierClash" ({ cls := "CourierClash", name := "failedMoves", desc := "()I" } : Jvm.MethodName) ({ cls := "CourierClash", name := "failedMoves", desc := "()I" } : Jvm.MethodName)) ∈ lw_all := lw_g (lw_at lw_m6 225 rfl) rfl
theorem q1521 : (Jvm.Cond.code ({ cls := "CourierClash", name := "failedMoves", desc := "()I" } : Jvm.MethodName) prog_1_method_58_code (1 : Nat) (Option.some Jvm.ClassFile.FieldType.int)) ∈ lw_all := lw_g (lw_at lw_m6 226 rfl) rfl
theorem q1523 : (Jvm.Cond.instanceMethod ({ cls := "CourierClash", name := "timesNoted", desc := "()I" } : Jvm.MethodName)) ∈ lw_all := lw_g (lw_at lw_m6 228 rfl) rfl
theorem q1524 : (Jvm.Cond.selects "CourierClash" ({ cls := "CourierClash", name := "timesNoted", desc := "()I" } : Jvm.MethodName) ({ cls := "CourierClash", name := "timesNoted", desc := "()I" } : Jvm.MethodName)) ∈ lw_all := lw_g (lw_at lw_m6 229 rfl) rfl
theorem q1525 : (Jvm.Cond.code ({ cls := "CourierClash", name := "timesNoted", desc := "()I" } : Jvm.MethodName) prog_1_method_59_code (1 : Nat) (Option.some Jvm.ClassFile.FieldType.int)) ∈ lw_all := lw_g (lw_at lw_m6 230 rfl) rfl
theorem q1526 : (Jvm.Cond.methodLink "CourierClash" (285 : Nat) ({ cls := "CourierClash$Game", name := "timesNoted", desc := "()I" } : Jvm.MethodName)) ∈ lw_all := lw_g (lw_at lw_m6 231 rfl) rfl
theorem q1528 : (Jvm.Cond.instanceMethod ({ cls := "CourierClash", name := "positionsNoted", desc := "()I" } : Jvm.MethodName)) ∈ lw_all := lw_g (lw_at lw_m6 233 rfl) rfl
theorem q1529 : (Jvm.Cond.selects "CourierClash" ({ cls := "CourierClash", name := "positionsNoted", desc := "()I" } : Jvm.MethodName) ({ cls := "CourierClash", name := "positionsNoted", desc := "()I" } : Jvm.MethodName)) ∈ lw_all := lw_g (lw_at lw_m6 234 rfl) rfl
theorem q1530 : (Jvm.Cond.code ({ cls := "CourierClash", name := "positionsNoted", desc := "()I" } : Jvm.MethodName) prog_1_method_60_code (1 : Nat) (Option.some Jvm.ClassFile.FieldType.int)) ∈ lw_all := lw_g (lw_at lw_m6 235 rfl) rfl
theorem q1531 : (Jvm.Cond.methodLink "CourierClash" (292 : Nat) ({ cls := "java/util/TreeMap", name := "size", desc := "()I" } : Jvm.MethodName)) ∈ lw_all := lw_g (lw_at lw_m6 236 rfl) rfl
theorem q1536 : (Jvm.Cond.instanceMethod ({ cls := "CourierClash", name := "whyOver", desc := "()I" } : Jvm.MethodName)) ∈ lw_all := lw_g (lw_at lw_m7 1 rfl) rfl
theorem q1537 : (Jvm.Cond.selects "CourierClash" ({ cls := "CourierClash", name := "whyOver", desc := "()I" } : Jvm.MethodName) ({ cls := "CourierClash", name := "whyOver", desc := "()I" } : Jvm.MethodName)) ∈ lw_all := lw_g (lw_at lw_m7 2 rfl) rfl
theorem q1538 : (Jvm.Cond.code ({ cls := "CourierClash", name := "whyOver", desc := "()I" } : Jvm.MethodName) prog_1_method_61_code (1 : Nat) (Option.some Jvm.ClassFile.FieldType.int)) ∈ lw_all := lw_g (lw_at lw_m7 3 rfl) rfl
theorem q1539 : (Jvm.Cond.methodLink "CourierClash" (189 : Nat) ({ cls := "CourierClash$Game", name := "whyOver", desc := "()I" } : Jvm.MethodName)) ∈ lw_all := lw_g (lw_at lw_m7 4 rfl) rfl
theorem q1552 : (Jvm.Cond.instanceMethod ({ cls := "CourierClash", name := "meanLoad", desc := "()F" } : Jvm.MethodName)) ∈ lw_all := lw_g (lw_at lw_m7 17 rfl) rfl
theorem q1553 : (Jvm.Cond.selects "CourierClash" ({ cls := "CourierClash", name := "meanLoad", desc := "()F" } : Jvm.MethodName) ({ cls := "CourierClash", name := "meanLoad", desc := "()F" } : Jvm.MethodName)) ∈ lw_all := lw_g (lw_at lw_m7 18 rfl) rfl
theorem q1554 : (Jvm.Cond.code ({ cls := "CourierClash", name := "meanLoad", desc := "()F" } : Jvm.MethodName) prog_1_method_75_code (1 : Nat) (Option.some Jvm.ClassFile.FieldType.float)) ∈ lw_all := lw_g (lw_at lw_m7 19 rfl) rfl
theorem q1555 : (Jvm.Cond.methodLink "CourierClash" (373 : Nat) ({ cls := "CourierClash", name := "meanTold", desc := "()F" } : Jvm.MethodName)) ∈ lw_all := lw_g (lw_at lw_m7 20 rfl) rfl
theorem q1556 : (Jvm.Cond.privateMethod ({ cls := "CourierClash", name := "meanTold", desc := "()F" } : Jvm.MethodName)) ∈ lw_tbl := lw_at lw_m7 21 rfl
theorem q1557 : (Jvm.Cond.instanceMethod ({ cls := "CourierClash", name := "meanTold", desc := "()F" } : Jvm.MethodName)) ∈ lw_all := lw_g (lw_at lw_m7 22 rfl) rfl
theorem q1558 : (Jvm.Cond.code ({ cls := "CourierClash", name := "meanTold", desc := "()F" } : Jvm.MethodName) prog_1_method_74_code (1 : Nat) (Option.some Jvm.ClassFile.FieldType.float)) ∈ lw_all := lw_g (lw_at lw_m7 23 rfl) rfl
theorem q1559 : (Jvm.Cond.methodLink "CourierClash" (369 : Nat) ({ cls := "CourierClash$Game", name := "loads", desc := "()I" } : Jvm.MethodName)) ∈ lw_all := lw_g (lw_at lw_m7 24 rfl) rfl
theorem q1571 : (Jvm.Cond.constantFloat "CourierClash" (372 : Nat) (1082130432 : UInt32)) ∈ lw_all := lw_g (lw_at lw_m7 36 rfl) rfl
theorem q1573 : (Jvm.Cond.instanceMethod ({ cls := "CourierClash", name := "deliveredShare", desc := "()D" } : Jvm.MethodName)) ∈ lw_all := lw_g (lw_at lw_m7 38 rfl) rfl
theorem q1574 : (Jvm.Cond.selects "CourierClash" ({ cls := "CourierClash", name := "deliveredShare", desc := "()D" } : Jvm.MethodName) ({ cls := "CourierClash", name := "deliveredShare", desc := "()D" } : Jvm.MethodName)) ∈ lw_all := lw_g (lw_at lw_m7 39 rfl) rfl
theorem q1575 : (Jvm.Cond.code ({ cls := "CourierClash", name := "deliveredShare", desc := "()D" } : Jvm.MethodName) prog_1_method_77_code (1 : Nat) (Option.some Jvm.ClassFile.FieldType.double)) ∈ lw_all := lw_g (lw_at lw_m7 40 rfl) rfl
theorem q1576 : (Jvm.Cond.methodLink "CourierClash" (380 : Nat) ({ cls := "CourierClash", name := "shareTold", desc := "()D" } : Jvm.MethodName)) ∈ lw_all := lw_g (lw_at lw_m7 41 rfl) rfl
theorem q1577 : (Jvm.Cond.privateMethod ({ cls := "CourierClash", name := "shareTold", desc := "()D" } : Jvm.MethodName)) ∈ lw_tbl := lw_at lw_m7 42 rfl
theorem q1578 : (Jvm.Cond.instanceMethod ({ cls := "CourierClash", name := "shareTold", desc := "()D" } : Jvm.MethodName)) ∈ lw_all := lw_g (lw_at lw_m7 43 rfl) rfl
theorem q1579 : (Jvm.Cond.code ({ cls := "CourierClash", name := "shareTold", desc := "()D" } : Jvm.MethodName) prog_1_method_76_code (2 : Nat) (Option.some Jvm.ClassFile.FieldType.double)) ∈ lw_all := lw_g (lw_at lw_m7 44 rfl) rfl
theorem q1580 : (Jvm.Cond.methodLink "CourierClash" (377 : Nat) ({ cls := "CourierClash$Game", name := "delivered", desc := "()I" } : Jvm.MethodName)) ∈ lw_all := lw_g (lw_at lw_m7 45 rfl) rfl
theorem q1585 : (Jvm.Cond.instanceMethod ({ cls := "CourierClash", name := "digest", desc := "()J" } : Jvm.MethodName)) ∈ lw_all := lw_g (lw_at lw_m7 50 rfl) rfl
theorem q1586 : (Jvm.Cond.selects "CourierClash" ({ cls := "CourierClash", name := "digest", desc := "()J" } : Jvm.MethodName) ({ cls := "CourierClash", name := "digest", desc := "()J" } : Jvm.MethodName)) ∈ lw_all := lw_g (lw_at lw_m7 51 rfl) rfl
theorem q1587 : (Jvm.Cond.code ({ cls := "CourierClash", name := "digest", desc := "()J" } : Jvm.MethodName) prog_1_method_83_code (2 : Nat) (Option.some Jvm.ClassFile.FieldType.long)) ∈ lw_all := lw_g (lw_at lw_m7 52 rfl) rfl
theorem q1588 : (Jvm.Cond.constantLong "CourierClash" (397 : Nat) (4357 : Int64)) ∈ lw_all := lw_g (lw_at lw_m7 53 rfl) rfl
theorem q1589 : (Jvm.Cond.methodLink "CourierClash" (399 : Nat) ({ cls := "CourierClash", name := "mixSums", desc := "()V" } : Jvm.MethodName)) ∈ lw_all := lw_g (lw_at lw_m7 54 rfl) rfl
theorem q1590 : (Jvm.Cond.privateMethod ({ cls := "CourierClash", name := "mixSums", desc := "()V" } : Jvm.MethodName)) ∈ lw_tbl := lw_at lw_m7 55 rfl
theorem q1591 : (Jvm.Cond.instanceMethod ({ cls := "CourierClash", name := "mixSums", desc := "()V" } : Jvm.MethodName)) ∈ lw_all := lw_g (lw_at lw_m7 56 rfl) rfl
theorem q1592 : (Jvm.Cond.code ({ cls := "CourierClash", name := "mixSums", desc := "()V" } : Jvm.MethodName) prog_1_method_80_code (2 : Nat) (Option.none : Option Jvm.ClassFile.FieldType)) ∈ lw_all := lw_g (lw_at lw_m7 57 rfl) rfl
theorem q1593 : (Jvm.Cond.methodLink "CourierClash" (390 : Nat) ({ cls := "CourierClash", name := "mix", desc := "(J)V" } : Jvm.MethodName)) ∈ lw_all := lw_g (lw_at lw_m7 58 rfl) rfl
theorem q1594 : (Jvm.Cond.privateMethod ({ cls := "CourierClash", name := "mix", desc := "(J)V" } : Jvm.MethodName)) ∈ lw_tbl := lw_at lw_m7 59 rfl
theorem q1595 : (Jvm.Cond.instanceMethod ({ cls := "CourierClash", name := "mix", desc := "(J)V" } : Jvm.MethodName)) ∈ lw_all := lw_g (lw_at lw_m7 60 rfl) rfl
theorem q1596 : (Jvm.Cond.code ({ cls := "CourierClash", name := "mix", desc := "(J)V" } : Jvm.MethodName) prog_1_method_78_code (3 : Nat) (Option.none : Option Jvm.ClassFile.FieldType)) ∈ lw_all := lw_g (lw_at lw_m7 61 rfl) rfl
theorem q1597 : (Jvm.Cond.constantLong "CourierClash" (384 : Nat) (31 : Int64)) ∈ lw_all := lw_g (lw_at lw_m7 62 rfl) rfl
theorem q1598 : (Jvm.Cond.methodLink "CourierClash" (279 : Nat) ({ cls := "CourierClash$Game", name := "pointsByParcels", desc := "(I)I" } : Jvm.MethodName)) ∈ lw_all := lw_g (lw_at lw_m7 63 rfl) rfl
theorem q1602 : (Jvm.Cond.methodLink "CourierClash" (95 : Nat) ({ cls := "java/util/ArrayList", name := "get", desc := "(I)Ljava/lang/Object;" } : Jvm.MethodName)) ∈ lw_all := lw_g (lw_at lw_m7 67 rfl) rfl
theorem q1603 : (Jvm.Cond.classLink "CourierClash" (98 : Nat) "CourierClash$Street") ∈ lw_all := lw_g (lw_at lw_m7 68 rfl) rfl
theorem q1604 : (Jvm.Cond.methodLink "CourierClash" (394 : Nat) ({ cls := "CourierClash", name := "mixIf", desc := "(Z)V" } : Jvm.MethodName)) ∈ lw_all := lw_g (lw_at lw_m7 69 rfl) rfl
theorem q1605 : (Jvm.Cond.privateMethod ({ cls := "CourierClash", name := "mixIf", desc := "(Z)V" } : Jvm.MethodName)) ∈ lw_tbl := lw_at lw_m7 70 rfl
theorem q1606 : (Jvm.Cond.instanceMethod ({ cls := "CourierClash", name := "mixIf", desc := "(Z)V" } : Jvm.MethodName)) ∈ lw_all := lw_g (lw_at lw_m7 71 rfl) rfl
theorem q1607 : (Jvm.Cond.code ({ cls := "CourierClash", name := "mixIf", desc := "(Z)V" } : Jvm.MethodName) prog_1_method_79_code (2 : Nat) (Option.none : Option Jvm.ClassFile.FieldType)) ∈ lw_all := lw_g (lw_at lw_m7 72 rfl) rfl
theorem q1608 : (Jvm.Cond.methodLink "CourierClash" (402 : Nat) ({ cls := "CourierClash", name := "mixCourier", desc := "(I)V" } : Jvm.MethodName)) ∈ lw_all := lw_g (lw_at lw_m7 73 rfl) rfl
theorem q1609 : (Jvm.Cond.privateMethod ({ cls := "CourierClash", name := "mixCourier", desc := "(I)V" } : Jvm.MethodName)) ∈ lw_tbl := lw_at lw_m7 74 rfl
theorem q1610 : (Jvm.Cond.instanceMethod ({ cls := "CourierClash", name := "mixCourier", desc := "(I)V" } : Jvm.MethodName)) ∈ lw_all := lw_g (lw_at lw_m7 75 rfl) rfl
theorem q1611 : (Jvm.Cond.code ({ cls := "CourierClash", name := "mixCourier", desc := "(I)V" } : Jvm.MethodName) prog_1_method_81_code (4 : Nat) (Option.none : Option Jvm.ClassFile.FieldType)) ∈ lw_all := lw_g (lw_at lw_m7 76 rfl) rfl
theorem q1612 : (Jvm.Cond.methodLink "CourierClash" (155 : Nat) ({ cls := "CourierClash$Vehicle", name := "isVan", desc := "()Z" } : Jvm.MethodName)) ∈ lw_all := lw_g (lw_at lw_m7 77 rfl) rfl
theorem q1627 : (Jvm.Cond.methodLink "CourierClash" (161 : Nat) ({ cls := "CourierClash$Game", name := "loadOf", desc := "(I)I" } : Jvm.MethodName)) ∈ lw_all := lw_g (lw_at lw_m7 92 rfl) rfl
theorem q1628 : (Jvm.Cond.methodLink "CourierClash" (299 : Nat) ({ cls := "CourierClash", name := "waysOf", desc := "(LCourierClash$Courier;)LCourierClash$Ways;" } : Jvm.MethodName)) ∈ lw_all := lw_g (lw_at lw_m7 93 rfl) rfl
theorem q1629 : (Jvm.Cond.privateMethod ({ cls := "CourierClash", name := "waysOf", desc := "(LCourierClash$Courier;)LCourierClash$Ways;" } : Jvm.MethodName)) ∈ lw_tbl := lw_at lw_m7 94 rfl
theorem q1630 : (Jvm.Cond.instanceMethod ({ cls := "CourierClash", name := "waysOf", desc := "(LCourierClash$Courier;)LCourierClash$Ways;" } : Jvm.MethodName)) ∈ lw_all := lw_g (lw_at lw_m7 95 rfl) rfl
theorem q1631 : (Jvm.Cond.code ({ cls := "CourierClash", name := "waysOf", desc := "(LCourierClash$Courier;)LCourierClash$Ways;" } : Jvm.MethodName) prog_1_method_62_code (2 : Nat) (Option.some (Jvm.ClassFile.FieldType.object "CourierClash$Ways"))) ∈ lw_all := lw_g (lw_at lw_m7 96 rfl) rfl
theorem q1632 : (Jvm.Cond.methodLink "CourierClash" (295 : Nat) ({ cls := "CourierClash$Ways", name := "go", desc := "(LCourierClash$Game;LCourierClash$Vehicle;I)LCourierClash$Ways;" } : Jvm.MethodName)) ∈ lw_all := lw_g (lw_at lw_m7 97 rfl) rfl
theorem q1652 : (Jvm.Cond.methodLink "CourierClash" (303 : Nat) ({ cls := "CourierClash$Ways", name := "mask", desc := "()I" } : Jvm.MethodName)) ∈ lw_all := lw_g (lw_at lw_m7 117 rfl) rfl
theorem q1656 : (Jvm.Cond.methodLink "CourierClash" (313 : Nat) ({ cls := "CourierClash", name := "joinedTold", desc := "(LCourierClash$Courier;)I" } : Jvm.MethodName)) ∈ lw_all := lw_g (lw_at lw_m7 121 rfl) rfl
theorem q1657 : (Jvm.Cond.privateMethod ({ cls := "CourierClash", name := "joinedTold", desc := "(LCourierClash$Courier;)I" } : Jvm.MethodName)) ∈ lw_tbl := lw_at lw_m7 122 rfl
theorem q1658 : (Jvm.Cond.instanceMethod ({ cls := "CourierClash", name := "joinedTold", desc := "(LCourierClash$Courier;)I" } : Jvm.MethodName)) ∈ lw_all := lw_g (lw_at lw_m7 123 rfl) rfl
theorem q1659 : (Jvm.Cond.code ({ cls := "CourierClash", name := "joinedTold", desc := "(LCourierClash$Courier;)I" } : Jvm.MethodName) prog_1_method_65_code (4 : Nat) (Option.some Jvm.ClassFile.FieldType.int)) ∈ lw_all := lw_g (lw_at lw_m7 124 rfl) rfl
theorem q1660 : (Jvm.Cond.methodLink "CourierClash" (306 : Nat) ({ cls := "CourierClash$Street", name := "leads", desc := "(LCourierClash$Vehicle;)Z" } : Jvm.MethodName)) ∈ lw_all := lw_g (lw_at lw_m7 125 rfl) rfl
theorem q1661 : (Jvm.Cond.methodLink "CourierClash" (310 : Nat) ({ cls := "CourierClash", name := "joinAll", desc := "()V" } : Jvm.MethodName)) ∈ lw_all := lw_g (lw_at lw_m7 126 rfl) rfl
theorem q1662 : (Jvm.Cond.privateMethod ({ cls := "CourierClash", name := "joinAll", desc := "()V" } : Jvm.MethodName)) ∈ lw_tbl := lw_at lw_m7 127 rfl
theorem q1663 : (Jvm.Cond.instanceMethod ({ cls := "CourierClash", name := "joinAll", desc := "()V" } : Jvm.MethodName)) ∈ lw_all := lw_g (lw_at lw_m7 128 rfl) rfl
theorem q1664 : (Jvm.Cond.code ({ cls := "CourierClash", name := "joinAll", desc := "()V" } : Jvm.MethodName) prog_1_method_64_code (3 : Nat) (Option.none : Option Jvm.ClassFile.FieldType)) ∈ lw_all := lw_g (lw_at lw_m7 129 rfl) rfl
theorem q1665 : (Jvm.Cond.methodLink "CourierClash" (365 : Nat) ({ cls := "CourierClash$Game", name := "outcomes", desc := "()[I" } : Jvm.MethodName)) ∈ lw_all := lw_g (lw_at lw_m7 130 rfl) rfl
theorem q1693 : (Jvm.Cond.classLink "CourierClash" (110 : Nat) "CourierClash$Parcel") ∈ lw_all := lw_g (lw_at lw_m7 158 rfl) rfl
theorem q1694 : (Jvm.Cond.methodLink "CourierClash" (405 : Nat) ({ cls := "CourierClash", name := "mixParcel", desc := "(LCourierClash$Parcel;)V" } : Jvm.MethodName)) ∈ lw_all := lw_g (lw_at lw_m7 159 rfl) rfl
theorem q1695 : (Jvm.Cond.privateMethod ({ cls := "CourierClash", name := "mixParcel", desc := "(LCourierClash$Parcel;)V" } : Jvm.MethodName)) ∈ lw_tbl := lw_at lw_m7 160 rfl
theorem q1696 : (Jvm.Cond.instanceMethod ({ cls := "CourierClash", name := "mixParcel", desc := "(LCourierClash$Parcel;)V" } : Jvm.MethodName)) ∈ lw_all := lw_g (lw_at lw_m7 161 rfl) rfl
theorem q1697 : (Jvm.Cond.code ({ cls := "CourierClash", name := "mixParcel", desc := "(LCourierClash$Parcel;)V" } : Jvm.MethodName) prog_1_method_82_code (2 : Nat) (Option.none : Option Jvm.ClassFile.FieldType)) ∈ lw_all := lw_g (lw_at lw_m7 162 rfl) rfl
theorem q1698 : (Jvm.Cond.methodLink "CourierClash" (260 : Nat) ({ cls := "CourierClash$Parcel", name := "isWaiting", desc := "()Z" } : Jvm.MethodName)) ∈ lw_all := lw_g (lw_at lw_m7 163 rfl) rfl
theorem q1699 : (Jvm.Cond.methodLink "CourierClash" (269 : Nat) ({ cls := "CourierClash$Game", name := "placeOf", desc := "(LCourierClash$Parcel;)I" } : Jvm.MethodName)) ∈ lw_all := lw_g (lw_at lw_m7 164 rfl) rfl
theorem q1704 : (Jvm.Cond.methodLink "CourierClash" (409 : Nat) ({ cls := "java/lang/Float", name := "floatToIntBits", desc := "(F)I" } : Jvm.MethodName)) ∈ lw_all := lw_g (lw_at lw_m7 169 rfl) rfl
theorem q1714 : (Jvm.Cond.methodLink "CourierClash" (415 : Nat) ({ cls := "java/lang/Double", name := "doubleToLongBits", desc := "(D)J" } : Jvm.MethodName)) ∈ lw_all := lw_g (lw_at lw_m7 179 rfl) rfl
theorem q1724 : (Jvm.Cond.methodLink "CourierClash" (421 : Nat) ({ cls := "java/lang/StringBuilder", name := "charAt", desc := "(I)C" } : Jvm.MethodName)) ∈ lw_all := lw_g (lw_at lw_m7 189 rfl) rfl
theorem q1734 : (Jvm.Cond.instanceMethod ({ cls := "CourierClash", name := "addStreet", desc := "(IIZ)I" } : Jvm.MethodName)) ∈ lw_all := lw_g (lw_at lw_m7 199 rfl) rfl
theorem q1735 : (Jvm.Cond.selects "CourierClash" ({ cls := "CourierClash", name := "addStreet", desc := "(IIZ)I" } : Jvm.MethodName) ({ cls := "CourierClash", name := "addStreet", desc := "(IIZ)I" } : Jvm.MethodName)) ∈ lw_all := lw_g (lw_at lw_m7 200 rfl) rfl
theorem q1736 : (Jvm.Cond.code ({ cls := "CourierClash", name := "addStreet", desc := "(IIZ)I" } : Jvm.MethodName) prog_1_method_17_code (4 : Nat) (Option.some Jvm.ClassFile.FieldType.int)) ∈ lw_all := lw_g (lw_at lw_m7 201 rfl) rfl
theorem q1737 : (Jvm.Cond.methodLink "CourierClash" (112 : Nat) ({ cls := "CourierClash", name := "isJunction", desc := "(I)Z" } : Jvm.MethodName)) ∈ lw_all := lw_g (lw_at lw_m7 202 rfl) rfl
theorem q1738 : (Jvm.Cond.static ({ cls := "CourierClash", name := "isJunction", desc := "(I)Z" } : Jvm.MethodName)) ∈ lw_all := lw_g (lw_at lw_m7 203 rfl) rfl
theorem q1739 : (Jvm.Cond.code ({ cls := "CourierClash", name := "isJunction", desc := "(I)Z" } : Jvm.MethodName) prog_1_method_10_code (1 : Nat) (Option.some Jvm.ClassFile.FieldType.boolean)) ∈ lw_all := lw_g (lw_at lw_m7 204 rfl) rfl
theorem q1740 : (Jvm.Cond.methodLink "CourierClash" (80 : Nat) ({ cls := "CourierClash", name := "in", desc := "(III)Z" } : Jvm.MethodName)) ∈ lw_all := lw_g (lw_at lw_m7 205 rfl) rfl
theorem q1741 : (Jvm.Cond.methodLink "CourierClash" (91 : Nat) ({ cls := "CourierClash", name := "needIndex", desc := "(Z)V" } : Jvm.MethodName)) ∈ lw_all := lw_g (lw_at lw_m7 206 rfl) rfl
theorem q1742 : (Jvm.Cond.static ({ cls := "CourierClash", name := "needIndex", desc := "(Z)V" } : Jvm.MethodName)) ∈ lw_all := lw_g (lw_at lw_m7 207 rfl) rfl
theorem q1743 : (Jvm.Cond.code ({ cls := "CourierClash", name := "needIndex", desc := "(Z)V" } : Jvm.MethodName) prog_1_method_8_code (1 : Nat) (Option.none : Option Jvm.ClassFile.FieldType)) ∈ lw_all := lw_g (lw_at lw_m7 208 rfl) rfl
theorem q1744 : (Jvm.Cond.classLink "CourierClash" (74 : Nat) "java/lang/IndexOutOfBoundsException") ∈ lw_all := lw_g (lw_at lw_m7 209 rfl) rfl
theorem q1753 : (Jvm.Cond.methodLink "CourierClash" (76 : Nat) ({ cls := "java/lang/IndexOutOfBoundsException", name := "<init>", desc := "()V" } : Jvm.MethodName)) ∈ lw_all := lw_g (lw_at lw_m7 218 rfl) rfl
theorem q1765 : (Jvm.Cond.methodLink "CourierClash" (115 : Nat) ({ cls := "CourierClash", name := "need", desc := "(Z)V" } : Jvm.MethodName)) ∈ lw_all := lw_g (lw_at lw_m7 230 rfl) rfl
theorem q1766 : (Jvm.Cond.static ({ cls := "CourierClash", name := "need", desc := "(Z)V" } : Jvm.MethodName)) ∈ lw_all := lw_g (lw_at lw_m7 231 rfl) rfl
theorem q1767 : (Jvm.Cond.code ({ cls := "CourierClash", name := "need", desc := "(Z)V" } : Jvm.MethodName) prog_1_method_7_code (1 : Nat) (Option.none : Option Jvm.ClassFile.FieldType)) ∈ lw_all := lw_g (lw_at lw_m7 232 rfl) rfl
theorem q1768 : (Jvm.Cond.classLink "CourierClash" (71 : Nat) "java/lang/IllegalArgumentException") ∈ lw_all := lw_g (lw_at lw_m7 233 rfl) rfl
theorem q1769 : (Jvm.Cond.methodLink "CourierClash" (73 : Nat) ({ cls := "java/lang/IllegalArgumentException", name := "<init>", desc := "()V" } : Jvm.MethodName)) ∈ lw_all := lw_g (lw_at lw_m7 234 rfl) rfl
theorem q1773 : (Jvm.Cond.methodLink "CourierClash" (118 : Nat) ({ cls := "CourierClash$Game", name := "street", desc := "(II)I" } : Jvm.MethodName)) ∈ lw_all := lw_g (lw_at lw_m7 238 rfl) rfl
theorem q1777 : (Jvm.Cond.methodLink "CourierClash" (122 : Nat) ({ cls := "CourierClash", name := "needState", desc := "(Z)V" } : Jvm.MethodName)) ∈ lw_all := lw_g (lw_at lw_m8 2 rfl) rfl
theorem q1778 : (Jvm.Cond.static ({ cls := "CourierClash", name := "needState", desc := "(Z)V" } : Jvm.MethodName)) ∈ lw_all := lw_g (lw_at lw_m8 3 rfl) rfl
theorem q1779 : (Jvm.Cond.code ({ cls := "CourierClash", name := "needState", desc := "(Z)V" } : Jvm.MethodName) prog_1_method_9_code (1 : Nat) (Option.none : Option Jvm.ClassFile.FieldType)) ∈ lw_all := lw_g (lw_at lw_m8 4 rfl) rfl
theorem q1780 : (Jvm.Cond.classLink "CourierClash" (77 : Nat) "java/lang/IllegalStateException") ∈ lw_all := lw_g (lw_at lw_m8 5 rfl) rfl
theorem q1789 : (Jvm.Cond.methodLink "CourierClash" (79 : Nat) ({ cls := "java/lang/IllegalStateException", name := "<init>", desc := "()V" } : Jvm.MethodName)) ∈ lw_all := lw_g (lw_at lw_m8 14 rfl) rfl
theorem q1795 : (Jvm.Cond.methodLink "CourierClash" (125 : Nat) ({ cls := "CourierClash", name := "save", desc := "()V" } : Jvm.MethodName)) ∈ lw_all := lw_g (lw_at lw_m8 20 rfl) rfl
theorem q1796 : (Jvm.Cond.privateMethod ({ cls := "CourierClash", name := "save", desc := "()V" } : Jvm.MethodName)) ∈ lw_tbl := lw_at lw_m8 21 rfl
theorem q1797 : (Jvm.Cond.instanceMethod ({ cls := "CourierClash", name := "save", desc := "()V" } : Jvm.MethodName)) ∈ lw_all := lw_g (lw_at lw_m8 22 rfl) rfl
theorem q1798 : (Jvm.Cond.code ({ cls := "CourierClash", name := "save", desc := "()V" } : Jvm.MethodName) prog_1_method_6_code (2 : Nat) (Option.none : Option Jvm.ClassFile.FieldType)) ∈ lw_all := lw_g (lw_at lw_m8 23 rfl) rfl
theorem q1799 : (Jvm.Cond.methodLink "CourierClash" (59 : Nat) ({ cls := "java/util/ArrayList", name := "remove", desc := "(I)Ljava/lang/Object;" } : Jvm.MethodName)) ∈ lw_all := lw_g (lw_at lw_m8 24 rfl) rfl
theorem q1808 : (Jvm.Cond.methodLink "CourierClash" (67 : Nat) ({ cls := "java/util/ArrayList", name := "add", desc := "(Ljava/lang/Object;)Z" } : Jvm.MethodName)) ∈ lw_all := lw_g (lw_at lw_m8 33 rfl) rfl
theorem q1809 : (Jvm.Cond.methodLink "CourierClash" (128 : Nat) ({ cls := "CourierClash$Game", name := "add", desc := "(IIZ)I" } : Jvm.MethodName)) ∈ lw_all := lw_g (lw_at lw_m8 34 rfl) rfl
theorem q1818 : (Jvm.Cond.instanceMethod ({ cls := "CourierClash", name := "toggleStreet", desc := "(I)Z" } : Jvm.MethodName)) ∈ lw_all := lw_g (lw_at lw_m8 43 rfl) rfl
theorem q1819 : (Jvm.Cond.selects "CourierClash" ({ cls := "CourierClash", name := "toggleStreet", desc := "(I)Z" } : Jvm.MethodName) ({ cls := "CourierClash", name := "toggleStreet", desc := "(I)Z" } : Jvm.MethodName)) ∈ lw_all := lw_g (lw_at lw_m8 44 rfl) rfl
theorem q1820 : (Jvm.Cond.code ({ cls := "CourierClash", name := "toggleStreet", desc := "(I)Z" } : Jvm.MethodName) prog_1_method_18_code (2 : Nat) (Option.some Jvm.ClassFile.FieldType.boolean)) ∈ lw_all := lw_g (lw_at lw_m8 45 rfl) rfl
theorem q1821 : (Jvm.Cond.methodLink "CourierClash" (131 : Nat) ({ cls := "CourierClash", name := "streetBy", desc := "(I)LCourierClash$Street;" } : Jvm.MethodName)) ∈ lw_all := lw_g (lw_at lw_m8 46 rfl) rfl
theorem q1822 : (Jvm.Cond.privateMethod ({ cls := "CourierClash", name := "streetBy", desc := "(I)LCourierClash$Street;" } : Jvm.MethodName)) ∈ lw_tbl := lw_at lw_m8 47 rfl
theorem q1823 : (Jvm.Cond.instanceMethod ({ cls := "CourierClash", name := "streetBy", desc := "(I)LCourierClash$Street;" } : Jvm.MethodName)) ∈ lw_all := lw_g (lw_at lw_m8 48 rfl) rfl
theorem q1824 : (Jvm.Cond.code ({ cls := "CourierClash", name := "streetBy", desc := "(I)LCourierClash$Street;" } : Jvm.MethodName) prog_1_method_13_code (2 : Nat) (Option.some (Jvm.ClassFile.FieldType.object "CourierClash$Street"))) ∈ lw_all := lw_g (lw_at lw_m8 49 rfl) rfl
theorem q1825 : (Jvm.Cond.methodLink "CourierClash" (87 : Nat) ({ cls := "CourierClash", name := "isStreet", desc := "(I)Z" } : Jvm.MethodName)) ∈ lw_all := lw_g (lw_at lw_m8 50 rfl) rfl
theorem q1826 : (Jvm.Cond.privateMethod ({ cls := "CourierClash", name := "isStreet", desc := "(I)Z" } : Jvm.MethodName)) ∈ lw_tbl := lw_at lw_m8 51 rfl
theorem q1827 : (Jvm.Cond.instanceMethod ({ cls := "CourierClash", name := "isStreet", desc := "(I)Z" } : Jvm.MethodName)) ∈ lw_all := lw_g (lw_at lw_m8 52 rfl) rfl
theorem q1828 : (Jvm.Cond.code ({ cls := "CourierClash", name := "isStreet", desc := "(I)Z" } : Jvm.MethodName) prog_1_method_12_code (2 : Nat) (Option.some Jvm.ClassFile.FieldType.boolean)) ∈ lw_all := lw_g (lw_at lw_m8 53 rfl) rfl
theorem q1829 : (Jvm.Cond.methodLink "CourierClash" (135 : Nat) ({ cls := "CourierClash$Game", name := "toggle", desc := "(I)Z" } : Jvm.MethodName)) ∈ lw_all := lw_g (lw_at lw_m8 54 rfl) rfl
theorem q1837 : (Jvm.Cond.instanceMethod ({ cls := "CourierClash", name := "place", desc := "(II)I" } : Jvm.MethodName)) ∈ lw_all := lw_g (lw_at lw_m8 62 rfl) rfl
theorem q1838 : (Jvm.Cond.selects "CourierClash" ({ cls := "CourierClash", name := "place", desc := "(II)I" } : Jvm.MethodName) ({ cls := "CourierClash", name := "place", desc := "(II)I" } : Jvm.MethodName)) ∈ lw_all := lw_g (lw_at lw_m8 63 rfl) rfl
theorem q1839 : (Jvm.Cond.code ({ cls := "CourierClash", name := "place", desc := "(II)I" } : Jvm.MethodName) prog_1_method_19_code (4 : Nat) (Option.some Jvm.ClassFile.FieldType.int)) ∈ lw_all := lw_g (lw_at lw_m8 64 rfl) rfl
theorem q1840 : (Jvm.Cond.methodLink "CourierClash" (100 : Nat) ({ cls := "CourierClash", name := "isCourier", desc := "(I)Z" } : Jvm.MethodName)) ∈ lw_all := lw_g (lw_at lw_m8 65 rfl) rfl
theorem q1841 : (Jvm.Cond.static ({ cls := "CourierClash", name := "isCourier", desc := "(I)Z" } : Jvm.MethodName)) ∈ lw_all := lw_g (lw_at lw_m8 66 rfl) rfl
theorem q1842 : (Jvm.Cond.code ({ cls := "CourierClash", name := "isCourier", desc := "(I)Z" } : Jvm.MethodName) prog_1_method_11_code (1 : Nat) (Option.some Jvm.ClassFile.FieldType.boolean)) ∈ lw_all := lw_g (lw_at lw_m8 67 rfl) rfl
theorem q1843 : (Jvm.Cond.methodLink "CourierClash" (138 : Nat) ({ cls := "CourierClash$Game", name := "courierAt", desc := "(I)I" } : Jvm.MethodName)) ∈ lw_all := lw_g (lw_at lw_m8 68 rfl) rfl
theorem q1844 : (Jvm.Cond.methodLink "CourierClash" (142 : Nat) ({ cls := "CourierClash$Game", name := "place", desc := "(II)I" } : Jvm.MethodName)) ∈ lw_all := lw_g (lw_at lw_m8 69 rfl) rfl
theorem q1853 : (Jvm.Cond.instanceMethod ({ cls := "CourierClash", name := "toggleVan", desc := "(I)Z" } : Jvm.MethodName)) ∈ lw_all := lw_g (lw_at lw_m8 78 rfl) rfl
theorem q1854 : (Jvm.Cond.selects "CourierClash" ({ cls := "CourierClash", name := "toggleVan", desc := "(I)Z" } : Jvm.MethodName) ({ cls := "CourierClash", name := "toggleVan", desc := "(I)Z" } : Jvm.MethodName)) ∈ lw_all := lw_g (lw_at lw_m8 79 rfl) rfl
theorem q1855 : (Jvm.Cond.code ({ cls := "CourierClash", name := "toggleVan", desc := "(I)Z" } : Jvm.MethodName) prog_1_method_20_code (3 : Nat) (Option.some Jvm.ClassFile.FieldType.boolean)) ∈ lw_all := lw_g (lw_at lw_m8 80 rfl) rfl
theorem q1856 : (Jvm.Cond.methodLink "CourierClash" (145 : Nat) ({ cls := "CourierClash", name := "courierBy", desc := "(I)LCourierClash$Courier;" } : Jvm.MethodName)) ∈ lw_all := lw_g (lw_at lw_m8 81 rfl) rfl
theorem q1857 : (Jvm.Cond.privateMethod ({ cls := "CourierClash", name := "courierBy", desc := "(I)LCourierClash$Courier;" } : Jvm.MethodName)) ∈ lw_tbl := lw_at lw_m8 82 rfl
theorem q1858 : (Jvm.Cond.instanceMethod ({ cls := "CourierClash", name := "courierBy", desc := "(I)LCourierClash$Courier;" } : Jvm.MethodName)) ∈ lw_all := lw_g (lw_at lw_m8 83 rfl) rfl
theorem q1859 : (Jvm.Cond.code ({ cls := "CourierClash", name := "courierBy", desc := "(I)LCourierClash$Courier;" } : Jvm.MethodName) prog_1_method_14_code (2 : Nat) (Option.some (Jvm.ClassFile.FieldType.object "CourierClash$Courier"))) ∈ lw_all := lw_g (lw_at lw_m8 84 rfl) rfl
theorem q1860 : (Jvm.Cond.methodLink "CourierClash" (168 : Nat) ({ cls := "CourierClash$Game", name := "toggleVan", desc := "(I)Z" } : Jvm.MethodName)) ∈ lw_all := lw_g (lw_at lw_m8 85 rfl) rfl
theorem q1900 : (Jvm.Cond.instanceMethod ({ cls := "CourierClash", name := "setCapacity", desc := "(I)I" } : Jvm.MethodName)) ∈ lw_all := lw_g (lw_at lw_m8 125 rfl) rfl
theorem q1901 : (Jvm.Cond.selects "CourierClash" ({ cls := "CourierClash", name := "setCapacity", desc := "(I)I" } : Jvm.MethodName) ({ cls := "CourierClash", name := "setCapacity", desc := "(I)I" } : Jvm.MethodName)) ∈ lw_all := lw_g (lw_at lw_m8 126 rfl) rfl
theorem q1902 : (Jvm.Cond.code ({ cls := "CourierClash", name := "setCapacity", desc := "(I)I" } : Jvm.MethodName) prog_1_method_21_code (3 : Nat) (Option.some Jvm.ClassFile.FieldType.int)) ∈ lw_all := lw_g (lw_at lw_m8 127 rfl) rfl
theorem q1903 : (Jvm.Cond.methodLink "CourierClash" (171 : Nat) ({ cls := "CourierClash$Game", name := "isEnough", desc := "(I)Z" } : Jvm.MethodName)) ∈ lw_all := lw_g (lw_at lw_m8 128 rfl) rfl
theorem q1912 : (Jvm.Cond.instanceMethod ({ cls := "CourierClash", name := "addParcel", desc := "(IIII)I" } : Jvm.MethodName)) ∈ lw_all := lw_g (lw_at lw_m8 137 rfl) rfl
theorem q1913 : (Jvm.Cond.selects "CourierClash" ({ cls := "CourierClash", name := "addParcel", desc := "(IIII)I" } : Jvm.MethodName) ({ cls := "CourierClash", name := "addParcel", desc := "(IIII)I" } : Jvm.MethodName)) ∈ lw_all := lw_g (lw_at lw_m8 138 rfl) rfl
theorem q1914 : (Jvm.Cond.code ({ cls := "CourierClash", name := "addParcel", desc := "(IIII)I" } : Jvm.MethodName) prog_1_method_22_code (5 : Nat) (Option.some Jvm.ClassFile.FieldType.int)) ∈ lw_all := lw_g (lw_at lw_m8 139 rfl) rfl
theorem q1915 : (Jvm.Cond.methodLink "CourierClash" (174 : Nat) ({ cls := "CourierClash$Parcel", name := "<init>", desc := "(IIIII)V" } : Jvm.MethodName)) ∈ lw_all := lw_g (lw_at lw_m8 140 rfl) rfl
theorem q1920 : (Jvm.Cond.instanceMethod ({ cls := "CourierClash", name := "setLimit", desc := "(I)I" } : Jvm.MethodName)) ∈ lw_all := lw_g (lw_at lw_m8 145 rfl) rfl
theorem q1921 : (Jvm.Cond.selects "CourierClash" ({ cls := "CourierClash", name := "setLimit", desc := "(I)I" } : Jvm.MethodName) ({ cls := "CourierClash", name := "setLimit", desc := "(I)I" } : Jvm.MethodName)) ∈ lw_all := lw_g (lw_at lw_m8 146 rfl) rfl
theorem q1922 : (Jvm.Cond.code ({ cls := "CourierClash", name := "setLimit", desc := "(I)I" } : Jvm.MethodName) prog_1_method_23_code (3 : Nat) (Option.some Jvm.ClassFile.FieldType.int)) ∈ lw_all := lw_g (lw_at lw_m8 147 rfl) rfl
theorem q1927 : (Jvm.Cond.instanceMethod ({ cls := "CourierClash", name := "order", desc := "(II)I" } : Jvm.MethodName)) ∈ lw_all := lw_g (lw_at lw_m8 152 rfl) rfl
theorem q1928 : (Jvm.Cond.selects "CourierClash" ({ cls := "CourierClash", name := "order", desc := "(II)I" } : Jvm.MethodName) ({ cls := "CourierClash", name := "order", desc := "(II)I" } : Jvm.MethodName)) ∈ lw_all := lw_g (lw_at lw_m8 153 rfl) rfl
theorem q1929 : (Jvm.Cond.code ({ cls := "CourierClash", name := "order", desc := "(II)I" } : Jvm.MethodName) prog_1_method_24_code (3 : Nat) (Option.some Jvm.ClassFile.FieldType.int)) ∈ lw_all := lw_g (lw_at lw_m8 154 rfl) rfl
theorem q1930 : (Jvm.Cond.methodLink "CourierClash" (180 : Nat) ({ cls := "CourierClash$Game", name := "noOrder", desc := "(II)I" } : Jvm.MethodName)) ∈ lw_all := lw_g (lw_at lw_m8 155 rfl) rfl
theorem q1939 : (Jvm.Cond.instanceMethod ({ cls := "CourierClash", name := "takeBack", desc := "(I)Z" } : Jvm.MethodName)) ∈ lw_all := lw_g (lw_at lw_m8 164 rfl) rfl
theorem q1940 : (Jvm.Cond.selects "CourierClash" ({ cls := "CourierClash", name := "takeBack", desc := "(I)Z" } : Jvm.MethodName) ({ cls := "CourierClash", name := "takeBack", desc := "(I)Z" } : Jvm.MethodName)) ∈ lw_all := lw_g (lw_at lw_m8 165 rfl) rfl
theorem q1941 : (Jvm.Cond.code ({ cls := "CourierClash", name := "takeBack", desc := "(I)Z" } : Jvm.MethodName) prog_1_method_25_code (3 : Nat) (Option.some Jvm.ClassFile.FieldType.boolean)) ∈ lw_all := lw_g (lw_at lw_m8 166 rfl) rfl
theorem q1946 : (Jvm.Cond.instanceMethod ({ cls := "CourierClash", name := "turn", desc := "()I" } : Jvm.MethodName)) ∈ lw_all := lw_g (lw_at lw_m8 171 rfl) rfl
theorem q1947 : (Jvm.Cond.selects "CourierClash" ({ cls := "CourierClash", name := "turn", desc := "()I" } : Jvm.MethodName) ({ cls := "CourierClash", name := "turn", desc := "()I" } : Jvm.MethodName)) ∈ lw_all := lw_g (lw_at lw_m8 172 rfl) rfl
theorem q1948 : (Jvm.Cond.code ({ cls := "CourierClash", name := "turn", desc := "()I" } : Jvm.MethodName) prog_1_method_26_code (1 : Nat) (Option.some Jvm.ClassFile.FieldType.int)) ∈ lw_all := lw_g (lw_at lw_m8 173 rfl) rfl
theorem q1949 : (Jvm.Cond.methodLink "CourierClash" (192 : Nat) ({ cls := "CourierClash$Game", name := "turn", desc := "()I" } : Jvm.MethodName)) ∈ lw_all := lw_g (lw_at lw_m8 174 rfl) rfl
theorem q1969 : (Jvm.Cond.static ({ cls := "CourierClash", name := "asPickedUp", desc := "()Ljava/util/Comparator;" } : Jvm.MethodName)) ∈ lw_all := lw_g (lw_at lw_m8 194 rfl) rfl
theorem q1970 : (Jvm.Cond.code ({ cls := "CourierClash", name := "asPickedUp", desc := "()Ljava/util/Comparator;" } : Jvm.MethodName) prog_1_method_2_code (0 : Nat) (Option.some (Jvm.ClassFile.FieldType.object "java/util/Comparator"))) ∈ lw_all := lw_g (lw_at lw_m8 195 rfl) rfl
theorem q1971 : (Jvm.Cond.classLink "CourierClash" (1 : Nat) "CourierClash$1") ∈ lw_all := lw_g (lw_at lw_m8 196 rfl) rfl
theorem q1973 : (Jvm.Cond.methodLink "CourierClash" (3 : Nat) ({ cls := "CourierClash$1", name := "<init>", desc := "()V" } : Jvm.MethodName)) ∈ lw_all := lw_g (lw_at lw_m8 198 rfl) rfl
theorem q2048 : (Jvm.Cond.instanceMethod ({ cls := "CourierClash", name := "append", desc := "(I)I" } : Jvm.MethodName)) ∈ lw_all := lw_g (lw_at lw_m9 33 rfl) rfl
theorem q2049 : (Jvm.Cond.selects "CourierClash" ({ cls := "CourierClash", name := "append", desc := "(I)I" } : Jvm.MethodName) ({ cls := "CourierClash", name := "append", desc := "(I)I" } : Jvm.MethodName)) ∈ lw_all := lw_g (lw_at lw_m9 34 rfl) rfl
theorem q2050 : (Jvm.Cond.code ({ cls := "CourierClash", name := "append", desc := "(I)I" } : Jvm.MethodName) prog_1_method_27_code (2 : Nat) (Option.some Jvm.ClassFile.FieldType.int)) ∈ lw_all := lw_g (lw_at lw_m9 35 rfl) rfl
theorem q2051 : (Jvm.Cond.methodLink "CourierClash" (198 : Nat) ({ cls := "java/lang/StringBuilder", name := "append", desc := "(C)Ljava/lang/StringBuilder;" } : Jvm.MethodName)) ∈ lw_all := lw_g (lw_at lw_m9 36 rfl) rfl
theorem q2072 : (Jvm.Cond.instanceMethod ({ cls := "CourierClash", name := "play", desc := "()I" } : Jvm.MethodName)) ∈ lw_all := lw_g (lw_at lw_m9 57 rfl) rfl
theorem q2073 : (Jvm.Cond.selects "CourierClash" ({ cls := "CourierClash", name := "play", desc := "()I" } : Jvm.MethodName) ({ cls := "CourierClash", name := "play", desc := "()I" } : Jvm.MethodName)) ∈ lw_all := lw_g (lw_at lw_m9 58 rfl) rfl
theorem q2074 : (Jvm.Cond.code ({ cls := "CourierClash", name := "play", desc := "()I" } : Jvm.MethodName) prog_1_method_32_code (3 : Nat) (Option.some Jvm.ClassFile.FieldType.int)) ∈ lw_all := lw_g (lw_at lw_m9 59 rfl) rfl
theorem q2075 : (Jvm.Cond.methodLink "CourierClash" (221 : Nat) ({ cls := "CourierClash", name := "canDo", desc := "(III)Z" } : Jvm.MethodName)) ∈ lw_all := lw_g (lw_at lw_m9 60 rfl) rfl
theorem q2076 : (Jvm.Cond.privateMethod ({ cls := "CourierClash", name := "canDo", desc := "(III)Z" } : Jvm.MethodName)) ∈ lw_tbl := lw_at lw_m9 61 rfl
theorem q2077 : (Jvm.Cond.instanceMethod ({ cls := "CourierClash", name := "canDo", desc := "(III)Z" } : Jvm.MethodName)) ∈ lw_all := lw_g (lw_at lw_m9 62 rfl) rfl
theorem q2078 : (Jvm.Cond.code ({ cls := "CourierClash", name := "canDo", desc := "(III)Z" } : Jvm.MethodName) prog_1_method_30_code (4 : Nat) (Option.some Jvm.ClassFile.FieldType.boolean)) ∈ lw_all := lw_g (lw_at lw_m9 63 rfl) rfl
theorem q2079 : (Jvm.Cond.methodLink "CourierClash" (224 : Nat) ({ cls := "CourierClash", name := "act", desc := "(III)V" } : Jvm.MethodName)) ∈ lw_all := lw_g (lw_at lw_m9 64 rfl) rfl
theorem q2080 : (Jvm.Cond.privateMethod ({ cls := "CourierClash", name := "act", desc := "(III)V" } : Jvm.MethodName)) ∈ lw_tbl := lw_at lw_m9 65 rfl
theorem q2081 : (Jvm.Cond.instanceMethod ({ cls := "CourierClash", name := "act", desc := "(III)V" } : Jvm.MethodName)) ∈ lw_all := lw_g (lw_at lw_m9 66 rfl) rfl
theorem q2082 : (Jvm.Cond.code ({ cls := "CourierClash", name := "act", desc := "(III)V" } : Jvm.MethodName) prog_1_method_31_code (4 : Nat) (Option.none : Option Jvm.ClassFile.FieldType)) ∈ lw_all := lw_g (lw_at lw_m9 67 rfl) rfl
theorem q2087 : (Jvm.Cond.instanceMethod ({ cls := "CourierClash", name := "stoppedPart", desc := "()I" } : Jvm.MethodName)) ∈ lw_all := lw_g (lw_at lw_m9 72 rfl) rfl
theorem q2088 : (Jvm.Cond.selects "CourierClash" ({ cls := "CourierClash", name := "stoppedPart", desc := "()I" } : Jvm.MethodName) ({ cls := "CourierClash", name := "stoppedPart", desc := "()I" } : Jvm.MethodName)) ∈ lw_all := lw_g (lw_at lw_m9 73 rfl) rfl
theorem q2089 : (Jvm.Cond.code ({ cls := "CourierClash", name := "stoppedPart", desc := "()I" } : Jvm.MethodName) prog_1_method_34_code (1 : Nat) (Option.some Jvm.ClassFile.FieldType.int)) ∈ lw_all := lw_g (lw_at lw_m9 74 rfl) rfl
theorem q2094 : (Jvm.Cond.instanceMethod ({ cls := "CourierClash", name := "undo", desc := "()I" } : Jvm.MethodName)) ∈ lw_all := lw_g (lw_at lw_m9 79 rfl) rfl
theorem q2095 : (Jvm.Cond.selects "CourierClash" ({ cls := "CourierClash", name := "undo", desc := "()I" } : Jvm.MethodName) ({ cls := "CourierClash", name := "undo", desc := "()I" } : Jvm.MethodName)) ∈ lw_all := lw_g (lw_at lw_m9 80 rfl) rfl
theorem q2096 : (Jvm.Cond.code ({ cls := "CourierClash", name := "undo", desc := "()I" } : Jvm.MethodName) prog_1_method_35_code (1 : Nat) (Option.some Jvm.ClassFile.FieldType.int)) ∈ lw_all := lw_g (lw_at lw_m9 81 rfl) rfl
theorem q2097 : (Jvm.Cond.methodLink "CourierClash" (231 : Nat) ({ cls := "java/util/ArrayList", name := "isEmpty", desc := "()Z" } : Jvm.MethodName)) ∈ lw_all := lw_g (lw_at lw_m9 82 rfl) rfl
theorem q2102 : (Jvm.Cond.instanceMethod ({ cls := "CourierClash", name := "restore", desc := "()I" } : Jvm.MethodName)) ∈ lw_all := lw_g (lw_at lw_m9 87 rfl) rfl
theorem q2103 : (Jvm.Cond.selects "CourierClash" ({ cls := "CourierClash", name := "restore", desc := "()I" } : Jvm.MethodName) ({ cls := "CourierClash", name := "restore", desc := "()I" } : Jvm.MethodName)) ∈ lw_all := lw_g (lw_at lw_m9 88 rfl) rfl
theorem q2104 : (Jvm.Cond.code ({ cls := "CourierClash", name := "restore", desc := "()I" } : Jvm.MethodName) prog_1_method_37_code (1 : Nat) (Option.some Jvm.ClassFile.FieldType.int)) ∈ lw_all := lw_g (lw_at lw_m9 89 rfl) rfl
theorem q2109 : (Jvm.Cond.instanceMethod ({ cls := "CourierClash", name := "fromOf", desc := "(I)I" } : Jvm.MethodName)) ∈ lw_all := lw_g (lw_at lw_m9 94 rfl) rfl
theorem q2110 : (Jvm.Cond.selects "CourierClash" ({ cls := "CourierClash", name := "fromOf", desc := "(I)I" } : Jvm.MethodName) ({ cls := "CourierClash", name := "fromOf", desc := "(I)I" } : Jvm.MethodName)) ∈ lw_all := lw_g (lw_at lw_m9 95 rfl) rfl
theorem q2111 : (Jvm.Cond.code ({ cls := "CourierClash", name := "fromOf", desc := "(I)I" } : Jvm.MethodName) prog_1_method_40_code (2 : Nat) (Option.some Jvm.ClassFile.FieldType.int)) ∈ lw_all := lw_g (lw_at lw_m9 96 rfl) rfl
theorem q2116 : (Jvm.Cond.instanceMethod ({ cls := "CourierClash", name := "toOf", desc := "(I)I" } : Jvm.MethodName)) ∈ lw_all := lw_g (lw_at lw_m9 101 rfl) rfl
theorem q2117 : (Jvm.Cond.selects "CourierClash" ({ cls := "CourierClash", name := "toOf", desc := "(I)I" } : Jvm.MethodName) ({ cls := "CourierClash", name := "toOf", desc := "(I)I" } : Jvm.MethodName)) ∈ lw_all := lw_g (lw_at lw_m9 102 rfl) rfl
theorem q2118 : (Jvm.Cond.code ({ cls := "CourierClash", name := "toOf", desc := "(I)I" } : Jvm.MethodName) prog_1_method_41_code (2 : Nat) (Option.some Jvm.ClassFile.FieldType.int)) ∈ lw_all := lw_g (lw_at lw_m9 103 rfl) rfl
theorem q2123 : (Jvm.Cond.instanceMethod ({ cls := "CourierClash", name := "isOpen", desc := "(I)Z" } : Jvm.MethodName)) ∈ lw_all := lw_g (lw_at lw_m9 108 rfl) rfl
theorem q2124 : (Jvm.Cond.selects "CourierClash" ({ cls := "CourierClash", name := "isOpen", desc := "(I)Z" } : Jvm.MethodName) ({ cls := "CourierClash", name := "isOpen", desc := "(I)Z" } : Jvm.MethodName)) ∈ lw_all := lw_g (lw_at lw_m9 109 rfl) rfl
theorem q2125 : (Jvm.Cond.code ({ cls := "CourierClash", name := "isOpen", desc := "(I)Z" } : Jvm.MethodName) prog_1_method_42_code (2 : Nat) (Option.some Jvm.ClassFile.FieldType.boolean)) ∈ lw_all := lw_g (lw_at lw_m9 110 rfl) rfl
theorem q2130 : (Jvm.Cond.instanceMethod ({ cls := "CourierClash", name := "junctionOf", desc := "(I)I" } : Jvm.MethodName)) ∈ lw_all := lw_g (lw_at lw_m9 115 rfl) rfl
theorem q2131 : (Jvm.Cond.selects "CourierClash" ({ cls := "CourierClash", name := "junctionOf", desc := "(I)I" } : Jvm.MethodName) ({ cls := "CourierClash", name := "junctionOf", desc := "(I)I" } : Jvm.MethodName)) ∈ lw_all := lw_g (lw_at lw_m9 116 rfl) rfl
theorem q2132 : (Jvm.Cond.code ({ cls := "CourierClash", name := "junctionOf", desc := "(I)I" } : Jvm.MethodName) prog_1_method_43_code (2 : Nat) (Option.some Jvm.ClassFile.FieldType.int)) ∈ lw_all := lw_g (lw_at lw_m9 117 rfl) rfl
theorem q2137 : (Jvm.Cond.instanceMethod ({ cls := "CourierClash", name := "hasVan", desc := "(I)Z" } : Jvm.MethodName)) ∈ lw_all := lw_g (lw_at lw_m9 122 rfl) rfl
theorem q2138 : (Jvm.Cond.selects "CourierClash" ({ cls := "CourierClash", name := "hasVan", desc := "(I)Z" } : Jvm.MethodName) ({ cls := "CourierClash", name := "hasVan", desc := "(I)Z" } : Jvm.MethodName)) ∈ lw_all := lw_g (lw_at lw_m9 123 rfl) rfl
theorem q2139 : (Jvm.Cond.code ({ cls := "CourierClash", name := "hasVan", desc := "(I)Z" } : Jvm.MethodName) prog_1_method_44_code (2 : Nat) (Option.some Jvm.ClassFile.FieldType.boolean)) ∈ lw_all := lw_g (lw_at lw_m9 124 rfl) rfl
theorem q2144 : (Jvm.Cond.instanceMethod ({ cls := "CourierClash", name := "loadOf", desc := "(I)I" } : Jvm.MethodName)) ∈ lw_all := lw_g (lw_at lw_m9 129 rfl) rfl
theorem q2145 : (Jvm.Cond.selects "CourierClash" ({ cls := "CourierClash", name := "loadOf", desc := "(I)I" } : Jvm.MethodName) ({ cls := "CourierClash", name := "loadOf", desc := "(I)I" } : Jvm.MethodName)) ∈ lw_all := lw_g (lw_at lw_m9 130 rfl) rfl
theorem q2146 : (Jvm.Cond.code ({ cls := "CourierClash", name := "loadOf", desc := "(I)I" } : Jvm.MethodName) prog_1_method_45_code (2 : Nat) (Option.some Jvm.ClassFile.FieldType.int)) ∈ lw_all := lw_g (lw_at lw_m9 131 rfl) rfl
theorem q2151 : (Jvm.Cond.instanceMethod ({ cls := "CourierClash", name := "hasOrder", desc := "(I)Z" } : Jvm.MethodName)) ∈ lw_all := lw_g (lw_at lw_m9 136 rfl) rfl
theorem q2152 : (Jvm.Cond.selects "CourierClash" ({ cls := "CourierClash", name := "hasOrder", desc := "(I)Z" } : Jvm.MethodName) ({ cls := "CourierClash", name := "hasOrder", desc := "(I)Z" } : Jvm.MethodName)) ∈ lw_all := lw_g (lw_at lw_m9 137 rfl) rfl
theorem q2153 : (Jvm.Cond.code ({ cls := "CourierClash", name := "hasOrder", desc := "(I)Z" } : Jvm.MethodName) prog_1_method_46_code (2 : Nat) (Option.some Jvm.ClassFile.FieldType.boolean)) ∈ lw_all := lw_g (lw_at lw_m9 138 rfl) rfl
theorem q2158 : (Jvm.Cond.instanceMethod ({ cls := "CourierClash", name := "orderOf", desc := "(I)I" } : Jvm.MethodName)) ∈ lw_all := lw_g (lw_at lw_m9 143 rfl) rfl
theorem q2159 : (Jvm.Cond.selects "CourierClash" ({ cls := "CourierClash", name := "orderOf", desc := "(I)I" } : Jvm.MethodName) ({ cls := "CourierClash", name := "orderOf", desc := "(I)I" } : Jvm.MethodName)) ∈ lw_all := lw_g (lw_at lw_m9 144 rfl) rfl
theorem q2160 : (Jvm.Cond.code ({ cls := "CourierClash", name := "orderOf", desc := "(I)I" } : Jvm.MethodName) prog_1_method_47_code (3 : Nat) (Option.some Jvm.ClassFile.FieldType.int)) ∈ lw_all := lw_g (lw_at lw_m9 145 rfl) rfl
theorem q2165 : (Jvm.Cond.instanceMethod ({ cls := "CourierClash", name := "movesOf", desc := "(I)I" } : Jvm.MethodName)) ∈ lw_all := lw_g (lw_at lw_m9 150 rfl) rfl
theorem q2166 : (Jvm.Cond.selects "CourierClash" ({ cls := "CourierClash", name := "movesOf", desc := "(I)I" } : Jvm.MethodName) ({ cls := "CourierClash", name := "movesOf", desc := "(I)I" } : Jvm.MethodName)) ∈ lw_all := lw_g (lw_at lw_m9 151 rfl) rfl
theorem q2167 : (Jvm.Cond.code ({ cls := "CourierClash", name := "movesOf", desc := "(I)I" } : Jvm.MethodName) prog_1_method_48_code (2 : Nat) (Option.some Jvm.ClassFile.FieldType.int)) ∈ lw_all := lw_g (lw_at lw_m9 152 rfl) rfl
theorem q2172 : (Jvm.Cond.instanceMethod ({ cls := "CourierClash", name := "outcomeOf", desc := "(I)I" } : Jvm.MethodName)) ∈ lw_all := lw_g (lw_at lw_m9 157 rfl) rfl
theorem q2173 : (Jvm.Cond.selects "CourierClash" ({ cls := "CourierClash", name := "outcomeOf", desc := "(I)I" } : Jvm.MethodName) ({ cls := "CourierClash", name := "outcomeOf", desc := "(I)I" } : Jvm.MethodName)) ∈ lw_all := lw_g (lw_at lw_m9 158 rfl) rfl
theorem q2174 : (Jvm.Cond.code ({ cls := "CourierClash", name := "outcomeOf", desc := "(I)I" } : Jvm.MethodName) prog_1_method_49_code (2 : Nat) (Option.some Jvm.ClassFile.FieldType.int)) ∈ lw_all := lw_g (lw_at lw_m9 159 rfl) rfl
theorem q2179 : (Jvm.Cond.instanceMethod ({ cls := "CourierClash", name := "isWaiting", desc := "(I)Z" } : Jvm.MethodName)) ∈ lw_all := lw_g (lw_at lw_m9 164 rfl) rfl
theorem q2180 : (Jvm.Cond.selects "CourierClash" ({ cls := "CourierClash", name := "isWaiting", desc := "(I)Z" } : Jvm.MethodName) ({ cls := "CourierClash", name := "isWaiting", desc := "(I)Z" } : Jvm.MethodName)) ∈ lw_all := lw_g (lw_at lw_m9 165 rfl) rfl
theorem q2181 : (Jvm.Cond.code ({ cls := "CourierClash", name := "isWaiting", desc := "(I)Z" } : Jvm.MethodName) prog_1_method_51_code (2 : Nat) (Option.some Jvm.ClassFile.FieldType.boolean)) ∈ lw_all := lw_g (lw_at lw_m9 166 rfl) rfl
theorem q2182 : (Jvm.Cond.methodLink "CourierClash" (256 : Nat) ({ cls := "CourierClash", name := "parcelBy", desc := "(I)LCourierClash$Parcel;" } : Jvm.MethodName)) ∈ lw_all := lw_g (lw_at lw_m9 167 rfl) rfl
theorem q2183 : (Jvm.Cond.privateMethod ({ cls := "CourierClash", name := "parcelBy", desc := "(I)LCourierClash$Parcel;" } : Jvm.MethodName)) ∈ lw_tbl := lw_at lw_m9 168 rfl
theorem q2184 : (Jvm.Cond.instanceMethod ({ cls := "CourierClash", name := "parcelBy", desc := "(I)LCourierClash$Parcel;" } : Jvm.MethodName)) ∈ lw_all := lw_g (lw_at lw_m9 169 rfl) rfl
theorem q2185 : (Jvm.Cond.code ({ cls := "CourierClash", name := "parcelBy", desc := "(I)LCourierClash$Parcel;" } : Jvm.MethodName) prog_1_method_15_code (2 : Nat) (Option.some (Jvm.ClassFile.FieldType.object "CourierClash$Parcel"))) ∈ lw_all := lw_g (lw_at lw_m9 170 rfl) rfl
theorem q2190 : (Jvm.Cond.instanceMethod ({ cls := "CourierClash", name := "isDelivered", desc := "(I)Z" } : Jvm.MethodName)) ∈ lw_all := lw_g (lw_at lw_m9 175 rfl) rfl
theorem q2191 : (Jvm.Cond.selects "CourierClash" ({ cls := "CourierClash", name := "isDelivered", desc := "(I)Z" } : Jvm.MethodName) ({ cls := "CourierClash", name := "isDelivered", desc := "(I)Z" } : Jvm.MethodName)) ∈ lw_all := lw_g (lw_at lw_m9 176 rfl) rfl
theorem q2192 : (Jvm.Cond.code ({ cls := "CourierClash", name := "isDelivered", desc := "(I)Z" } : Jvm.MethodName) prog_1_method_52_code (2 : Nat) (Option.some Jvm.ClassFile.FieldType.boolean)) ∈ lw_all := lw_g (lw_at lw_m9 177 rfl) rfl
theorem q2197 : (Jvm.Cond.instanceMethod ({ cls := "CourierClash", name := "courierOf", desc := "(I)I" } : Jvm.MethodName)) ∈ lw_all := lw_g (lw_at lw_m9 182 rfl) rfl
theorem q2198 : (Jvm.Cond.selects "CourierClash" ({ cls := "CourierClash", name := "courierOf", desc := "(I)I" } : Jvm.MethodName) ({ cls := "CourierClash", name := "courierOf", desc := "(I)I" } : Jvm.MethodName)) ∈ lw_all := lw_g (lw_at lw_m9 183 rfl) rfl
theorem q2199 : (Jvm.Cond.code ({ cls := "CourierClash", name := "courierOf", desc := "(I)I" } : Jvm.MethodName) prog_1_method_53_code (3 : Nat) (Option.some Jvm.ClassFile.FieldType.int)) ∈ lw_all := lw_g (lw_at lw_m9 184 rfl) rfl
theorem q2204 : (Jvm.Cond.instanceMethod ({ cls := "CourierClash", name := "placeOf", desc := "(I)I" } : Jvm.MethodName)) ∈ lw_all := lw_g (lw_at lw_m9 189 rfl) rfl
theorem q2205 : (Jvm.Cond.selects "CourierClash" ({ cls := "CourierClash", name := "placeOf", desc := "(I)I" } : Jvm.MethodName) ({ cls := "CourierClash", name := "placeOf", desc := "(I)I" } : Jvm.MethodName)) ∈ lw_all := lw_g (lw_at lw_m9 190 rfl) rfl
theorem q2206 : (Jvm.Cond.code ({ cls := "CourierClash", name := "placeOf", desc := "(I)I" } : Jvm.MethodName) prog_1_method_54_code (2 : Nat) (Option.some Jvm.ClassFile.FieldType.int)) ∈ lw_all := lw_g (lw_at lw_m9 191 rfl) rfl
theorem q2211 : (Jvm.Cond.instanceMethod ({ cls := "CourierClash", name := "pointsOf", desc := "(I)I" } : Jvm.MethodName)) ∈ lw_all := lw_g (lw_at lw_m9 196 rfl) rfl
theorem q2212 : (Jvm.Cond.selects "CourierClash" ({ cls := "CourierClash", name := "pointsOf", desc := "(I)I" } : Jvm.MethodName) ({ cls := "CourierClash", name := "pointsOf", desc := "(I)I" } : Jvm.MethodName)) ∈ lw_all := lw_g (lw_at lw_m9 197 rfl) rfl
theorem q2213 : (Jvm.Cond.code ({ cls := "CourierClash", name := "pointsOf", desc := "(I)I" } : Jvm.MethodName) prog_1_method_55_code (2 : Nat) (Option.some Jvm.ClassFile.FieldType.int)) ∈ lw_all := lw_g (lw_at lw_m9 198 rfl) rfl
theorem q2214 : (Jvm.Cond.methodLink "CourierClash" (273 : Nat) ({ cls := "CourierClash", name := "needPlayer", desc := "(I)V" } : Jvm.MethodName)) ∈ lw_all := lw_g (lw_at lw_m9 199 rfl) rfl
theorem q2215 : (Jvm.Cond.static ({ cls := "CourierClash", name := "needPlayer", desc := "(I)V" } : Jvm.MethodName)) ∈ lw_all := lw_g (lw_at lw_m9 200 rfl) rfl
theorem q2216 : (Jvm.Cond.code ({ cls := "CourierClash", name := "needPlayer", desc := "(I)V" } : Jvm.MethodName) prog_1_method_16_code (1 : Nat) (Option.none : Option Jvm.ClassFile.FieldType)) ∈ lw_all := lw_g (lw_at lw_m9 201 rfl) rfl
theorem q2221 : (Jvm.Cond.instanceMethod ({ cls := "CourierClash", name := "pointsByParcels", desc := "(I)I" } : Jvm.MethodName)) ∈ lw_all := lw_g (lw_at lw_m9 206 rfl) rfl
theorem q2222 : (Jvm.Cond.selects "CourierClash" ({ cls := "CourierClash", name := "pointsByParcels", desc := "(I)I" } : Jvm.MethodName) ({ cls := "CourierClash", name := "pointsByParcels", desc := "(I)I" } : Jvm.MethodName)) ∈ lw_all := lw_g (lw_at lw_m9 207 rfl) rfl
theorem q2223 : (Jvm.Cond.code ({ cls := "CourierClash", name := "pointsByParcels", desc := "(I)I" } : Jvm.MethodName) prog_1_method_56_code (2 : Nat) (Option.some Jvm.ClassFile.FieldType.int)) ∈ lw_all := lw_g (lw_at lw_m9 208 rfl) rfl
theorem q2228 : (Jvm.Cond.instanceMethod ({ cls := "CourierClash", name := "reach", desc := "(I)I" } : Jvm.MethodName)) ∈ lw_all := lw_g (lw_at lw_m9 213 rfl) rfl
theorem q2229 : (Jvm.Cond.selects "CourierClash" ({ cls := "CourierClash", name := "reach", desc := "(I)I" } : Jvm.MethodName) ({ cls := "CourierClash", name := "reach", desc := "(I)I" } : Jvm.MethodName)) ∈ lw_all := lw_g (lw_at lw_m9 214 rfl) rfl
theorem q2230 : (Jvm.Cond.code ({ cls := "CourierClash", name := "reach", desc := "(I)I" } : Jvm.MethodName) prog_1_method_63_code (2 : Nat) (Option.some Jvm.ClassFile.FieldType.int)) ∈ lw_all := lw_g (lw_at lw_m9 215 rfl) rfl
theorem q2235 : (Jvm.Cond.instanceMethod ({ cls := "CourierClash", name := "reachByJoining", desc := "(I)I" } : Jvm.MethodName)) ∈ lw_all := lw_g (lw_at lw_m9 220 rfl) rfl
theorem q2236 : (Jvm.Cond.selects "CourierClash" ({ cls := "CourierClash", name := "reachByJoining", desc := "(I)I" } : Jvm.MethodName) ({ cls := "CourierClash", name := "reachByJoining", desc := "(I)I" } : Jvm.MethodName)) ∈ lw_all := lw_g (lw_at lw_m9 221 rfl) rfl
theorem q2237 : (Jvm.Cond.code ({ cls := "CourierClash", name := "reachByJoining", desc := "(I)I" } : Jvm.MethodName) prog_1_method_66_code (2 : Nat) (Option.some Jvm.ClassFile.FieldType.int)) ∈ lw_all := lw_g (lw_at lw_m9 222 rfl) rfl
theorem q2242 : (Jvm.Cond.instanceMethod ({ cls := "CourierClash", name := "distance", desc := "(II)I" } : Jvm.MethodName)) ∈ lw_all := lw_g (lw_at lw_m9 227 rfl) rfl
theorem q2243 : (Jvm.Cond.selects "CourierClash" ({ cls := "CourierClash", name := "distance", desc := "(II)I" } : Jvm.MethodName) ({ cls := "CourierClash", name := "distance", desc := "(II)I" } : Jvm.MethodName)) ∈ lw_all := lw_g (lw_at lw_m9 228 rfl) rfl
theorem q2244 : (Jvm.Cond.code ({ cls := "CourierClash", name := "distance", desc := "(II)I" } : Jvm.MethodName) prog_1_method_67_code (3 : Nat) (Option.some Jvm.ClassFile.FieldType.int)) ∈ lw_all := lw_g (lw_at lw_m9 229 rfl) rfl
theorem q2249 : (Jvm.Cond.instanceMethod ({ cls := "CourierClash", name := "nextStreet", desc := "(II)I" } : Jvm.MethodName)) ∈ lw_all := lw_g (lw_at lw_m9 234 rfl) rfl
theorem q2250 : (Jvm.Cond.selects "CourierClash" ({ cls := "CourierClash", name := "nextStreet", desc := "(II)I" } : Jvm.MethodName) ({ cls := "CourierClash", name := "nextStreet", desc := "(II)I" } : Jvm.MethodName)) ∈ lw_all := lw_g (lw_at lw_m9 235 rfl) rfl
theorem q2251 : (Jvm.Cond.code ({ cls := "CourierClash", name := "nextStreet", desc := "(II)I" } : Jvm.MethodName) prog_1_method_68_code (6 : Nat) (Option.some Jvm.ClassFile.FieldType.int)) ∈ lw_all := lw_g (lw_at lw_m9 236 rfl) rfl
theorem q2252 : (Jvm.Cond.methodLink "CourierClash" (320 : Nat) ({ cls := "CourierClash", name := "beginsWith", desc := "(LCourierClash$Courier;LCourierClash$Street;II)Z" } : Jvm.MethodName)) ∈ lw_all := lw_g (lw_at lw_m9 237 rfl) rfl
theorem q2253 : (Jvm.Cond.privateMethod ({ cls := "CourierClash", name := "beginsWith", desc := "(LCourierClash$Courier;LCourierClash$Street;II)Z" } : Jvm.MethodName)) ∈ lw_tbl := lw_at lw_m9 238 rfl
theorem q2254 : (Jvm.Cond.instanceMethod ({ cls := "CourierClash", name := "beginsWith", desc := "(LCourierClash$Courier;LCourierClash$Street;II)Z" } : Jvm.MethodName)) ∈ lw_all := lw_g (lw_at lw_m9 239 rfl) rfl
theorem q2255 : (Jvm.Cond.code ({ cls := "CourierClash", name := "beginsWith", desc := "(LCourierClash$Courier;LCourierClash$Street;II)Z" } : Jvm.MethodName) prog_1_method_69_code (5 : Nat) (Option.some Jvm.ClassFile.FieldType.boolean)) ∈ lw_all := lw_g (lw_at lw_m10 0 rfl) rfl
theorem q2260 : (Jvm.Cond.instanceMethod ({ cls := "CourierClash", name := "bestParcel", desc := "(I)I" } : Jvm.MethodName)) ∈ lw_all := lw_g (lw_at lw_m10 5 rfl) rfl
theorem q2261 : (Jvm.Cond.selects "CourierClash" ({ cls := "CourierClash", name := "bestParcel", desc := "(I)I" } : Jvm.MethodName) ({ cls := "CourierClash", name := "bestParcel", desc := "(I)I" } : Jvm.MethodName)) ∈ lw_all := lw_g (lw_at lw_m10 6 rfl) rfl
theorem q2262 : (Jvm.Cond.code ({ cls := "CourierClash", name := "bestParcel", desc := "(I)I" } : Jvm.MethodName) prog_1_method_71_code (5 : Nat) (Option.some Jvm.ClassFile.FieldType.int)) ∈ lw_all := lw_g (lw_at lw_m10 7 rfl) rfl
theorem q2263 : (Jvm.Cond.classLink "CourierClash" (334 : Nat) "java/util/PriorityQueue") ∈ lw_all := lw_g (lw_at lw_m10 8 rfl) rfl
theorem q2264 : (Jvm.Cond.methodLink "CourierClash" (336 : Nat) ({ cls := "CourierClash", name := "bestFirst", desc := "()Ljava/util/Comparator;" } : Jvm.MethodName)) ∈ lw_all := lw_g (lw_at lw_m10 9 rfl) rfl
theorem q2265 : (Jvm.Cond.static ({ cls := "CourierClash", name := "bestFirst", desc := "()Ljava/util/Comparator;" } : Jvm.MethodName)) ∈ lw_all := lw_g (lw_at lw_m10 10 rfl) rfl
theorem q2266 : (Jvm.Cond.code ({ cls := "CourierClash", name := "bestFirst", desc := "()Ljava/util/Comparator;" } : Jvm.MethodName) prog_1_method_3_code (0 : Nat) (Option.some (Jvm.ClassFile.FieldType.object "java/util/Comparator"))) ∈ lw_all := lw_g (lw_at lw_m10 11 rfl) rfl
theorem q2267 : (Jvm.Cond.classLink "CourierClash" (7 : Nat) "CourierClash$2") ∈ lw_all := lw_g (lw_at lw_m10 12 rfl) rfl
theorem q2269 : (Jvm.Cond.methodLink "CourierClash" (9 : Nat) ({ cls := "CourierClash$2", name := "<init>", desc := "()V" } : Jvm.MethodName)) ∈ lw_all := lw_g (lw_at lw_m10 14 rfl) rfl
theorem q2274 : (Jvm.Cond.methodLink "CourierClash" (340 : Nat) ({ cls := "java/util/PriorityQueue", name := "<init>", desc := "(ILjava/util/Comparator;)V" } : Jvm.MethodName)) ∈ lw_all := lw_g (lw_at lw_m10 19 rfl) rfl
theorem q2275 : (Jvm.Cond.methodLink "CourierClash" (343 : Nat) ({ cls := "CourierClash", name := "wayBy", desc := "(ILCourierClash$Parcel;)I" } : Jvm.MethodName)) ∈ lw_all := lw_g (lw_at lw_m10 20 rfl) rfl
theorem q2276 : (Jvm.Cond.privateMethod ({ cls := "CourierClash", name := "wayBy", desc := "(ILCourierClash$Parcel;)I" } : Jvm.MethodName)) ∈ lw_tbl := lw_at lw_m10 21 rfl
theorem q2277 : (Jvm.Cond.instanceMethod ({ cls := "CourierClash", name := "wayBy", desc := "(ILCourierClash$Parcel;)I" } : Jvm.MethodName)) ∈ lw_all := lw_g (lw_at lw_m10 22 rfl) rfl
theorem q2278 : (Jvm.Cond.code ({ cls := "CourierClash", name := "wayBy", desc := "(ILCourierClash$Parcel;)I" } : Jvm.MethodName) prog_1_method_70_code (6 : Nat) (Option.some Jvm.ClassFile.FieldType.int)) ∈ lw_all := lw_g (lw_at lw_m10 23 rfl) rfl
theorem q2279 : (Jvm.Cond.methodLink "CourierClash" (327 : Nat) ({ cls := "CourierClash$Game", name := "canCarry", desc := "(I)I" } : Jvm.MethodName)) ∈ lw_all := lw_g (lw_at lw_m10 24 rfl) rfl
theorem q2280 : (Jvm.Cond.classLink "CourierClash" (347 : Nat) "CourierClash$Choice") ∈ lw_all := lw_g (lw_at lw_m10 25 rfl) rfl
theorem q2282 : (Jvm.Cond.methodLink "CourierClash" (349 : Nat) ({ cls := "CourierClash$Choice", name := "<init>", desc := "(LCourierClash$Parcel;I)V" } : Jvm.MethodName)) ∈ lw_all := lw_g (lw_at lw_m10 27 rfl) rfl
theorem q2288 : (Jvm.Cond.fieldLinkNest "CourierClash" (358 : Nat) "CourierClash$Choice" "parcel" "LCourierClash$Parcel;" "CourierClash") ∈ lw_tbl := lw_at lw_m10 33 rfl
theorem q2296 : (Jvm.Cond.methodLink "CourierClash" (352 : Nat) ({ cls := "java/util/PriorityQueue", name := "add", desc := "(Ljava/lang/Object;)Z" } : Jvm.MethodName)) ∈ lw_all := lw_g (lw_at lw_m10 41 rfl) rfl
theorem q2297 : (Jvm.Cond.methodLink "CourierClash" (353 : Nat) ({ cls := "java/util/PriorityQueue", name := "isEmpty", desc := "()Z" } : Jvm.MethodName)) ∈ lw_all := lw_g (lw_at lw_m10 42 rfl) rfl
theorem q2320 : (Jvm.Cond.methodLink "CourierClash" (354 : Nat) ({ cls := "java/util/PriorityQueue", name := "poll", desc := "()Ljava/lang/Object;" } : Jvm.MethodName)) ∈ lw_all := lw_g (lw_at lw_m10 65 rfl) rfl
theorem q2325 : (Jvm.Cond.instanceMethod ({ cls := "CourierClash", name := "whyNoOrder", desc := "(II)I" } : Jvm.MethodName)) ∈ lw_all := lw_g (lw_at lw_m10 70 rfl) rfl
theorem q2326 : (Jvm.Cond.selects "CourierClash" ({ cls := "CourierClash", name := "whyNoOrder", desc := "(II)I" } : Jvm.MethodName) ({ cls := "CourierClash", name := "whyNoOrder", desc := "(II)I" } : Jvm.MethodName)) ∈ lw_all := lw_g (lw_at lw_m10 71 rfl) rfl
theorem q2327 : (Jvm.Cond.code ({ cls := "CourierClash", name := "whyNoOrder", desc := "(II)I" } : Jvm.MethodName) prog_1_method_72_code (3 : Nat) (Option.some Jvm.ClassFile.FieldType.int)) ∈ lw_all := lw_g (lw_at lw_m10 72 rfl) rfl
theorem q2332 : (Jvm.Cond.instanceMethod ({ cls := "CourierClash", name := "wouldGo", desc := "(I)I" } : Jvm.MethodName)) ∈ lw_all := lw_g (lw_at lw_m10 77 rfl) rfl
theorem q2333 : (Jvm.Cond.selects "CourierClash" ({ cls := "CourierClash", name := "wouldGo", desc := "(I)I" } : Jvm.MethodName) ({ cls := "CourierClash", name := "wouldGo", desc := "(I)I" } : Jvm.MethodName)) ∈ lw_all := lw_g (lw_at lw_m10 78 rfl) rfl
theorem q2334 : (Jvm.Cond.code ({ cls := "CourierClash", name := "wouldGo", desc := "(I)I" } : Jvm.MethodName) prog_1_method_73_code (2 : Nat) (Option.some Jvm.ClassFile.FieldType.int)) ∈ lw_all := lw_g (lw_at lw_m10 79 rfl) rfl
theorem q2819 : (Jvm.Cond.castable "CourierClash" "java/lang/Object") ∈ lw_tbl := lw_at lw_m12 84 rfl
theorem in_X1 : ∀ w ∈ wsX10, w ∈ lw_all := lw_in wsX10 [839, 841, 843, 845, 847, 849, 851] (by decide +kernel) (by decide +kernel)
