/-! CourierClashModel -/
set_option maxRecDepth 100000
def RX9 : String := "CourierClashModel"
def TX9 : u_T := fun k => match k with
  | 0 => ("CourierClashModel", "s", "[I", true)
  | 1 => ("CourierClashModel", "before", "[I", true)
  | 2 => ("CourierClashModel", "known", "I", false)
  | 3 => ("CourierClashModel", "kept", "[I", true)
  | 4 => ("CourierClashModel", "isKept", "Z", false)
  | 5 => ("CourierClashModel", "buffer", "[I", true)
  | 6 => ("CourierClashModel", "length", "I", false)
  | 7 => ("CourierClashModel", "thrown", "I", false)
  | 8 => ("CourierClashModel", "fate", "[I", true)
  | 9 => ("CourierClashModel", "old", "[I", true)
  | 10 => ("CourierClashModel", "at", "I", false)
  | 11 => ("CourierClashModel", "isWrong", "Z", false)
  | 12 => ("CourierClashModel", "far", "[I", true)
  | _ => ("CourierClashModel", "hash", "J", false)
def tyX9 : Nat → FieldType := fun k => match k with
  | 0 => .array .int
  | 1 => .array .int
  | 2 => .int
  | 3 => .array .int
  | 4 => .boolean
  | 5 => .array .int
  | 6 => .int
  | 7 => .int
  | 8 => .array .int
  | 9 => .array .int
  | 10 => .int
  | 11 => .boolean
  | 12 => .array .int
  | _ => .long
abbrev wsX90 : List Cond := u_ws RX9 TX9 14
set_option maxRecDepth 100000 in
theorem nmX9 : ∀ a, a < 14 → ∀ b, b < 14 → a ≠ b → (TX9 a).2.1 ≠ (TX9 b).2.1 := by decide +kernel
set_option maxRecDepth 100000 in
theorem tyX9_ok : ∀ k, k < 14 → parseFieldDescriptor (TX9 k).2.2.1 = some (tyX9 k) := by decide +kernel
abbrev cX9_init : ByteArray := prog_17_method_1_code
def yX9_init : MethodName := ⟨RX9, "<init>", "()V"⟩
def dkwX9_init_4 : List UInt8 := [42, 180, 0, 7, 17, 0, 166, 8, 79, 42, 180, 0, 7, 17, 0, 167, 16, 40, 79, 42, 182, 0, 35, 177]
abbrev dktX9_init_4 : List UInt8 := dkwX9_init_4 ++ []
def dkwX9_init_3 : List UInt8 := [27, 182, 0, 31, 42, 27, 5, 2, 182, 0, 31, 42, 27, 7, 4, 182, 0, 31, 132, 1, 1, 167, 255, 227]
abbrev dktX9_init_3 : List UInt8 := dkwX9_init_3 ++ dktX9_init_4
def dkwX9_init_2 : List UInt8 := [7, 188, 10, 181, 0, 25, 42, 16, 10, 188, 10, 181, 0, 28, 3, 60, 27, 7, 162, 0, 30, 42, 27, 3]
abbrev dktX9_init_2 : List UInt8 := dkwX9_init_2 ++ dktX9_init_3
def dkwX9_init_1 : List UInt8 := [17, 1, 43, 188, 10, 181, 0, 16, 42, 16, 60, 188, 10, 181, 0, 19, 42, 7, 188, 10, 181, 0, 22, 42]
abbrev dktX9_init_1 : List UInt8 := dkwX9_init_1 ++ dktX9_init_2
def dkwX9_init_0 : List UInt8 := [42, 183, 0, 1, 42, 17, 1, 43, 188, 10, 181, 0, 7, 42, 17, 5, 215, 188, 10, 181, 0, 13, 42]
abbrev dktX9_init_0 : List UInt8 := dkwX9_init_0 ++ dktX9_init_1
theorem dksX9_init_0 : cX9_init.data.toList.drop 0 = dktX9_init_0 := by decide +kernel
theorem dksX9_init_1 : cX9_init.data.toList.drop 23 = dktX9_init_1 := dk_seg dksX9_init_0 23 rfl rfl
theorem dksX9_init_2 : cX9_init.data.toList.drop 47 = dktX9_init_2 := dk_seg dksX9_init_1 24 rfl rfl
theorem dksX9_init_3 : cX9_init.data.toList.drop 71 = dktX9_init_3 := dk_seg dksX9_init_2 24 rfl rfl
theorem dksX9_init_4 : cX9_init.data.toList.drop 95 = dktX9_init_4 := dk_seg dksX9_init_3 24 rfl rfl
theorem dX9_init_0 : decode cX9_init 0 = .ok (.aload_n 0, 1) := dk_42 (dk_at dksX9_init_0 0 rfl rfl)
theorem dX9_init_1 : decode cX9_init 1 = .ok (.invokespecial 1, 3) := dk_183 0 1 (dk_at dksX9_init_0 1 rfl rfl)
theorem dX9_init_4 : decode cX9_init 4 = .ok (.aload_n 0, 1) := dk_42 (dk_at dksX9_init_0 4 rfl rfl)
theorem dX9_init_5 : decode cX9_init 5 = .ok (.sipush 299, 3) := dk_17 1 43 (dk_at dksX9_init_0 5 rfl rfl)
theorem dX9_init_8 : decode cX9_init 8 = .ok (.newarray .int, 2) := dk_188_10 (dk_at dksX9_init_0 8 rfl rfl)
theorem dX9_init_10 : decode cX9_init 10 = .ok (.putfield 7, 3) := dk_181 0 7 (dk_at dksX9_init_0 10 rfl rfl)
theorem dX9_init_13 : decode cX9_init 13 = .ok (.aload_n 0, 1) := dk_42 (dk_at dksX9_init_0 13 rfl rfl)
theorem dX9_init_14 : decode cX9_init 14 = .ok (.sipush 1495, 3) := dk_17 5 215 (dk_at dksX9_init_0 14 rfl rfl)
theorem dX9_init_17 : decode cX9_init 17 = .ok (.newarray .int, 2) := dk_188_10 (dk_at dksX9_init_0 17 rfl rfl)
theorem dX9_init_19 : decode cX9_init 19 = .ok (.putfield 13, 3) := dk_181 0 13 (dk_at dksX9_init_0 19 rfl rfl)
theorem dX9_init_22 : decode cX9_init 22 = .ok (.aload_n 0, 1) := dk_42 (dk_at dksX9_init_0 22 rfl rfl)
theorem dX9_init_23 : decode cX9_init 23 = .ok (.sipush 299, 3) := dk_17 1 43 (dk_at dksX9_init_1 0 rfl rfl)
theorem dX9_init_26 : decode cX9_init 26 = .ok (.newarray .int, 2) := dk_188_10 (dk_at dksX9_init_1 3 rfl rfl)
theorem dX9_init_28 : decode cX9_init 28 = .ok (.putfield 16, 3) := dk_181 0 16 (dk_at dksX9_init_1 5 rfl rfl)
theorem dX9_init_31 : decode cX9_init 31 = .ok (.aload_n 0, 1) := dk_42 (dk_at dksX9_init_1 8 rfl rfl)
theorem dX9_init_32 : decode cX9_init 32 = .ok (.bipush 60, 2) := dk_16 60 (dk_at dksX9_init_1 9 rfl rfl)
theorem dX9_init_34 : decode cX9_init 34 = .ok (.newarray .int, 2) := dk_188_10 (dk_at dksX9_init_1 11 rfl rfl)
theorem dX9_init_36 : decode cX9_init 36 = .ok (.putfield 19, 3) := dk_181 0 19 (dk_at dksX9_init_1 13 rfl rfl)
theorem dX9_init_39 : decode cX9_init 39 = .ok (.aload_n 0, 1) := dk_42 (dk_at dksX9_init_1 16 rfl rfl)
theorem dX9_init_40 : decode cX9_init 40 = .ok (.iconst 4, 1) := dk_7 (dk_at dksX9_init_1 17 rfl rfl)
theorem dX9_init_41 : decode cX9_init 41 = .ok (.newarray .int, 2) := dk_188_10 (dk_at dksX9_init_1 18 rfl rfl)
theorem dX9_init_43 : decode cX9_init 43 = .ok (.putfield 22, 3) := dk_181 0 22 (dk_at dksX9_init_1 20 rfl rfl)
theorem dX9_init_46 : decode cX9_init 46 = .ok (.aload_n 0, 1) := dk_42 (dk_at dksX9_init_1 23 rfl rfl)
theorem dX9_init_47 : decode cX9_init 47 = .ok (.iconst 4, 1) := dk_7 (dk_at dksX9_init_2 0 rfl rfl)
theorem dX9_init_48 : decode cX9_init 48 = .ok (.newarray .int, 2) := dk_188_10 (dk_at dksX9_init_2 1 rfl rfl)
theorem dX9_init_50 : decode cX9_init 50 = .ok (.putfield 25, 3) := dk_181 0 25 (dk_at dksX9_init_2 3 rfl rfl)
theorem dX9_init_53 : decode cX9_init 53 = .ok (.aload_n 0, 1) := dk_42 (dk_at dksX9_init_2 6 rfl rfl)
theorem dX9_init_54 : decode cX9_init 54 = .ok (.bipush 10, 2) := dk_16 10 (dk_at dksX9_init_2 7 rfl rfl)
theorem dX9_init_56 : decode cX9_init 56 = .ok (.newarray .int, 2) := dk_188_10 (dk_at dksX9_init_2 9 rfl rfl)
theorem dX9_init_58 : decode cX9_init 58 = .ok (.putfield 28, 3) := dk_181 0 28 (dk_at dksX9_init_2 11 rfl rfl)
theorem dX9_init_61 : decode cX9_init 61 = .ok (.iconst 0, 1) := dk_3 (dk_at dksX9_init_2 14 rfl rfl)
theorem dX9_init_62 : decode cX9_init 62 = .ok (.istore_n 1, 1) := dk_60 (dk_at dksX9_init_2 15 rfl rfl)
theorem dX9_init_63 : decode cX9_init 63 = .ok (.iload_n 1, 1) := dk_27 (dk_at dksX9_init_2 16 rfl rfl)
theorem dX9_init_64 : decode cX9_init 64 = .ok (.iconst 4, 1) := dk_7 (dk_at dksX9_init_2 17 rfl rfl)
theorem dX9_init_65 : decode cX9_init 65 = .ok (.if_icmp .ge 30, 3) := dk_162 0 30 (dk_at dksX9_init_2 18 rfl rfl)
theorem dX9_init_68 : decode cX9_init 68 = .ok (.aload_n 0, 1) := dk_42 (dk_at dksX9_init_2 21 rfl rfl)
theorem dX9_init_69 : decode cX9_init 69 = .ok (.iload_n 1, 1) := dk_27 (dk_at dksX9_init_2 22 rfl rfl)
theorem dX9_init_70 : decode cX9_init 70 = .ok (.iconst 0, 1) := dk_3 (dk_at dksX9_init_2 23 rfl rfl)
theorem dX9_init_71 : decode cX9_init 71 = .ok (.iload_n 1, 1) := dk_27 (dk_at dksX9_init_3 0 rfl rfl)
theorem dX9_init_72 : decode cX9_init 72 = .ok (.invokevirtual 31, 3) := dk_182 0 31 (dk_at dksX9_init_3 1 rfl rfl)
theorem dX9_init_75 : decode cX9_init 75 = .ok (.aload_n 0, 1) := dk_42 (dk_at dksX9_init_3 4 rfl rfl)
theorem dX9_init_76 : decode cX9_init 76 = .ok (.iload_n 1, 1) := dk_27 (dk_at dksX9_init_3 5 rfl rfl)
theorem dX9_init_77 : decode cX9_init 77 = .ok (.iconst 2, 1) := dk_5 (dk_at dksX9_init_3 6 rfl rfl)
theorem dX9_init_78 : decode cX9_init 78 = .ok (.iconst (-1), 1) := dk_2 (dk_at dksX9_init_3 7 rfl rfl)
theorem dX9_init_79 : decode cX9_init 79 = .ok (.invokevirtual 31, 3) := dk_182 0 31 (dk_at dksX9_init_3 8 rfl rfl)
theorem dX9_init_82 : decode cX9_init 82 = .ok (.aload_n 0, 1) := dk_42 (dk_at dksX9_init_3 11 rfl rfl)
theorem dX9_init_83 : decode cX9_init 83 = .ok (.iload_n 1, 1) := dk_27 (dk_at dksX9_init_3 12 rfl rfl)
theorem dX9_init_84 : decode cX9_init 84 = .ok (.iconst 4, 1) := dk_7 (dk_at dksX9_init_3 13 rfl rfl)
theorem dX9_init_85 : decode cX9_init 85 = .ok (.iconst 1, 1) := dk_4 (dk_at dksX9_init_3 14 rfl rfl)
theorem dX9_init_86 : decode cX9_init 86 = .ok (.invokevirtual 31, 3) := dk_182 0 31 (dk_at dksX9_init_3 15 rfl rfl)
theorem dX9_init_89 : decode cX9_init 89 = .ok (.iinc 1 1, 3) := dk_132 1 1 (dk_at dksX9_init_3 18 rfl rfl)
theorem dX9_init_92 : decode cX9_init 92 = .ok (.goto (-29), 3) := dk_167 255 227 (dk_at dksX9_init_3 21 rfl rfl)
theorem dX9_init_95 : decode cX9_init 95 = .ok (.aload_n 0, 1) := dk_42 (dk_at dksX9_init_4 0 rfl rfl)
theorem dX9_init_96 : decode cX9_init 96 = .ok (.getfield 7, 3) := dk_180 0 7 (dk_at dksX9_init_4 1 rfl rfl)
theorem dX9_init_99 : decode cX9_init 99 = .ok (.sipush 166, 3) := dk_17 0 166 (dk_at dksX9_init_4 4 rfl rfl)
theorem dX9_init_102 : decode cX9_init 102 = .ok (.iconst 5, 1) := dk_8 (dk_at dksX9_init_4 7 rfl rfl)
theorem dX9_init_103 : decode cX9_init 103 = .ok (.iastore, 1) := dk_79 (dk_at dksX9_init_4 8 rfl rfl)
theorem dX9_init_104 : decode cX9_init 104 = .ok (.aload_n 0, 1) := dk_42 (dk_at dksX9_init_4 9 rfl rfl)
theorem dX9_init_105 : decode cX9_init 105 = .ok (.getfield 7, 3) := dk_180 0 7 (dk_at dksX9_init_4 10 rfl rfl)
theorem dX9_init_108 : decode cX9_init 108 = .ok (.sipush 167, 3) := dk_17 0 167 (dk_at dksX9_init_4 13 rfl rfl)
theorem dX9_init_111 : decode cX9_init 111 = .ok (.bipush 40, 2) := dk_16 40 (dk_at dksX9_init_4 16 rfl rfl)
theorem dX9_init_113 : decode cX9_init 113 = .ok (.iastore, 1) := dk_79 (dk_at dksX9_init_4 18 rfl rfl)
theorem dX9_init_114 : decode cX9_init 114 = .ok (.aload_n 0, 1) := dk_42 (dk_at dksX9_init_4 19 rfl rfl)
theorem dX9_init_115 : decode cX9_init 115 = .ok (.invokevirtual 35, 3) := dk_182 0 35 (dk_at dksX9_init_4 20 rfl rfl)
theorem dX9_init_118 : decode cX9_init 118 = .ok (.return_, 1) := dk_177 (dk_at dksX9_init_4 23 rfl rfl)
abbrev cX9_lay : ByteArray := prog_17_method_11_code
def yX9_lay : MethodName := ⟨RX9, "lay", "(III)V"⟩
def dkwX9_lay_0 : List UInt8 := [42, 180, 0, 7, 16, 97, 8, 27, 104, 96, 28, 96, 29, 79, 177]
abbrev dktX9_lay_0 : List UInt8 := dkwX9_lay_0 ++ []
theorem dksX9_lay_0 : cX9_lay.data.toList.drop 0 = dktX9_lay_0 := by decide +kernel
theorem dX9_lay_0 : decode cX9_lay 0 = .ok (.aload_n 0, 1) := dk_42 (dk_at dksX9_lay_0 0 rfl rfl)
theorem dX9_lay_1 : decode cX9_lay 1 = .ok (.getfield 7, 3) := dk_180 0 7 (dk_at dksX9_lay_0 1 rfl rfl)
theorem dX9_lay_4 : decode cX9_lay 4 = .ok (.bipush 97, 2) := dk_16 97 (dk_at dksX9_lay_0 4 rfl rfl)
theorem dX9_lay_6 : decode cX9_lay 6 = .ok (.iconst 5, 1) := dk_8 (dk_at dksX9_lay_0 6 rfl rfl)
theorem dX9_lay_7 : decode cX9_lay 7 = .ok (.iload_n 1, 1) := dk_27 (dk_at dksX9_lay_0 7 rfl rfl)
theorem dX9_lay_8 : decode cX9_lay 8 = .ok (.imul, 1) := dk_104 (dk_at dksX9_lay_0 8 rfl rfl)
theorem dX9_lay_9 : decode cX9_lay 9 = .ok (.iadd, 1) := dk_96 (dk_at dksX9_lay_0 9 rfl rfl)
theorem dX9_lay_10 : decode cX9_lay 10 = .ok (.iload_n 2, 1) := dk_28 (dk_at dksX9_lay_0 10 rfl rfl)
theorem dX9_lay_11 : decode cX9_lay 11 = .ok (.iadd, 1) := dk_96 (dk_at dksX9_lay_0 11 rfl rfl)
theorem dX9_lay_12 : decode cX9_lay 12 = .ok (.iload_n 3, 1) := dk_29 (dk_at dksX9_lay_0 12 rfl rfl)
theorem dX9_lay_13 : decode cX9_lay 13 = .ok (.iastore, 1) := dk_79 (dk_at dksX9_lay_0 13 rfl rfl)
theorem dX9_lay_14 : decode cX9_lay 14 = .ok (.return_, 1) := dk_177 (dk_at dksX9_lay_0 14 rfl rfl)
abbrev cX9_notes : ByteArray := prog_17_method_24_code
def yX9_notes : MethodName := ⟨RX9, "notes", "()V"⟩
def dkwX9_notes_2 : List UInt8 := [42, 180, 0, 7, 17, 0, 174, 92, 46, 4, 96, 79, 177]
abbrev dktX9_notes_2 : List UInt8 := dkwX9_notes_2 ++ []
def dkwX9_notes_1 : List UInt8 := [180, 0, 7, 17, 0, 175, 5, 42, 180, 0, 7, 17, 0, 174, 46, 104, 96, 4, 96, 42, 182, 0, 68, 79]
abbrev dktX9_notes_1 : List UInt8 := dkwX9_notes_1 ++ dktX9_notes_2
def dkwX9_notes_0 : List UInt8 := [42, 180, 0, 7, 17, 0, 175, 5, 42, 180, 0, 7, 17, 0, 174, 46, 104, 96, 42, 182, 0, 64, 79, 42]
abbrev dktX9_notes_0 : List UInt8 := dkwX9_notes_0 ++ dktX9_notes_1
theorem dksX9_notes_0 : cX9_notes.data.toList.drop 0 = dktX9_notes_0 := by decide +kernel
theorem dksX9_notes_1 : cX9_notes.data.toList.drop 24 = dktX9_notes_1 := dk_seg dksX9_notes_0 24 rfl rfl
theorem dksX9_notes_2 : cX9_notes.data.toList.drop 48 = dktX9_notes_2 := dk_seg dksX9_notes_1 24 rfl rfl
theorem dX9_notes_0 : decode cX9_notes 0 = .ok (.aload_n 0, 1) := dk_42 (dk_at dksX9_notes_0 0 rfl rfl)
theorem dX9_notes_1 : decode cX9_notes 1 = .ok (.getfield 7, 3) := dk_180 0 7 (dk_at dksX9_notes_0 1 rfl rfl)
theorem dX9_notes_4 : decode cX9_notes 4 = .ok (.sipush 175, 3) := dk_17 0 175 (dk_at dksX9_notes_0 4 rfl rfl)
theorem dX9_notes_7 : decode cX9_notes 7 = .ok (.iconst 2, 1) := dk_5 (dk_at dksX9_notes_0 7 rfl rfl)
theorem dX9_notes_8 : decode cX9_notes 8 = .ok (.aload_n 0, 1) := dk_42 (dk_at dksX9_notes_0 8 rfl rfl)
theorem dX9_notes_9 : decode cX9_notes 9 = .ok (.getfield 7, 3) := dk_180 0 7 (dk_at dksX9_notes_0 9 rfl rfl)
theorem dX9_notes_12 : decode cX9_notes 12 = .ok (.sipush 174, 3) := dk_17 0 174 (dk_at dksX9_notes_0 12 rfl rfl)
theorem dX9_notes_15 : decode cX9_notes 15 = .ok (.iaload, 1) := dk_46 (dk_at dksX9_notes_0 15 rfl rfl)
theorem dX9_notes_16 : decode cX9_notes 16 = .ok (.imul, 1) := dk_104 (dk_at dksX9_notes_0 16 rfl rfl)
theorem dX9_notes_17 : decode cX9_notes 17 = .ok (.iadd, 1) := dk_96 (dk_at dksX9_notes_0 17 rfl rfl)
theorem dX9_notes_18 : decode cX9_notes 18 = .ok (.aload_n 0, 1) := dk_42 (dk_at dksX9_notes_0 18 rfl rfl)
theorem dX9_notes_19 : decode cX9_notes 19 = .ok (.invokevirtual 64, 3) := dk_182 0 64 (dk_at dksX9_notes_0 19 rfl rfl)
theorem dX9_notes_22 : decode cX9_notes 22 = .ok (.iastore, 1) := dk_79 (dk_at dksX9_notes_0 22 rfl rfl)
theorem dX9_notes_23 : decode cX9_notes 23 = .ok (.aload_n 0, 1) := dk_42 (dk_at dksX9_notes_0 23 rfl rfl)
theorem dX9_notes_24 : decode cX9_notes 24 = .ok (.getfield 7, 3) := dk_180 0 7 (dk_at dksX9_notes_1 0 rfl rfl)
theorem dX9_notes_27 : decode cX9_notes 27 = .ok (.sipush 175, 3) := dk_17 0 175 (dk_at dksX9_notes_1 3 rfl rfl)
theorem dX9_notes_30 : decode cX9_notes 30 = .ok (.iconst 2, 1) := dk_5 (dk_at dksX9_notes_1 6 rfl rfl)
theorem dX9_notes_31 : decode cX9_notes 31 = .ok (.aload_n 0, 1) := dk_42 (dk_at dksX9_notes_1 7 rfl rfl)
theorem dX9_notes_32 : decode cX9_notes 32 = .ok (.getfield 7, 3) := dk_180 0 7 (dk_at dksX9_notes_1 8 rfl rfl)
theorem dX9_notes_35 : decode cX9_notes 35 = .ok (.sipush 174, 3) := dk_17 0 174 (dk_at dksX9_notes_1 11 rfl rfl)
theorem dX9_notes_38 : decode cX9_notes 38 = .ok (.iaload, 1) := dk_46 (dk_at dksX9_notes_1 14 rfl rfl)
theorem dX9_notes_39 : decode cX9_notes 39 = .ok (.imul, 1) := dk_104 (dk_at dksX9_notes_1 15 rfl rfl)
theorem dX9_notes_40 : decode cX9_notes 40 = .ok (.iadd, 1) := dk_96 (dk_at dksX9_notes_1 16 rfl rfl)
theorem dX9_notes_41 : decode cX9_notes 41 = .ok (.iconst 1, 1) := dk_4 (dk_at dksX9_notes_1 17 rfl rfl)
theorem dX9_notes_42 : decode cX9_notes 42 = .ok (.iadd, 1) := dk_96 (dk_at dksX9_notes_1 18 rfl rfl)
theorem dX9_notes_43 : decode cX9_notes 43 = .ok (.aload_n 0, 1) := dk_42 (dk_at dksX9_notes_1 19 rfl rfl)
theorem dX9_notes_44 : decode cX9_notes 44 = .ok (.invokevirtual 68, 3) := dk_182 0 68 (dk_at dksX9_notes_1 20 rfl rfl)
theorem dX9_notes_47 : decode cX9_notes 47 = .ok (.iastore, 1) := dk_79 (dk_at dksX9_notes_1 23 rfl rfl)
theorem dX9_notes_48 : decode cX9_notes 48 = .ok (.aload_n 0, 1) := dk_42 (dk_at dksX9_notes_2 0 rfl rfl)
theorem dX9_notes_49 : decode cX9_notes 49 = .ok (.getfield 7, 3) := dk_180 0 7 (dk_at dksX9_notes_2 1 rfl rfl)
theorem dX9_notes_52 : decode cX9_notes 52 = .ok (.sipush 174, 3) := dk_17 0 174 (dk_at dksX9_notes_2 4 rfl rfl)
theorem dX9_notes_55 : decode cX9_notes 55 = .ok (.dup2, 1) := dk_92 (dk_at dksX9_notes_2 7 rfl rfl)
theorem dX9_notes_56 : decode cX9_notes 56 = .ok (.iaload, 1) := dk_46 (dk_at dksX9_notes_2 8 rfl rfl)
theorem dX9_notes_57 : decode cX9_notes 57 = .ok (.iconst 1, 1) := dk_4 (dk_at dksX9_notes_2 9 rfl rfl)
theorem dX9_notes_58 : decode cX9_notes 58 = .ok (.iadd, 1) := dk_96 (dk_at dksX9_notes_2 10 rfl rfl)
theorem dX9_notes_59 : decode cX9_notes 59 = .ok (.iastore, 1) := dk_79 (dk_at dksX9_notes_2 11 rfl rfl)
theorem dX9_notes_60 : decode cX9_notes 60 = .ok (.return_, 1) := dk_177 (dk_at dksX9_notes_2 12 rfl rfl)
abbrev cX9_first : ByteArray := prog_17_method_22_code
def yX9_first : MethodName := ⟨RX9, "first", "()I"⟩
def dkwX9_first_2 : List UInt8 := [167, 255, 237, 27, 172]
abbrev dktX9_first_2 : List UInt8 := dkwX9_first_2 ++ []
def dkwX9_first_1 : List UInt8 := [167, 255, 236, 3, 61, 28, 7, 162, 0, 20, 27, 16, 18, 104, 42, 28, 182, 0, 60, 96, 60, 132, 2, 1]
abbrev dktX9_first_1 : List UInt8 := dkwX9_first_1 ++ dktX9_first_2
def dkwX9_first_0 : List UInt8 := [3, 60, 3, 61, 28, 7, 162, 0, 21, 27, 16, 10, 104, 42, 28, 3, 182, 0, 53, 96, 60, 132, 2, 1]
abbrev dktX9_first_0 : List UInt8 := dkwX9_first_0 ++ dktX9_first_1
theorem dksX9_first_0 : cX9_first.data.toList.drop 0 = dktX9_first_0 := by decide +kernel
theorem dksX9_first_1 : cX9_first.data.toList.drop 24 = dktX9_first_1 := dk_seg dksX9_first_0 24 rfl rfl
theorem dksX9_first_2 : cX9_first.data.toList.drop 48 = dktX9_first_2 := dk_seg dksX9_first_1 24 rfl rfl
theorem dX9_first_0 : decode cX9_first 0 = .ok (.iconst 0, 1) := dk_3 (dk_at dksX9_first_0 0 rfl rfl)
theorem dX9_first_1 : decode cX9_first 1 = .ok (.istore_n 1, 1) := dk_60 (dk_at dksX9_first_0 1 rfl rfl)
theorem dX9_first_2 : decode cX9_first 2 = .ok (.iconst 0, 1) := dk_3 (dk_at dksX9_first_0 2 rfl rfl)
theorem dX9_first_3 : decode cX9_first 3 = .ok (.istore_n 2, 1) := dk_61 (dk_at dksX9_first_0 3 rfl rfl)
theorem dX9_first_4 : decode cX9_first 4 = .ok (.iload_n 2, 1) := dk_28 (dk_at dksX9_first_0 4 rfl rfl)
theorem dX9_first_5 : decode cX9_first 5 = .ok (.iconst 4, 1) := dk_7 (dk_at dksX9_first_0 5 rfl rfl)
theorem dX9_first_6 : decode cX9_first 6 = .ok (.if_icmp .ge 21, 3) := dk_162 0 21 (dk_at dksX9_first_0 6 rfl rfl)
theorem dX9_first_9 : decode cX9_first 9 = .ok (.iload_n 1, 1) := dk_27 (dk_at dksX9_first_0 9 rfl rfl)
theorem dX9_first_10 : decode cX9_first 10 = .ok (.bipush 10, 2) := dk_16 10 (dk_at dksX9_first_0 10 rfl rfl)
theorem dX9_first_12 : decode cX9_first 12 = .ok (.imul, 1) := dk_104 (dk_at dksX9_first_0 12 rfl rfl)
theorem dX9_first_13 : decode cX9_first 13 = .ok (.aload_n 0, 1) := dk_42 (dk_at dksX9_first_0 13 rfl rfl)
theorem dX9_first_14 : decode cX9_first 14 = .ok (.iload_n 2, 1) := dk_28 (dk_at dksX9_first_0 14 rfl rfl)
theorem dX9_first_15 : decode cX9_first 15 = .ok (.iconst 0, 1) := dk_3 (dk_at dksX9_first_0 15 rfl rfl)
theorem dX9_first_16 : decode cX9_first 16 = .ok (.invokevirtual 53, 3) := dk_182 0 53 (dk_at dksX9_first_0 16 rfl rfl)
theorem dX9_first_19 : decode cX9_first 19 = .ok (.iadd, 1) := dk_96 (dk_at dksX9_first_0 19 rfl rfl)
theorem dX9_first_20 : decode cX9_first 20 = .ok (.istore_n 1, 1) := dk_60 (dk_at dksX9_first_0 20 rfl rfl)
theorem dX9_first_21 : decode cX9_first 21 = .ok (.iinc 2 1, 3) := dk_132 2 1 (dk_at dksX9_first_0 21 rfl rfl)
theorem dX9_first_24 : decode cX9_first 24 = .ok (.goto (-20), 3) := dk_167 255 236 (dk_at dksX9_first_1 0 rfl rfl)
theorem dX9_first_27 : decode cX9_first 27 = .ok (.iconst 0, 1) := dk_3 (dk_at dksX9_first_1 3 rfl rfl)
theorem dX9_first_28 : decode cX9_first 28 = .ok (.istore_n 2, 1) := dk_61 (dk_at dksX9_first_1 4 rfl rfl)
theorem dX9_first_29 : decode cX9_first 29 = .ok (.iload_n 2, 1) := dk_28 (dk_at dksX9_first_1 5 rfl rfl)
theorem dX9_first_30 : decode cX9_first 30 = .ok (.iconst 4, 1) := dk_7 (dk_at dksX9_first_1 6 rfl rfl)
theorem dX9_first_31 : decode cX9_first 31 = .ok (.if_icmp .ge 20, 3) := dk_162 0 20 (dk_at dksX9_first_1 7 rfl rfl)
theorem dX9_first_34 : decode cX9_first 34 = .ok (.iload_n 1, 1) := dk_27 (dk_at dksX9_first_1 10 rfl rfl)
theorem dX9_first_35 : decode cX9_first 35 = .ok (.bipush 18, 2) := dk_16 18 (dk_at dksX9_first_1 11 rfl rfl)
theorem dX9_first_37 : decode cX9_first 37 = .ok (.imul, 1) := dk_104 (dk_at dksX9_first_1 13 rfl rfl)
theorem dX9_first_38 : decode cX9_first 38 = .ok (.aload_n 0, 1) := dk_42 (dk_at dksX9_first_1 14 rfl rfl)
theorem dX9_first_39 : decode cX9_first 39 = .ok (.iload_n 2, 1) := dk_28 (dk_at dksX9_first_1 15 rfl rfl)
theorem dX9_first_40 : decode cX9_first 40 = .ok (.invokevirtual 60, 3) := dk_182 0 60 (dk_at dksX9_first_1 16 rfl rfl)
theorem dX9_first_43 : decode cX9_first 43 = .ok (.iadd, 1) := dk_96 (dk_at dksX9_first_1 19 rfl rfl)
theorem dX9_first_44 : decode cX9_first 44 = .ok (.istore_n 1, 1) := dk_60 (dk_at dksX9_first_1 20 rfl rfl)
theorem dX9_first_45 : decode cX9_first 45 = .ok (.iinc 2 1, 3) := dk_132 2 1 (dk_at dksX9_first_1 21 rfl rfl)
theorem dX9_first_48 : decode cX9_first 48 = .ok (.goto (-19), 3) := dk_167 255 237 (dk_at dksX9_first_2 0 rfl rfl)
theorem dX9_first_51 : decode cX9_first 51 = .ok (.iload_n 1, 1) := dk_27 (dk_at dksX9_first_2 3 rfl rfl)
theorem dX9_first_52 : decode cX9_first 52 = .ok (.ireturn, 1) := dk_172 (dk_at dksX9_first_2 4 rfl rfl)
abbrev cX9_of : ByteArray := prog_17_method_10_code
def yX9_of : MethodName := ⟨RX9, "of", "(II)I"⟩
def dkwX9_of_0 : List UInt8 := [42, 180, 0, 7, 16, 97, 8, 27, 104, 96, 28, 96, 46, 172]
abbrev dktX9_of_0 : List UInt8 := dkwX9_of_0 ++ []
theorem dksX9_of_0 : cX9_of.data.toList.drop 0 = dktX9_of_0 := by decide +kernel
theorem dX9_of_0 : decode cX9_of 0 = .ok (.aload_n 0, 1) := dk_42 (dk_at dksX9_of_0 0 rfl rfl)
theorem dX9_of_1 : decode cX9_of 1 = .ok (.getfield 7, 3) := dk_180 0 7 (dk_at dksX9_of_0 1 rfl rfl)
theorem dX9_of_4 : decode cX9_of 4 = .ok (.bipush 97, 2) := dk_16 97 (dk_at dksX9_of_0 4 rfl rfl)
theorem dX9_of_6 : decode cX9_of 6 = .ok (.iconst 5, 1) := dk_8 (dk_at dksX9_of_0 6 rfl rfl)
theorem dX9_of_7 : decode cX9_of 7 = .ok (.iload_n 1, 1) := dk_27 (dk_at dksX9_of_0 7 rfl rfl)
theorem dX9_of_8 : decode cX9_of 8 = .ok (.imul, 1) := dk_104 (dk_at dksX9_of_0 8 rfl rfl)
theorem dX9_of_9 : decode cX9_of 9 = .ok (.iadd, 1) := dk_96 (dk_at dksX9_of_0 9 rfl rfl)
theorem dX9_of_10 : decode cX9_of 10 = .ok (.iload_n 2, 1) := dk_28 (dk_at dksX9_of_0 10 rfl rfl)
theorem dX9_of_11 : decode cX9_of 11 = .ok (.iadd, 1) := dk_96 (dk_at dksX9_of_0 11 rfl rfl)
theorem dX9_of_12 : decode cX9_of 12 = .ok (.iaload, 1) := dk_46 (dk_at dksX9_of_0 12 rfl rfl)
theorem dX9_of_13 : decode cX9_of 13 = .ok (.ireturn, 1) := dk_172 (dk_at dksX9_of_0 13 rfl rfl)
abbrev cX9_coded : ByteArray := prog_17_method_21_code
def yX9_coded : MethodName := ⟨RX9, "coded", "(I)I"⟩
def dkwX9_coded_2 : List UInt8 := [182, 0, 49, 96, 167, 0, 12, 16, 14, 42, 27, 8, 182, 0, 49, 96, 172]
abbrev dktX9_coded_2 : List UInt8 := dkwX9_coded_2 ++ []
def dkwX9_coded_1 : List UInt8 := [3, 182, 0, 49, 167, 0, 34, 42, 27, 7, 182, 0, 49, 4, 160, 0, 15, 16, 10, 42, 27, 8]
abbrev dktX9_coded_1 : List UInt8 := dkwX9_coded_1 ++ dktX9_coded_2
def dkwX9_coded_0 : List UInt8 := [27, 42, 180, 0, 7, 16, 117, 46, 161, 0, 5, 3, 172, 42, 27, 7, 182, 0, 49, 154, 0, 12, 42, 27]
abbrev dktX9_coded_0 : List UInt8 := dkwX9_coded_0 ++ dktX9_coded_1
theorem dksX9_coded_0 : cX9_coded.data.toList.drop 0 = dktX9_coded_0 := by decide +kernel
theorem dksX9_coded_1 : cX9_coded.data.toList.drop 24 = dktX9_coded_1 := dk_seg dksX9_coded_0 24 rfl rfl
theorem dksX9_coded_2 : cX9_coded.data.toList.drop 46 = dktX9_coded_2 := dk_seg dksX9_coded_1 22 rfl rfl
theorem dX9_coded_0 : decode cX9_coded 0 = .ok (.iload_n 1, 1) := dk_27 (dk_at dksX9_coded_0 0 rfl rfl)
theorem dX9_coded_1 : decode cX9_coded 1 = .ok (.aload_n 0, 1) := dk_42 (dk_at dksX9_coded_0 1 rfl rfl)
theorem dX9_coded_2 : decode cX9_coded 2 = .ok (.getfield 7, 3) := dk_180 0 7 (dk_at dksX9_coded_0 2 rfl rfl)
theorem dX9_coded_5 : decode cX9_coded 5 = .ok (.bipush 117, 2) := dk_16 117 (dk_at dksX9_coded_0 5 rfl rfl)
theorem dX9_coded_7 : decode cX9_coded 7 = .ok (.iaload, 1) := dk_46 (dk_at dksX9_coded_0 7 rfl rfl)
theorem dX9_coded_8 : decode cX9_coded 8 = .ok (.if_icmp .lt 5, 3) := dk_161 0 5 (dk_at dksX9_coded_0 8 rfl rfl)
theorem dX9_coded_11 : decode cX9_coded 11 = .ok (.iconst 0, 1) := dk_3 (dk_at dksX9_coded_0 11 rfl rfl)
theorem dX9_coded_12 : decode cX9_coded 12 = .ok (.ireturn, 1) := dk_172 (dk_at dksX9_coded_0 12 rfl rfl)
theorem dX9_coded_13 : decode cX9_coded 13 = .ok (.aload_n 0, 1) := dk_42 (dk_at dksX9_coded_0 13 rfl rfl)
theorem dX9_coded_14 : decode cX9_coded 14 = .ok (.iload_n 1, 1) := dk_27 (dk_at dksX9_coded_0 14 rfl rfl)
theorem dX9_coded_15 : decode cX9_coded 15 = .ok (.iconst 4, 1) := dk_7 (dk_at dksX9_coded_0 15 rfl rfl)
theorem dX9_coded_16 : decode cX9_coded 16 = .ok (.invokevirtual 49, 3) := dk_182 0 49 (dk_at dksX9_coded_0 16 rfl rfl)
theorem dX9_coded_19 : decode cX9_coded 19 = .ok (.ifCond .ne 12, 3) := dk_154 0 12 (dk_at dksX9_coded_0 19 rfl rfl)
theorem dX9_coded_22 : decode cX9_coded 22 = .ok (.aload_n 0, 1) := dk_42 (dk_at dksX9_coded_0 22 rfl rfl)
theorem dX9_coded_23 : decode cX9_coded 23 = .ok (.iload_n 1, 1) := dk_27 (dk_at dksX9_coded_0 23 rfl rfl)
theorem dX9_coded_24 : decode cX9_coded 24 = .ok (.iconst 0, 1) := dk_3 (dk_at dksX9_coded_1 0 rfl rfl)
theorem dX9_coded_25 : decode cX9_coded 25 = .ok (.invokevirtual 49, 3) := dk_182 0 49 (dk_at dksX9_coded_1 1 rfl rfl)
theorem dX9_coded_28 : decode cX9_coded 28 = .ok (.goto 34, 3) := dk_167 0 34 (dk_at dksX9_coded_1 4 rfl rfl)
theorem dX9_coded_31 : decode cX9_coded 31 = .ok (.aload_n 0, 1) := dk_42 (dk_at dksX9_coded_1 7 rfl rfl)
theorem dX9_coded_32 : decode cX9_coded 32 = .ok (.iload_n 1, 1) := dk_27 (dk_at dksX9_coded_1 8 rfl rfl)
theorem dX9_coded_33 : decode cX9_coded 33 = .ok (.iconst 4, 1) := dk_7 (dk_at dksX9_coded_1 9 rfl rfl)
theorem dX9_coded_34 : decode cX9_coded 34 = .ok (.invokevirtual 49, 3) := dk_182 0 49 (dk_at dksX9_coded_1 10 rfl rfl)
theorem dX9_coded_37 : decode cX9_coded 37 = .ok (.iconst 1, 1) := dk_4 (dk_at dksX9_coded_1 13 rfl rfl)
theorem dX9_coded_38 : decode cX9_coded 38 = .ok (.if_icmp .ne 15, 3) := dk_160 0 15 (dk_at dksX9_coded_1 14 rfl rfl)
theorem dX9_coded_41 : decode cX9_coded 41 = .ok (.bipush 10, 2) := dk_16 10 (dk_at dksX9_coded_1 17 rfl rfl)
theorem dX9_coded_43 : decode cX9_coded 43 = .ok (.aload_n 0, 1) := dk_42 (dk_at dksX9_coded_1 19 rfl rfl)
theorem dX9_coded_44 : decode cX9_coded 44 = .ok (.iload_n 1, 1) := dk_27 (dk_at dksX9_coded_1 20 rfl rfl)
theorem dX9_coded_45 : decode cX9_coded 45 = .ok (.iconst 5, 1) := dk_8 (dk_at dksX9_coded_1 21 rfl rfl)
theorem dX9_coded_46 : decode cX9_coded 46 = .ok (.invokevirtual 49, 3) := dk_182 0 49 (dk_at dksX9_coded_2 0 rfl rfl)
theorem dX9_coded_49 : decode cX9_coded 49 = .ok (.iadd, 1) := dk_96 (dk_at dksX9_coded_2 3 rfl rfl)
theorem dX9_coded_50 : decode cX9_coded 50 = .ok (.goto 12, 3) := dk_167 0 12 (dk_at dksX9_coded_2 4 rfl rfl)
theorem dX9_coded_53 : decode cX9_coded 53 = .ok (.bipush 14, 2) := dk_16 14 (dk_at dksX9_coded_2 7 rfl rfl)
theorem dX9_coded_55 : decode cX9_coded 55 = .ok (.aload_n 0, 1) := dk_42 (dk_at dksX9_coded_2 9 rfl rfl)
theorem dX9_coded_56 : decode cX9_coded 56 = .ok (.iload_n 1, 1) := dk_27 (dk_at dksX9_coded_2 10 rfl rfl)
theorem dX9_coded_57 : decode cX9_coded 57 = .ok (.iconst 5, 1) := dk_8 (dk_at dksX9_coded_2 11 rfl rfl)
theorem dX9_coded_58 : decode cX9_coded 58 = .ok (.invokevirtual 49, 3) := dk_182 0 49 (dk_at dksX9_coded_2 12 rfl rfl)
theorem dX9_coded_61 : decode cX9_coded 61 = .ok (.iadd, 1) := dk_96 (dk_at dksX9_coded_2 15 rfl rfl)
theorem dX9_coded_62 : decode cX9_coded 62 = .ok (.ireturn, 1) := dk_172 (dk_at dksX9_coded_2 16 rfl rfl)
abbrev cX9_has : ByteArray := prog_17_method_12_code
def yX9_has : MethodName := ⟨RX9, "has", "(II)I"⟩
def dkwX9_has_0 : List UInt8 := [42, 180, 0, 7, 16, 118, 16, 6, 27, 104, 96, 28, 96, 46, 172]
abbrev dktX9_has_0 : List UInt8 := dkwX9_has_0 ++ []
theorem dksX9_has_0 : cX9_has.data.toList.drop 0 = dktX9_has_0 := by decide +kernel
theorem dX9_has_0 : decode cX9_has 0 = .ok (.aload_n 0, 1) := dk_42 (dk_at dksX9_has_0 0 rfl rfl)
theorem dX9_has_1 : decode cX9_has 1 = .ok (.getfield 7, 3) := dk_180 0 7 (dk_at dksX9_has_0 1 rfl rfl)
theorem dX9_has_4 : decode cX9_has 4 = .ok (.bipush 118, 2) := dk_16 118 (dk_at dksX9_has_0 4 rfl rfl)
theorem dX9_has_6 : decode cX9_has 6 = .ok (.bipush 6, 2) := dk_16 6 (dk_at dksX9_has_0 6 rfl rfl)
theorem dX9_has_8 : decode cX9_has 8 = .ok (.iload_n 1, 1) := dk_27 (dk_at dksX9_has_0 8 rfl rfl)
theorem dX9_has_9 : decode cX9_has 9 = .ok (.imul, 1) := dk_104 (dk_at dksX9_has_0 9 rfl rfl)
theorem dX9_has_10 : decode cX9_has 10 = .ok (.iadd, 1) := dk_96 (dk_at dksX9_has_0 10 rfl rfl)
theorem dX9_has_11 : decode cX9_has 11 = .ok (.iload_n 2, 1) := dk_28 (dk_at dksX9_has_0 11 rfl rfl)
theorem dX9_has_12 : decode cX9_has 12 = .ok (.iadd, 1) := dk_96 (dk_at dksX9_has_0 12 rfl rfl)
theorem dX9_has_13 : decode cX9_has 13 = .ok (.iaload, 1) := dk_46 (dk_at dksX9_has_0 13 rfl rfl)
theorem dX9_has_14 : decode cX9_has 14 = .ok (.ireturn, 1) := dk_172 (dk_at dksX9_has_0 14 rfl rfl)
abbrev cX9_second : ByteArray := prog_17_method_23_code
def yX9_second : MethodName := ⟨RX9, "second", "()I"⟩
def dkwX9_second_1 : List UInt8 := [167, 255, 236, 27, 172]
abbrev dktX9_second_1 : List UInt8 := dkwX9_second_1 ++ []
def dkwX9_second_0 : List UInt8 := [3, 60, 7, 61, 28, 16, 8, 162, 0, 20, 27, 16, 18, 104, 42, 28, 182, 0, 60, 96, 60, 132, 2, 1]
abbrev dktX9_second_0 : List UInt8 := dkwX9_second_0 ++ dktX9_second_1
theorem dksX9_second_0 : cX9_second.data.toList.drop 0 = dktX9_second_0 := by decide +kernel
theorem dksX9_second_1 : cX9_second.data.toList.drop 24 = dktX9_second_1 := dk_seg dksX9_second_0 24 rfl rfl
theorem dX9_second_0 : decode cX9_second 0 = .ok (.iconst 0, 1) := dk_3 (dk_at dksX9_second_0 0 rfl rfl)
theorem dX9_second_1 : decode cX9_second 1 = .ok (.istore_n 1, 1) := dk_60 (dk_at dksX9_second_0 1 rfl rfl)
theorem dX9_second_2 : decode cX9_second 2 = .ok (.iconst 4, 1) := dk_7 (dk_at dksX9_second_0 2 rfl rfl)
theorem dX9_second_3 : decode cX9_second 3 = .ok (.istore_n 2, 1) := dk_61 (dk_at dksX9_second_0 3 rfl rfl)
theorem dX9_second_4 : decode cX9_second 4 = .ok (.iload_n 2, 1) := dk_28 (dk_at dksX9_second_0 4 rfl rfl)
theorem dX9_second_5 : decode cX9_second 5 = .ok (.bipush 8, 2) := dk_16 8 (dk_at dksX9_second_0 5 rfl rfl)
theorem dX9_second_7 : decode cX9_second 7 = .ok (.if_icmp .ge 20, 3) := dk_162 0 20 (dk_at dksX9_second_0 7 rfl rfl)
theorem dX9_second_10 : decode cX9_second 10 = .ok (.iload_n 1, 1) := dk_27 (dk_at dksX9_second_0 10 rfl rfl)
theorem dX9_second_11 : decode cX9_second 11 = .ok (.bipush 18, 2) := dk_16 18 (dk_at dksX9_second_0 11 rfl rfl)
theorem dX9_second_13 : decode cX9_second 13 = .ok (.imul, 1) := dk_104 (dk_at dksX9_second_0 13 rfl rfl)
theorem dX9_second_14 : decode cX9_second 14 = .ok (.aload_n 0, 1) := dk_42 (dk_at dksX9_second_0 14 rfl rfl)
theorem dX9_second_15 : decode cX9_second 15 = .ok (.iload_n 2, 1) := dk_28 (dk_at dksX9_second_0 15 rfl rfl)
theorem dX9_second_16 : decode cX9_second 16 = .ok (.invokevirtual 60, 3) := dk_182 0 60 (dk_at dksX9_second_0 16 rfl rfl)
theorem dX9_second_19 : decode cX9_second 19 = .ok (.iadd, 1) := dk_96 (dk_at dksX9_second_0 19 rfl rfl)
theorem dX9_second_20 : decode cX9_second 20 = .ok (.istore_n 1, 1) := dk_60 (dk_at dksX9_second_0 20 rfl rfl)
theorem dX9_second_21 : decode cX9_second 21 = .ok (.iinc 2 1, 3) := dk_132 2 1 (dk_at dksX9_second_0 21 rfl rfl)
theorem dX9_second_24 : decode cX9_second 24 = .ok (.goto (-20), 3) := dk_167 255 236 (dk_at dksX9_second_1 0 rfl rfl)
theorem dX9_second_27 : decode cX9_second 27 = .ok (.iload_n 1, 1) := dk_27 (dk_at dksX9_second_1 3 rfl rfl)
theorem dX9_second_28 : decode cX9_second 28 = .ok (.ireturn, 1) := dk_172 (dk_at dksX9_second_1 4 rfl rfl)
abbrev cX9_thrown : ByteArray := prog_17_method_2_code
def yX9_thrown : MethodName := ⟨RX9, "thrown", "()I"⟩
theorem dX9_thrown_0 : decode cX9_thrown 0 = .ok (.aload_n 0, 1) := by decide +kernel
theorem dX9_thrown_1 : decode cX9_thrown 1 = .ok (.getfield 38, 3) := by decide +kernel
theorem dX9_thrown_4 : decode cX9_thrown 4 = .ok (.ireturn, 1) := by decide +kernel
abbrev cX9_addStreet : ByteArray := prog_17_method_38_code
def yX9_addStreet : MethodName := ⟨RX9, "addStreet", "(IIZ)I"⟩
def dkwX9_addStreet_8 : List UInt8 := [79, 42, 180, 0, 7, 3, 46, 4, 100, 172]
abbrev dktX9_addStreet_8 : List UInt8 := dkwX9_addStreet_8 ++ []
def dkwX9_addStreet_7 : List UInt8 := [167, 0, 4, 3, 79, 42, 180, 0, 7, 21, 5, 6, 96, 4, 79, 42, 180, 0, 7, 3, 92, 46, 4, 96]
abbrev dktX9_addStreet_7 : List UInt8 := dkwX9_addStreet_7 ++ dktX9_addStreet_8
def dkwX9_addStreet_6 : List UInt8 := [180, 0, 7, 21, 5, 4, 96, 28, 79, 42, 180, 0, 7, 21, 5, 5, 96, 29, 153, 0, 7, 4]
abbrev dktX9_addStreet_6 : List UInt8 := dkwX9_addStreet_6 ++ dktX9_addStreet_7
def dkwX9_addStreet_5 : List UInt8 := [182, 0, 125, 4, 7, 42, 180, 0, 7, 3, 46, 104, 96, 54, 5, 42, 180, 0, 7, 21, 5, 27, 79, 42]
abbrev dktX9_addStreet_5 : List UInt8 := dkwX9_addStreet_5 ++ dktX9_addStreet_6
def dkwX9_addStreet_4 : List UInt8 := [167, 0, 4, 3, 54, 4, 132, 5, 1, 167, 255, 210, 21, 4, 154, 0, 9, 42, 6, 182, 0, 122, 172, 42]
abbrev dktX9_addStreet_4 : List UInt8 := dkwX9_addStreet_4 ++ dktX9_addStreet_5
def dkwX9_addStreet_3 : List UInt8 := [153, 0, 27, 42, 21, 5, 182, 0, 77, 27, 160, 0, 13, 42, 21, 5, 182, 0, 91, 28, 159, 0, 7, 4]
abbrev dktX9_addStreet_3 : List UInt8 := dkwX9_addStreet_3 ++ dktX9_addStreet_4
def dkwX9_addStreet_2 : List UInt8 := [167, 0, 4, 3, 54, 4, 3, 54, 5, 21, 5, 42, 180, 0, 7, 3, 46, 162, 0, 41, 21, 4]
abbrev dktX9_addStreet_2 : List UInt8 := dkwX9_addStreet_2 ++ dktX9_addStreet_3
def dkwX9_addStreet_1 : List UInt8 := [172, 27, 28, 160, 0, 9, 42, 5, 182, 0, 122, 172, 42, 180, 0, 7, 3, 46, 16, 24, 162, 0, 7, 4]
abbrev dktX9_addStreet_1 : List UInt8 := dkwX9_addStreet_1 ++ dktX9_addStreet_2
def dkwX9_addStreet_0 : List UInt8 := [42, 3, 181, 0, 38, 27, 184, 0, 119, 153, 0, 10, 28, 184, 0, 119, 154, 0, 9, 42, 4, 182, 0, 122]
abbrev dktX9_addStreet_0 : List UInt8 := dkwX9_addStreet_0 ++ dktX9_addStreet_1
theorem dksX9_addStreet_0 : cX9_addStreet.data.toList.drop 0 = dktX9_addStreet_0 := by decide +kernel
theorem dksX9_addStreet_1 : cX9_addStreet.data.toList.drop 24 = dktX9_addStreet_1 := dk_seg dksX9_addStreet_0 24 rfl rfl
theorem dksX9_addStreet_2 : cX9_addStreet.data.toList.drop 48 = dktX9_addStreet_2 := dk_seg dksX9_addStreet_1 24 rfl rfl
theorem dksX9_addStreet_3 : cX9_addStreet.data.toList.drop 70 = dktX9_addStreet_3 := dk_seg dksX9_addStreet_2 22 rfl rfl
theorem dksX9_addStreet_4 : cX9_addStreet.data.toList.drop 94 = dktX9_addStreet_4 := dk_seg dksX9_addStreet_3 24 rfl rfl
theorem dksX9_addStreet_5 : cX9_addStreet.data.toList.drop 118 = dktX9_addStreet_5 := dk_seg dksX9_addStreet_4 24 rfl rfl
theorem dksX9_addStreet_6 : cX9_addStreet.data.toList.drop 142 = dktX9_addStreet_6 := dk_seg dksX9_addStreet_5 24 rfl rfl
theorem dksX9_addStreet_7 : cX9_addStreet.data.toList.drop 164 = dktX9_addStreet_7 := dk_seg dksX9_addStreet_6 22 rfl rfl
theorem dksX9_addStreet_8 : cX9_addStreet.data.toList.drop 188 = dktX9_addStreet_8 := dk_seg dksX9_addStreet_7 24 rfl rfl
theorem dX9_addStreet_0 : decode cX9_addStreet 0 = .ok (.aload_n 0, 1) := dk_42 (dk_at dksX9_addStreet_0 0 rfl rfl)
theorem dX9_addStreet_1 : decode cX9_addStreet 1 = .ok (.iconst 0, 1) := dk_3 (dk_at dksX9_addStreet_0 1 rfl rfl)
theorem dX9_addStreet_2 : decode cX9_addStreet 2 = .ok (.putfield 38, 3) := dk_181 0 38 (dk_at dksX9_addStreet_0 2 rfl rfl)
theorem dX9_addStreet_5 : decode cX9_addStreet 5 = .ok (.iload_n 1, 1) := dk_27 (dk_at dksX9_addStreet_0 5 rfl rfl)
theorem dX9_addStreet_6 : decode cX9_addStreet 6 = .ok (.invokestatic 119, 3) := dk_184 0 119 (dk_at dksX9_addStreet_0 6 rfl rfl)
theorem dX9_addStreet_9 : decode cX9_addStreet 9 = .ok (.ifCond .eq 10, 3) := dk_153 0 10 (dk_at dksX9_addStreet_0 9 rfl rfl)
theorem dX9_addStreet_12 : decode cX9_addStreet 12 = .ok (.iload_n 2, 1) := dk_28 (dk_at dksX9_addStreet_0 12 rfl rfl)
theorem dX9_addStreet_13 : decode cX9_addStreet 13 = .ok (.invokestatic 119, 3) := dk_184 0 119 (dk_at dksX9_addStreet_0 13 rfl rfl)
theorem dX9_addStreet_16 : decode cX9_addStreet 16 = .ok (.ifCond .ne 9, 3) := dk_154 0 9 (dk_at dksX9_addStreet_0 16 rfl rfl)
theorem dX9_addStreet_19 : decode cX9_addStreet 19 = .ok (.aload_n 0, 1) := dk_42 (dk_at dksX9_addStreet_0 19 rfl rfl)
theorem dX9_addStreet_20 : decode cX9_addStreet 20 = .ok (.iconst 1, 1) := dk_4 (dk_at dksX9_addStreet_0 20 rfl rfl)
theorem dX9_addStreet_21 : decode cX9_addStreet 21 = .ok (.invokevirtual 122, 3) := dk_182 0 122 (dk_at dksX9_addStreet_0 21 rfl rfl)
theorem dX9_addStreet_24 : decode cX9_addStreet 24 = .ok (.ireturn, 1) := dk_172 (dk_at dksX9_addStreet_1 0 rfl rfl)
theorem dX9_addStreet_25 : decode cX9_addStreet 25 = .ok (.iload_n 1, 1) := dk_27 (dk_at dksX9_addStreet_1 1 rfl rfl)
theorem dX9_addStreet_26 : decode cX9_addStreet 26 = .ok (.iload_n 2, 1) := dk_28 (dk_at dksX9_addStreet_1 2 rfl rfl)
theorem dX9_addStreet_27 : decode cX9_addStreet 27 = .ok (.if_icmp .ne 9, 3) := dk_160 0 9 (dk_at dksX9_addStreet_1 3 rfl rfl)
theorem dX9_addStreet_30 : decode cX9_addStreet 30 = .ok (.aload_n 0, 1) := dk_42 (dk_at dksX9_addStreet_1 6 rfl rfl)
theorem dX9_addStreet_31 : decode cX9_addStreet 31 = .ok (.iconst 2, 1) := dk_5 (dk_at dksX9_addStreet_1 7 rfl rfl)
theorem dX9_addStreet_32 : decode cX9_addStreet 32 = .ok (.invokevirtual 122, 3) := dk_182 0 122 (dk_at dksX9_addStreet_1 8 rfl rfl)
theorem dX9_addStreet_35 : decode cX9_addStreet 35 = .ok (.ireturn, 1) := dk_172 (dk_at dksX9_addStreet_1 11 rfl rfl)
theorem dX9_addStreet_36 : decode cX9_addStreet 36 = .ok (.aload_n 0, 1) := dk_42 (dk_at dksX9_addStreet_1 12 rfl rfl)
theorem dX9_addStreet_37 : decode cX9_addStreet 37 = .ok (.getfield 7, 3) := dk_180 0 7 (dk_at dksX9_addStreet_1 13 rfl rfl)
theorem dX9_addStreet_40 : decode cX9_addStreet 40 = .ok (.iconst 0, 1) := dk_3 (dk_at dksX9_addStreet_1 16 rfl rfl)
theorem dX9_addStreet_41 : decode cX9_addStreet 41 = .ok (.iaload, 1) := dk_46 (dk_at dksX9_addStreet_1 17 rfl rfl)
theorem dX9_addStreet_42 : decode cX9_addStreet 42 = .ok (.bipush 24, 2) := dk_16 24 (dk_at dksX9_addStreet_1 18 rfl rfl)
theorem dX9_addStreet_44 : decode cX9_addStreet 44 = .ok (.if_icmp .ge 7, 3) := dk_162 0 7 (dk_at dksX9_addStreet_1 20 rfl rfl)
theorem dX9_addStreet_47 : decode cX9_addStreet 47 = .ok (.iconst 1, 1) := dk_4 (dk_at dksX9_addStreet_1 23 rfl rfl)
theorem dX9_addStreet_48 : decode cX9_addStreet 48 = .ok (.goto 4, 3) := dk_167 0 4 (dk_at dksX9_addStreet_2 0 rfl rfl)
theorem dX9_addStreet_51 : decode cX9_addStreet 51 = .ok (.iconst 0, 1) := dk_3 (dk_at dksX9_addStreet_2 3 rfl rfl)
theorem dX9_addStreet_52 : decode cX9_addStreet 52 = .ok (.istore 4, 2) := dk_54 4 (dk_at dksX9_addStreet_2 4 rfl rfl)
theorem dX9_addStreet_54 : decode cX9_addStreet 54 = .ok (.iconst 0, 1) := dk_3 (dk_at dksX9_addStreet_2 6 rfl rfl)
theorem dX9_addStreet_55 : decode cX9_addStreet 55 = .ok (.istore 5, 2) := dk_54 5 (dk_at dksX9_addStreet_2 7 rfl rfl)
theorem dX9_addStreet_57 : decode cX9_addStreet 57 = .ok (.iload 5, 2) := dk_21 5 (dk_at dksX9_addStreet_2 9 rfl rfl)
theorem dX9_addStreet_59 : decode cX9_addStreet 59 = .ok (.aload_n 0, 1) := dk_42 (dk_at dksX9_addStreet_2 11 rfl rfl)
theorem dX9_addStreet_60 : decode cX9_addStreet 60 = .ok (.getfield 7, 3) := dk_180 0 7 (dk_at dksX9_addStreet_2 12 rfl rfl)
theorem dX9_addStreet_63 : decode cX9_addStreet 63 = .ok (.iconst 0, 1) := dk_3 (dk_at dksX9_addStreet_2 15 rfl rfl)
theorem dX9_addStreet_64 : decode cX9_addStreet 64 = .ok (.iaload, 1) := dk_46 (dk_at dksX9_addStreet_2 16 rfl rfl)
theorem dX9_addStreet_65 : decode cX9_addStreet 65 = .ok (.if_icmp .ge 41, 3) := dk_162 0 41 (dk_at dksX9_addStreet_2 17 rfl rfl)
theorem dX9_addStreet_68 : decode cX9_addStreet 68 = .ok (.iload 4, 2) := dk_21 4 (dk_at dksX9_addStreet_2 20 rfl rfl)
theorem dX9_addStreet_70 : decode cX9_addStreet 70 = .ok (.ifCond .eq 27, 3) := dk_153 0 27 (dk_at dksX9_addStreet_3 0 rfl rfl)
theorem dX9_addStreet_73 : decode cX9_addStreet 73 = .ok (.aload_n 0, 1) := dk_42 (dk_at dksX9_addStreet_3 3 rfl rfl)
theorem dX9_addStreet_74 : decode cX9_addStreet 74 = .ok (.iload 5, 2) := dk_21 5 (dk_at dksX9_addStreet_3 4 rfl rfl)
theorem dX9_addStreet_76 : decode cX9_addStreet 76 = .ok (.invokevirtual 77, 3) := dk_182 0 77 (dk_at dksX9_addStreet_3 6 rfl rfl)
theorem dX9_addStreet_79 : decode cX9_addStreet 79 = .ok (.iload_n 1, 1) := dk_27 (dk_at dksX9_addStreet_3 9 rfl rfl)
theorem dX9_addStreet_80 : decode cX9_addStreet 80 = .ok (.if_icmp .ne 13, 3) := dk_160 0 13 (dk_at dksX9_addStreet_3 10 rfl rfl)
theorem dX9_addStreet_83 : decode cX9_addStreet 83 = .ok (.aload_n 0, 1) := dk_42 (dk_at dksX9_addStreet_3 13 rfl rfl)
theorem dX9_addStreet_84 : decode cX9_addStreet 84 = .ok (.iload 5, 2) := dk_21 5 (dk_at dksX9_addStreet_3 14 rfl rfl)
theorem dX9_addStreet_86 : decode cX9_addStreet 86 = .ok (.invokevirtual 91, 3) := dk_182 0 91 (dk_at dksX9_addStreet_3 16 rfl rfl)
theorem dX9_addStreet_89 : decode cX9_addStreet 89 = .ok (.iload_n 2, 1) := dk_28 (dk_at dksX9_addStreet_3 19 rfl rfl)
theorem dX9_addStreet_90 : decode cX9_addStreet 90 = .ok (.if_icmp .eq 7, 3) := dk_159 0 7 (dk_at dksX9_addStreet_3 20 rfl rfl)
theorem dX9_addStreet_93 : decode cX9_addStreet 93 = .ok (.iconst 1, 1) := dk_4 (dk_at dksX9_addStreet_3 23 rfl rfl)
theorem dX9_addStreet_94 : decode cX9_addStreet 94 = .ok (.goto 4, 3) := dk_167 0 4 (dk_at dksX9_addStreet_4 0 rfl rfl)
theorem dX9_addStreet_97 : decode cX9_addStreet 97 = .ok (.iconst 0, 1) := dk_3 (dk_at dksX9_addStreet_4 3 rfl rfl)
theorem dX9_addStreet_98 : decode cX9_addStreet 98 = .ok (.istore 4, 2) := dk_54 4 (dk_at dksX9_addStreet_4 4 rfl rfl)
theorem dX9_addStreet_100 : decode cX9_addStreet 100 = .ok (.iinc 5 1, 3) := dk_132 5 1 (dk_at dksX9_addStreet_4 6 rfl rfl)
theorem dX9_addStreet_103 : decode cX9_addStreet 103 = .ok (.goto (-46), 3) := dk_167 255 210 (dk_at dksX9_addStreet_4 9 rfl rfl)
theorem dX9_addStreet_106 : decode cX9_addStreet 106 = .ok (.iload 4, 2) := dk_21 4 (dk_at dksX9_addStreet_4 12 rfl rfl)
theorem dX9_addStreet_108 : decode cX9_addStreet 108 = .ok (.ifCond .ne 9, 3) := dk_154 0 9 (dk_at dksX9_addStreet_4 14 rfl rfl)
theorem dX9_addStreet_111 : decode cX9_addStreet 111 = .ok (.aload_n 0, 1) := dk_42 (dk_at dksX9_addStreet_4 17 rfl rfl)
theorem dX9_addStreet_112 : decode cX9_addStreet 112 = .ok (.iconst 3, 1) := dk_6 (dk_at dksX9_addStreet_4 18 rfl rfl)
theorem dX9_addStreet_113 : decode cX9_addStreet 113 = .ok (.invokevirtual 122, 3) := dk_182 0 122 (dk_at dksX9_addStreet_4 19 rfl rfl)
theorem dX9_addStreet_116 : decode cX9_addStreet 116 = .ok (.ireturn, 1) := dk_172 (dk_at dksX9_addStreet_4 22 rfl rfl)
theorem dX9_addStreet_117 : decode cX9_addStreet 117 = .ok (.aload_n 0, 1) := dk_42 (dk_at dksX9_addStreet_4 23 rfl rfl)
theorem dX9_addStreet_118 : decode cX9_addStreet 118 = .ok (.invokevirtual 125, 3) := dk_182 0 125 (dk_at dksX9_addStreet_5 0 rfl rfl)
theorem dX9_addStreet_121 : decode cX9_addStreet 121 = .ok (.iconst 1, 1) := dk_4 (dk_at dksX9_addStreet_5 3 rfl rfl)
theorem dX9_addStreet_122 : decode cX9_addStreet 122 = .ok (.iconst 4, 1) := dk_7 (dk_at dksX9_addStreet_5 4 rfl rfl)
theorem dX9_addStreet_123 : decode cX9_addStreet 123 = .ok (.aload_n 0, 1) := dk_42 (dk_at dksX9_addStreet_5 5 rfl rfl)
theorem dX9_addStreet_124 : decode cX9_addStreet 124 = .ok (.getfield 7, 3) := dk_180 0 7 (dk_at dksX9_addStreet_5 6 rfl rfl)
theorem dX9_addStreet_127 : decode cX9_addStreet 127 = .ok (.iconst 0, 1) := dk_3 (dk_at dksX9_addStreet_5 9 rfl rfl)
theorem dX9_addStreet_128 : decode cX9_addStreet 128 = .ok (.iaload, 1) := dk_46 (dk_at dksX9_addStreet_5 10 rfl rfl)
theorem dX9_addStreet_129 : decode cX9_addStreet 129 = .ok (.imul, 1) := dk_104 (dk_at dksX9_addStreet_5 11 rfl rfl)
theorem dX9_addStreet_130 : decode cX9_addStreet 130 = .ok (.iadd, 1) := dk_96 (dk_at dksX9_addStreet_5 12 rfl rfl)
theorem dX9_addStreet_131 : decode cX9_addStreet 131 = .ok (.istore 5, 2) := dk_54 5 (dk_at dksX9_addStreet_5 13 rfl rfl)
theorem dX9_addStreet_133 : decode cX9_addStreet 133 = .ok (.aload_n 0, 1) := dk_42 (dk_at dksX9_addStreet_5 15 rfl rfl)
theorem dX9_addStreet_134 : decode cX9_addStreet 134 = .ok (.getfield 7, 3) := dk_180 0 7 (dk_at dksX9_addStreet_5 16 rfl rfl)
theorem dX9_addStreet_137 : decode cX9_addStreet 137 = .ok (.iload 5, 2) := dk_21 5 (dk_at dksX9_addStreet_5 19 rfl rfl)
theorem dX9_addStreet_139 : decode cX9_addStreet 139 = .ok (.iload_n 1, 1) := dk_27 (dk_at dksX9_addStreet_5 21 rfl rfl)
theorem dX9_addStreet_140 : decode cX9_addStreet 140 = .ok (.iastore, 1) := dk_79 (dk_at dksX9_addStreet_5 22 rfl rfl)
theorem dX9_addStreet_141 : decode cX9_addStreet 141 = .ok (.aload_n 0, 1) := dk_42 (dk_at dksX9_addStreet_5 23 rfl rfl)
theorem dX9_addStreet_142 : decode cX9_addStreet 142 = .ok (.getfield 7, 3) := dk_180 0 7 (dk_at dksX9_addStreet_6 0 rfl rfl)
theorem dX9_addStreet_145 : decode cX9_addStreet 145 = .ok (.iload 5, 2) := dk_21 5 (dk_at dksX9_addStreet_6 3 rfl rfl)
theorem dX9_addStreet_147 : decode cX9_addStreet 147 = .ok (.iconst 1, 1) := dk_4 (dk_at dksX9_addStreet_6 5 rfl rfl)
theorem dX9_addStreet_148 : decode cX9_addStreet 148 = .ok (.iadd, 1) := dk_96 (dk_at dksX9_addStreet_6 6 rfl rfl)
theorem dX9_addStreet_149 : decode cX9_addStreet 149 = .ok (.iload_n 2, 1) := dk_28 (dk_at dksX9_addStreet_6 7 rfl rfl)
theorem dX9_addStreet_150 : decode cX9_addStreet 150 = .ok (.iastore, 1) := dk_79 (dk_at dksX9_addStreet_6 8 rfl rfl)
theorem dX9_addStreet_151 : decode cX9_addStreet 151 = .ok (.aload_n 0, 1) := dk_42 (dk_at dksX9_addStreet_6 9 rfl rfl)
theorem dX9_addStreet_152 : decode cX9_addStreet 152 = .ok (.getfield 7, 3) := dk_180 0 7 (dk_at dksX9_addStreet_6 10 rfl rfl)
theorem dX9_addStreet_155 : decode cX9_addStreet 155 = .ok (.iload 5, 2) := dk_21 5 (dk_at dksX9_addStreet_6 13 rfl rfl)
theorem dX9_addStreet_157 : decode cX9_addStreet 157 = .ok (.iconst 2, 1) := dk_5 (dk_at dksX9_addStreet_6 15 rfl rfl)
theorem dX9_addStreet_158 : decode cX9_addStreet 158 = .ok (.iadd, 1) := dk_96 (dk_at dksX9_addStreet_6 16 rfl rfl)
theorem dX9_addStreet_159 : decode cX9_addStreet 159 = .ok (.iload_n 3, 1) := dk_29 (dk_at dksX9_addStreet_6 17 rfl rfl)
theorem dX9_addStreet_160 : decode cX9_addStreet 160 = .ok (.ifCond .eq 7, 3) := dk_153 0 7 (dk_at dksX9_addStreet_6 18 rfl rfl)
theorem dX9_addStreet_163 : decode cX9_addStreet 163 = .ok (.iconst 1, 1) := dk_4 (dk_at dksX9_addStreet_6 21 rfl rfl)
theorem dX9_addStreet_164 : decode cX9_addStreet 164 = .ok (.goto 4, 3) := dk_167 0 4 (dk_at dksX9_addStreet_7 0 rfl rfl)
theorem dX9_addStreet_167 : decode cX9_addStreet 167 = .ok (.iconst 0, 1) := dk_3 (dk_at dksX9_addStreet_7 3 rfl rfl)
theorem dX9_addStreet_168 : decode cX9_addStreet 168 = .ok (.iastore, 1) := dk_79 (dk_at dksX9_addStreet_7 4 rfl rfl)
theorem dX9_addStreet_169 : decode cX9_addStreet 169 = .ok (.aload_n 0, 1) := dk_42 (dk_at dksX9_addStreet_7 5 rfl rfl)
theorem dX9_addStreet_170 : decode cX9_addStreet 170 = .ok (.getfield 7, 3) := dk_180 0 7 (dk_at dksX9_addStreet_7 6 rfl rfl)
theorem dX9_addStreet_173 : decode cX9_addStreet 173 = .ok (.iload 5, 2) := dk_21 5 (dk_at dksX9_addStreet_7 9 rfl rfl)
theorem dX9_addStreet_175 : decode cX9_addStreet 175 = .ok (.iconst 3, 1) := dk_6 (dk_at dksX9_addStreet_7 11 rfl rfl)
theorem dX9_addStreet_176 : decode cX9_addStreet 176 = .ok (.iadd, 1) := dk_96 (dk_at dksX9_addStreet_7 12 rfl rfl)
theorem dX9_addStreet_177 : decode cX9_addStreet 177 = .ok (.iconst 1, 1) := dk_4 (dk_at dksX9_addStreet_7 13 rfl rfl)
theorem dX9_addStreet_178 : decode cX9_addStreet 178 = .ok (.iastore, 1) := dk_79 (dk_at dksX9_addStreet_7 14 rfl rfl)
theorem dX9_addStreet_179 : decode cX9_addStreet 179 = .ok (.aload_n 0, 1) := dk_42 (dk_at dksX9_addStreet_7 15 rfl rfl)
theorem dX9_addStreet_180 : decode cX9_addStreet 180 = .ok (.getfield 7, 3) := dk_180 0 7 (dk_at dksX9_addStreet_7 16 rfl rfl)
theorem dX9_addStreet_183 : decode cX9_addStreet 183 = .ok (.iconst 0, 1) := dk_3 (dk_at dksX9_addStreet_7 19 rfl rfl)
theorem dX9_addStreet_184 : decode cX9_addStreet 184 = .ok (.dup2, 1) := dk_92 (dk_at dksX9_addStreet_7 20 rfl rfl)
theorem dX9_addStreet_185 : decode cX9_addStreet 185 = .ok (.iaload, 1) := dk_46 (dk_at dksX9_addStreet_7 21 rfl rfl)
theorem dX9_addStreet_186 : decode cX9_addStreet 186 = .ok (.iconst 1, 1) := dk_4 (dk_at dksX9_addStreet_7 22 rfl rfl)
theorem dX9_addStreet_187 : decode cX9_addStreet 187 = .ok (.iadd, 1) := dk_96 (dk_at dksX9_addStreet_7 23 rfl rfl)
theorem dX9_addStreet_188 : decode cX9_addStreet 188 = .ok (.iastore, 1) := dk_79 (dk_at dksX9_addStreet_8 0 rfl rfl)
theorem dX9_addStreet_189 : decode cX9_addStreet 189 = .ok (.aload_n 0, 1) := dk_42 (dk_at dksX9_addStreet_8 1 rfl rfl)
theorem dX9_addStreet_190 : decode cX9_addStreet 190 = .ok (.getfield 7, 3) := dk_180 0 7 (dk_at dksX9_addStreet_8 2 rfl rfl)
theorem dX9_addStreet_193 : decode cX9_addStreet 193 = .ok (.iconst 0, 1) := dk_3 (dk_at dksX9_addStreet_8 5 rfl rfl)
theorem dX9_addStreet_194 : decode cX9_addStreet 194 = .ok (.iaload, 1) := dk_46 (dk_at dksX9_addStreet_8 6 rfl rfl)
theorem dX9_addStreet_195 : decode cX9_addStreet 195 = .ok (.iconst 1, 1) := dk_4 (dk_at dksX9_addStreet_8 7 rfl rfl)
theorem dX9_addStreet_196 : decode cX9_addStreet 196 = .ok (.isub, 1) := dk_100 (dk_at dksX9_addStreet_8 8 rfl rfl)
theorem dX9_addStreet_197 : decode cX9_addStreet 197 = .ok (.ireturn, 1) := dk_172 (dk_at dksX9_addStreet_8 9 rfl rfl)
abbrev cX9_isJunction : ByteArray := prog_17_method_5_code
def yX9_isJunction : MethodName := ⟨RX9, "isJunction", "(I)Z"⟩
def dkwX9_isJunction_0 : List UInt8 := [26, 3, 16, 9, 184, 0, 42, 172]
abbrev dktX9_isJunction_0 : List UInt8 := dkwX9_isJunction_0 ++ []
theorem dksX9_isJunction_0 : cX9_isJunction.data.toList.drop 0 = dktX9_isJunction_0 := by decide +kernel
theorem dX9_isJunction_0 : decode cX9_isJunction 0 = .ok (.iload_n 0, 1) := dk_26 (dk_at dksX9_isJunction_0 0 rfl rfl)
theorem dX9_isJunction_1 : decode cX9_isJunction 1 = .ok (.iconst 0, 1) := dk_3 (dk_at dksX9_isJunction_0 1 rfl rfl)
theorem dX9_isJunction_2 : decode cX9_isJunction 2 = .ok (.bipush 9, 2) := dk_16 9 (dk_at dksX9_isJunction_0 2 rfl rfl)
theorem dX9_isJunction_4 : decode cX9_isJunction 4 = .ok (.invokestatic 42, 3) := dk_184 0 42 (dk_at dksX9_isJunction_0 4 rfl rfl)
theorem dX9_isJunction_7 : decode cX9_isJunction 7 = .ok (.ireturn, 1) := dk_172 (dk_at dksX9_isJunction_0 7 rfl rfl)
abbrev cX9_in : ByteArray := prog_17_method_4_code
def yX9_in : MethodName := ⟨RX9, "in", "(III)Z"⟩
def dkwX9_in_0 : List UInt8 := [26, 27, 161, 0, 12, 26, 28, 163, 0, 7, 4, 167, 0, 4, 3, 172]
abbrev dktX9_in_0 : List UInt8 := dkwX9_in_0 ++ []
theorem dksX9_in_0 : cX9_in.data.toList.drop 0 = dktX9_in_0 := by decide +kernel
theorem dX9_in_0 : decode cX9_in 0 = .ok (.iload_n 0, 1) := dk_26 (dk_at dksX9_in_0 0 rfl rfl)
theorem dX9_in_1 : decode cX9_in 1 = .ok (.iload_n 1, 1) := dk_27 (dk_at dksX9_in_0 1 rfl rfl)
theorem dX9_in_2 : decode cX9_in 2 = .ok (.if_icmp .lt 12, 3) := dk_161 0 12 (dk_at dksX9_in_0 2 rfl rfl)
theorem dX9_in_5 : decode cX9_in 5 = .ok (.iload_n 0, 1) := dk_26 (dk_at dksX9_in_0 5 rfl rfl)
theorem dX9_in_6 : decode cX9_in 6 = .ok (.iload_n 2, 1) := dk_28 (dk_at dksX9_in_0 6 rfl rfl)
theorem dX9_in_7 : decode cX9_in 7 = .ok (.if_icmp .gt 7, 3) := dk_163 0 7 (dk_at dksX9_in_0 7 rfl rfl)
theorem dX9_in_10 : decode cX9_in 10 = .ok (.iconst 1, 1) := dk_4 (dk_at dksX9_in_0 10 rfl rfl)
theorem dX9_in_11 : decode cX9_in 11 = .ok (.goto 4, 3) := dk_167 0 4 (dk_at dksX9_in_0 11 rfl rfl)
theorem dX9_in_14 : decode cX9_in 14 = .ok (.iconst 0, 1) := dk_3 (dk_at dksX9_in_0 14 rfl rfl)
theorem dX9_in_15 : decode cX9_in 15 = .ok (.ireturn, 1) := dk_172 (dk_at dksX9_in_0 15 rfl rfl)
abbrev cX9_throwing : ByteArray := prog_17_method_3_code
def yX9_throwing : MethodName := ⟨RX9, "throwing", "(I)I"⟩
def dkwX9_throwing_0 : List UInt8 := [42, 27, 181, 0, 38, 3, 172]
abbrev dktX9_throwing_0 : List UInt8 := dkwX9_throwing_0 ++ []
theorem dksX9_throwing_0 : cX9_throwing.data.toList.drop 0 = dktX9_throwing_0 := by decide +kernel
theorem dX9_throwing_0 : decode cX9_throwing 0 = .ok (.aload_n 0, 1) := dk_42 (dk_at dksX9_throwing_0 0 rfl rfl)
theorem dX9_throwing_1 : decode cX9_throwing 1 = .ok (.iload_n 1, 1) := dk_27 (dk_at dksX9_throwing_0 1 rfl rfl)
theorem dX9_throwing_2 : decode cX9_throwing 2 = .ok (.putfield 38, 3) := dk_181 0 38 (dk_at dksX9_throwing_0 2 rfl rfl)
theorem dX9_throwing_5 : decode cX9_throwing 5 = .ok (.iconst 0, 1) := dk_3 (dk_at dksX9_throwing_0 5 rfl rfl)
theorem dX9_throwing_6 : decode cX9_throwing 6 = .ok (.ireturn, 1) := dk_172 (dk_at dksX9_throwing_0 6 rfl rfl)
abbrev cX9_from : ByteArray := prog_17_method_14_code
def yX9_from : MethodName := ⟨RX9, "from", "(I)I"⟩
def dkwX9_from_0 : List UInt8 := [42, 180, 0, 7, 4, 7, 27, 104, 96, 46, 172]
abbrev dktX9_from_0 : List UInt8 := dkwX9_from_0 ++ []
theorem dksX9_from_0 : cX9_from.data.toList.drop 0 = dktX9_from_0 := by decide +kernel
theorem dX9_from_0 : decode cX9_from 0 = .ok (.aload_n 0, 1) := dk_42 (dk_at dksX9_from_0 0 rfl rfl)
theorem dX9_from_1 : decode cX9_from 1 = .ok (.getfield 7, 3) := dk_180 0 7 (dk_at dksX9_from_0 1 rfl rfl)
theorem dX9_from_4 : decode cX9_from 4 = .ok (.iconst 1, 1) := dk_4 (dk_at dksX9_from_0 4 rfl rfl)
theorem dX9_from_5 : decode cX9_from 5 = .ok (.iconst 4, 1) := dk_7 (dk_at dksX9_from_0 5 rfl rfl)
theorem dX9_from_6 : decode cX9_from 6 = .ok (.iload_n 1, 1) := dk_27 (dk_at dksX9_from_0 6 rfl rfl)
theorem dX9_from_7 : decode cX9_from 7 = .ok (.imul, 1) := dk_104 (dk_at dksX9_from_0 7 rfl rfl)
theorem dX9_from_8 : decode cX9_from 8 = .ok (.iadd, 1) := dk_96 (dk_at dksX9_from_0 8 rfl rfl)
theorem dX9_from_9 : decode cX9_from 9 = .ok (.iaload, 1) := dk_46 (dk_at dksX9_from_0 9 rfl rfl)
theorem dX9_from_10 : decode cX9_from 10 = .ok (.ireturn, 1) := dk_172 (dk_at dksX9_from_0 10 rfl rfl)
abbrev cX9_to : ByteArray := prog_17_method_15_code
def yX9_to : MethodName := ⟨RX9, "to", "(I)I"⟩
def dkwX9_to_0 : List UInt8 := [42, 180, 0, 7, 4, 7, 27, 104, 96, 4, 96, 46, 172]
abbrev dktX9_to_0 : List UInt8 := dkwX9_to_0 ++ []
theorem dksX9_to_0 : cX9_to.data.toList.drop 0 = dktX9_to_0 := by decide +kernel
theorem dX9_to_0 : decode cX9_to 0 = .ok (.aload_n 0, 1) := dk_42 (dk_at dksX9_to_0 0 rfl rfl)
theorem dX9_to_1 : decode cX9_to 1 = .ok (.getfield 7, 3) := dk_180 0 7 (dk_at dksX9_to_0 1 rfl rfl)
theorem dX9_to_4 : decode cX9_to 4 = .ok (.iconst 1, 1) := dk_4 (dk_at dksX9_to_0 4 rfl rfl)
theorem dX9_to_5 : decode cX9_to 5 = .ok (.iconst 4, 1) := dk_7 (dk_at dksX9_to_0 5 rfl rfl)
theorem dX9_to_6 : decode cX9_to 6 = .ok (.iload_n 1, 1) := dk_27 (dk_at dksX9_to_0 6 rfl rfl)
theorem dX9_to_7 : decode cX9_to 7 = .ok (.imul, 1) := dk_104 (dk_at dksX9_to_0 7 rfl rfl)
theorem dX9_to_8 : decode cX9_to 8 = .ok (.iadd, 1) := dk_96 (dk_at dksX9_to_0 8 rfl rfl)
theorem dX9_to_9 : decode cX9_to 9 = .ok (.iconst 1, 1) := dk_4 (dk_at dksX9_to_0 9 rfl rfl)
theorem dX9_to_10 : decode cX9_to 10 = .ok (.iadd, 1) := dk_96 (dk_at dksX9_to_0 10 rfl rfl)
theorem dX9_to_11 : decode cX9_to 11 = .ok (.iaload, 1) := dk_46 (dk_at dksX9_to_0 11 rfl rfl)
theorem dX9_to_12 : decode cX9_to 12 = .ok (.ireturn, 1) := dk_172 (dk_at dksX9_to_0 12 rfl rfl)
abbrev cX9_save : ByteArray := prog_17_method_9_code
def yX9_save : MethodName := ⟨RX9, "save", "()V"⟩
def dkwX9_save_4 : List UInt8 := [181, 0, 46, 177]
abbrev dktX9_save_4 : List UInt8 := dkwX9_save_4 ++ []
def dkwX9_save_3 : List UInt8 := [27, 96, 42, 180, 0, 7, 27, 46, 79, 132, 1, 1, 167, 255, 225, 42, 89, 180, 0, 46, 4, 96]
abbrev dktX9_save_3 : List UInt8 := dkwX9_save_3 ++ dktX9_save_4
def dkwX9_save_2 : List UInt8 := [181, 0, 46, 3, 60, 27, 17, 1, 43, 162, 0, 30, 42, 180, 0, 13, 17, 1, 43, 42, 180, 0, 46, 104]
abbrev dktX9_save_2 : List UInt8 := dkwX9_save_2 ++ dktX9_save_3
def dkwX9_save_1 : List UInt8 := [180, 0, 13, 17, 1, 43, 27, 96, 46, 79, 132, 1, 1, 167, 255, 230, 42, 89, 180, 0, 46, 4, 100]
abbrev dktX9_save_1 : List UInt8 := dkwX9_save_1 ++ dktX9_save_2
def dkwX9_save_0 : List UInt8 := [42, 180, 0, 46, 8, 160, 0, 44, 3, 60, 27, 17, 4, 172, 162, 0, 25, 42, 180, 0, 13, 27, 42]
abbrev dktX9_save_0 : List UInt8 := dkwX9_save_0 ++ dktX9_save_1
theorem dksX9_save_0 : cX9_save.data.toList.drop 0 = dktX9_save_0 := by decide +kernel
theorem dksX9_save_1 : cX9_save.data.toList.drop 23 = dktX9_save_1 := dk_seg dksX9_save_0 23 rfl rfl
theorem dksX9_save_2 : cX9_save.data.toList.drop 46 = dktX9_save_2 := dk_seg dksX9_save_1 23 rfl rfl
theorem dksX9_save_3 : cX9_save.data.toList.drop 70 = dktX9_save_3 := dk_seg dksX9_save_2 24 rfl rfl
theorem dksX9_save_4 : cX9_save.data.toList.drop 92 = dktX9_save_4 := dk_seg dksX9_save_3 22 rfl rfl
theorem dX9_save_0 : decode cX9_save 0 = .ok (.aload_n 0, 1) := dk_42 (dk_at dksX9_save_0 0 rfl rfl)
theorem dX9_save_1 : decode cX9_save 1 = .ok (.getfield 46, 3) := dk_180 0 46 (dk_at dksX9_save_0 1 rfl rfl)
theorem dX9_save_4 : decode cX9_save 4 = .ok (.iconst 5, 1) := dk_8 (dk_at dksX9_save_0 4 rfl rfl)
theorem dX9_save_5 : decode cX9_save 5 = .ok (.if_icmp .ne 44, 3) := dk_160 0 44 (dk_at dksX9_save_0 5 rfl rfl)
theorem dX9_save_8 : decode cX9_save 8 = .ok (.iconst 0, 1) := dk_3 (dk_at dksX9_save_0 8 rfl rfl)
theorem dX9_save_9 : decode cX9_save 9 = .ok (.istore_n 1, 1) := dk_60 (dk_at dksX9_save_0 9 rfl rfl)
theorem dX9_save_10 : decode cX9_save 10 = .ok (.iload_n 1, 1) := dk_27 (dk_at dksX9_save_0 10 rfl rfl)
theorem dX9_save_11 : decode cX9_save 11 = .ok (.sipush 1196, 3) := dk_17 4 172 (dk_at dksX9_save_0 11 rfl rfl)
theorem dX9_save_14 : decode cX9_save 14 = .ok (.if_icmp .ge 25, 3) := dk_162 0 25 (dk_at dksX9_save_0 14 rfl rfl)
theorem dX9_save_17 : decode cX9_save 17 = .ok (.aload_n 0, 1) := dk_42 (dk_at dksX9_save_0 17 rfl rfl)
theorem dX9_save_18 : decode cX9_save 18 = .ok (.getfield 13, 3) := dk_180 0 13 (dk_at dksX9_save_0 18 rfl rfl)
theorem dX9_save_21 : decode cX9_save 21 = .ok (.iload_n 1, 1) := dk_27 (dk_at dksX9_save_0 21 rfl rfl)
theorem dX9_save_22 : decode cX9_save 22 = .ok (.aload_n 0, 1) := dk_42 (dk_at dksX9_save_0 22 rfl rfl)
theorem dX9_save_23 : decode cX9_save 23 = .ok (.getfield 13, 3) := dk_180 0 13 (dk_at dksX9_save_1 0 rfl rfl)
theorem dX9_save_26 : decode cX9_save 26 = .ok (.sipush 299, 3) := dk_17 1 43 (dk_at dksX9_save_1 3 rfl rfl)
theorem dX9_save_29 : decode cX9_save 29 = .ok (.iload_n 1, 1) := dk_27 (dk_at dksX9_save_1 6 rfl rfl)
theorem dX9_save_30 : decode cX9_save 30 = .ok (.iadd, 1) := dk_96 (dk_at dksX9_save_1 7 rfl rfl)
theorem dX9_save_31 : decode cX9_save 31 = .ok (.iaload, 1) := dk_46 (dk_at dksX9_save_1 8 rfl rfl)
theorem dX9_save_32 : decode cX9_save 32 = .ok (.iastore, 1) := dk_79 (dk_at dksX9_save_1 9 rfl rfl)
theorem dX9_save_33 : decode cX9_save 33 = .ok (.iinc 1 1, 3) := dk_132 1 1 (dk_at dksX9_save_1 10 rfl rfl)
theorem dX9_save_36 : decode cX9_save 36 = .ok (.goto (-26), 3) := dk_167 255 230 (dk_at dksX9_save_1 13 rfl rfl)
theorem dX9_save_39 : decode cX9_save 39 = .ok (.aload_n 0, 1) := dk_42 (dk_at dksX9_save_1 16 rfl rfl)
theorem dX9_save_40 : decode cX9_save 40 = .ok (.dup, 1) := dk_89 (dk_at dksX9_save_1 17 rfl rfl)
theorem dX9_save_41 : decode cX9_save 41 = .ok (.getfield 46, 3) := dk_180 0 46 (dk_at dksX9_save_1 18 rfl rfl)
theorem dX9_save_44 : decode cX9_save 44 = .ok (.iconst 1, 1) := dk_4 (dk_at dksX9_save_1 21 rfl rfl)
theorem dX9_save_45 : decode cX9_save 45 = .ok (.isub, 1) := dk_100 (dk_at dksX9_save_1 22 rfl rfl)
theorem dX9_save_46 : decode cX9_save 46 = .ok (.putfield 46, 3) := dk_181 0 46 (dk_at dksX9_save_2 0 rfl rfl)
theorem dX9_save_49 : decode cX9_save 49 = .ok (.iconst 0, 1) := dk_3 (dk_at dksX9_save_2 3 rfl rfl)
theorem dX9_save_50 : decode cX9_save 50 = .ok (.istore_n 1, 1) := dk_60 (dk_at dksX9_save_2 4 rfl rfl)
theorem dX9_save_51 : decode cX9_save 51 = .ok (.iload_n 1, 1) := dk_27 (dk_at dksX9_save_2 5 rfl rfl)
theorem dX9_save_52 : decode cX9_save 52 = .ok (.sipush 299, 3) := dk_17 1 43 (dk_at dksX9_save_2 6 rfl rfl)
theorem dX9_save_55 : decode cX9_save 55 = .ok (.if_icmp .ge 30, 3) := dk_162 0 30 (dk_at dksX9_save_2 9 rfl rfl)
theorem dX9_save_58 : decode cX9_save 58 = .ok (.aload_n 0, 1) := dk_42 (dk_at dksX9_save_2 12 rfl rfl)
theorem dX9_save_59 : decode cX9_save 59 = .ok (.getfield 13, 3) := dk_180 0 13 (dk_at dksX9_save_2 13 rfl rfl)
theorem dX9_save_62 : decode cX9_save 62 = .ok (.sipush 299, 3) := dk_17 1 43 (dk_at dksX9_save_2 16 rfl rfl)
theorem dX9_save_65 : decode cX9_save 65 = .ok (.aload_n 0, 1) := dk_42 (dk_at dksX9_save_2 19 rfl rfl)
theorem dX9_save_66 : decode cX9_save 66 = .ok (.getfield 46, 3) := dk_180 0 46 (dk_at dksX9_save_2 20 rfl rfl)
theorem dX9_save_69 : decode cX9_save 69 = .ok (.imul, 1) := dk_104 (dk_at dksX9_save_2 23 rfl rfl)
theorem dX9_save_70 : decode cX9_save 70 = .ok (.iload_n 1, 1) := dk_27 (dk_at dksX9_save_3 0 rfl rfl)
theorem dX9_save_71 : decode cX9_save 71 = .ok (.iadd, 1) := dk_96 (dk_at dksX9_save_3 1 rfl rfl)
theorem dX9_save_72 : decode cX9_save 72 = .ok (.aload_n 0, 1) := dk_42 (dk_at dksX9_save_3 2 rfl rfl)
theorem dX9_save_73 : decode cX9_save 73 = .ok (.getfield 7, 3) := dk_180 0 7 (dk_at dksX9_save_3 3 rfl rfl)
theorem dX9_save_76 : decode cX9_save 76 = .ok (.iload_n 1, 1) := dk_27 (dk_at dksX9_save_3 6 rfl rfl)
theorem dX9_save_77 : decode cX9_save 77 = .ok (.iaload, 1) := dk_46 (dk_at dksX9_save_3 7 rfl rfl)
theorem dX9_save_78 : decode cX9_save 78 = .ok (.iastore, 1) := dk_79 (dk_at dksX9_save_3 8 rfl rfl)
theorem dX9_save_79 : decode cX9_save 79 = .ok (.iinc 1 1, 3) := dk_132 1 1 (dk_at dksX9_save_3 9 rfl rfl)
theorem dX9_save_82 : decode cX9_save 82 = .ok (.goto (-31), 3) := dk_167 255 225 (dk_at dksX9_save_3 12 rfl rfl)
theorem dX9_save_85 : decode cX9_save 85 = .ok (.aload_n 0, 1) := dk_42 (dk_at dksX9_save_3 15 rfl rfl)
theorem dX9_save_86 : decode cX9_save 86 = .ok (.dup, 1) := dk_89 (dk_at dksX9_save_3 16 rfl rfl)
theorem dX9_save_87 : decode cX9_save 87 = .ok (.getfield 46, 3) := dk_180 0 46 (dk_at dksX9_save_3 17 rfl rfl)
theorem dX9_save_90 : decode cX9_save 90 = .ok (.iconst 1, 1) := dk_4 (dk_at dksX9_save_3 20 rfl rfl)
theorem dX9_save_91 : decode cX9_save 91 = .ok (.iadd, 1) := dk_96 (dk_at dksX9_save_3 21 rfl rfl)
theorem dX9_save_92 : decode cX9_save 92 = .ok (.putfield 46, 3) := dk_181 0 46 (dk_at dksX9_save_4 0 rfl rfl)
theorem dX9_save_95 : decode cX9_save 95 = .ok (.return_, 1) := dk_177 (dk_at dksX9_save_4 3 rfl rfl)
abbrev cX9_toggleStreet : ByteArray := prog_17_method_39_code
def yX9_toggleStreet : MethodName := ⟨RX9, "toggleStreet", "(I)Z"⟩
def dkwX9_toggleStreet_1 : List UInt8 := [3, 172, 42, 182, 0, 125, 42, 27, 182, 0, 131, 172]
abbrev dktX9_toggleStreet_1 : List UInt8 := dkwX9_toggleStreet_1 ++ []
def dkwX9_toggleStreet_0 : List UInt8 := [42, 42, 27, 182, 0, 128, 153, 0, 7, 3, 167, 0, 4, 4, 181, 0, 38, 42, 180, 0, 38, 158, 0, 5]
abbrev dktX9_toggleStreet_0 : List UInt8 := dkwX9_toggleStreet_0 ++ dktX9_toggleStreet_1
theorem dksX9_toggleStreet_0 : cX9_toggleStreet.data.toList.drop 0 = dktX9_toggleStreet_0 := by decide +kernel
theorem dksX9_toggleStreet_1 : cX9_toggleStreet.data.toList.drop 24 = dktX9_toggleStreet_1 := dk_seg dksX9_toggleStreet_0 24 rfl rfl
theorem dX9_toggleStreet_0 : decode cX9_toggleStreet 0 = .ok (.aload_n 0, 1) := dk_42 (dk_at dksX9_toggleStreet_0 0 rfl rfl)
theorem dX9_toggleStreet_1 : decode cX9_toggleStreet 1 = .ok (.aload_n 0, 1) := dk_42 (dk_at dksX9_toggleStreet_0 1 rfl rfl)
theorem dX9_toggleStreet_2 : decode cX9_toggleStreet 2 = .ok (.iload_n 1, 1) := dk_27 (dk_at dksX9_toggleStreet_0 2 rfl rfl)
theorem dX9_toggleStreet_3 : decode cX9_toggleStreet 3 = .ok (.invokevirtual 128, 3) := dk_182 0 128 (dk_at dksX9_toggleStreet_0 3 rfl rfl)
theorem dX9_toggleStreet_6 : decode cX9_toggleStreet 6 = .ok (.ifCond .eq 7, 3) := dk_153 0 7 (dk_at dksX9_toggleStreet_0 6 rfl rfl)
theorem dX9_toggleStreet_9 : decode cX9_toggleStreet 9 = .ok (.iconst 0, 1) := dk_3 (dk_at dksX9_toggleStreet_0 9 rfl rfl)
theorem dX9_toggleStreet_10 : decode cX9_toggleStreet 10 = .ok (.goto 4, 3) := dk_167 0 4 (dk_at dksX9_toggleStreet_0 10 rfl rfl)
theorem dX9_toggleStreet_13 : decode cX9_toggleStreet 13 = .ok (.iconst 1, 1) := dk_4 (dk_at dksX9_toggleStreet_0 13 rfl rfl)
theorem dX9_toggleStreet_14 : decode cX9_toggleStreet 14 = .ok (.putfield 38, 3) := dk_181 0 38 (dk_at dksX9_toggleStreet_0 14 rfl rfl)
theorem dX9_toggleStreet_17 : decode cX9_toggleStreet 17 = .ok (.aload_n 0, 1) := dk_42 (dk_at dksX9_toggleStreet_0 17 rfl rfl)
theorem dX9_toggleStreet_18 : decode cX9_toggleStreet 18 = .ok (.getfield 38, 3) := dk_180 0 38 (dk_at dksX9_toggleStreet_0 18 rfl rfl)
theorem dX9_toggleStreet_21 : decode cX9_toggleStreet 21 = .ok (.ifCond .le 5, 3) := dk_158 0 5 (dk_at dksX9_toggleStreet_0 21 rfl rfl)
theorem dX9_toggleStreet_24 : decode cX9_toggleStreet 24 = .ok (.iconst 0, 1) := dk_3 (dk_at dksX9_toggleStreet_1 0 rfl rfl)
theorem dX9_toggleStreet_25 : decode cX9_toggleStreet 25 = .ok (.ireturn, 1) := dk_172 (dk_at dksX9_toggleStreet_1 1 rfl rfl)
theorem dX9_toggleStreet_26 : decode cX9_toggleStreet 26 = .ok (.aload_n 0, 1) := dk_42 (dk_at dksX9_toggleStreet_1 2 rfl rfl)
theorem dX9_toggleStreet_27 : decode cX9_toggleStreet 27 = .ok (.invokevirtual 125, 3) := dk_182 0 125 (dk_at dksX9_toggleStreet_1 3 rfl rfl)
theorem dX9_toggleStreet_30 : decode cX9_toggleStreet 30 = .ok (.aload_n 0, 1) := dk_42 (dk_at dksX9_toggleStreet_1 6 rfl rfl)
theorem dX9_toggleStreet_31 : decode cX9_toggleStreet 31 = .ok (.iload_n 1, 1) := dk_27 (dk_at dksX9_toggleStreet_1 7 rfl rfl)
theorem dX9_toggleStreet_32 : decode cX9_toggleStreet 32 = .ok (.invokevirtual 131, 3) := dk_182 0 131 (dk_at dksX9_toggleStreet_1 8 rfl rfl)
theorem dX9_toggleStreet_35 : decode cX9_toggleStreet 35 = .ok (.ireturn, 1) := dk_172 (dk_at dksX9_toggleStreet_1 11 rfl rfl)
abbrev cX9_isStreet : ByteArray := prog_17_method_7_code
def yX9_isStreet : MethodName := ⟨RX9, "isStreet", "(I)Z"⟩
def dkwX9_isStreet_0 : List UInt8 := [27, 3, 42, 180, 0, 7, 3, 46, 4, 100, 184, 0, 42, 172]
abbrev dktX9_isStreet_0 : List UInt8 := dkwX9_isStreet_0 ++ []
theorem dksX9_isStreet_0 : cX9_isStreet.data.toList.drop 0 = dktX9_isStreet_0 := by decide +kernel
theorem dX9_isStreet_0 : decode cX9_isStreet 0 = .ok (.iload_n 1, 1) := dk_27 (dk_at dksX9_isStreet_0 0 rfl rfl)
theorem dX9_isStreet_1 : decode cX9_isStreet 1 = .ok (.iconst 0, 1) := dk_3 (dk_at dksX9_isStreet_0 1 rfl rfl)
theorem dX9_isStreet_2 : decode cX9_isStreet 2 = .ok (.aload_n 0, 1) := dk_42 (dk_at dksX9_isStreet_0 2 rfl rfl)
theorem dX9_isStreet_3 : decode cX9_isStreet 3 = .ok (.getfield 7, 3) := dk_180 0 7 (dk_at dksX9_isStreet_0 3 rfl rfl)
theorem dX9_isStreet_6 : decode cX9_isStreet 6 = .ok (.iconst 0, 1) := dk_3 (dk_at dksX9_isStreet_0 6 rfl rfl)
theorem dX9_isStreet_7 : decode cX9_isStreet 7 = .ok (.iaload, 1) := dk_46 (dk_at dksX9_isStreet_0 7 rfl rfl)
theorem dX9_isStreet_8 : decode cX9_isStreet 8 = .ok (.iconst 1, 1) := dk_4 (dk_at dksX9_isStreet_0 8 rfl rfl)
theorem dX9_isStreet_9 : decode cX9_isStreet 9 = .ok (.isub, 1) := dk_100 (dk_at dksX9_isStreet_0 9 rfl rfl)
theorem dX9_isStreet_10 : decode cX9_isStreet 10 = .ok (.invokestatic 42, 3) := dk_184 0 42 (dk_at dksX9_isStreet_0 10 rfl rfl)
theorem dX9_isStreet_13 : decode cX9_isStreet 13 = .ok (.ireturn, 1) := dk_172 (dk_at dksX9_isStreet_0 13 rfl rfl)
abbrev cX9_toggles : ByteArray := prog_17_method_37_code
def yX9_toggles : MethodName := ⟨RX9, "toggles", "(I)Z"⟩
def dkwX9_toggles_3 : List UInt8 := [167, 255, 214, 42, 27, 182, 0, 80, 172]
abbrev dktX9_toggles_3 : List UInt8 := dkwX9_toggles_3 ++ []
def dkwX9_toggles_2 : List UInt8 := [182, 0, 80, 154, 0, 7, 2, 167, 0, 9, 42, 28, 5, 182, 0, 53, 182, 0, 31, 132, 2, 1]
abbrev dktX9_toggles_2 : List UInt8 := dkwX9_toggles_2 ++ dktX9_toggles_3
def dkwX9_toggles_1 : List UInt8 := [79, 3, 61, 28, 7, 162, 0, 43, 42, 28, 5, 42, 28, 5, 182, 0, 53, 27, 160, 0, 15, 42, 27]
abbrev dktX9_toggles_1 : List UInt8 := dkwX9_toggles_1 ++ dktX9_toggles_2
def dkwX9_toggles_0 : List UInt8 := [42, 180, 0, 7, 4, 7, 27, 104, 96, 6, 96, 42, 27, 182, 0, 80, 153, 0, 7, 3, 167, 0, 4, 4]
abbrev dktX9_toggles_0 : List UInt8 := dkwX9_toggles_0 ++ dktX9_toggles_1
theorem dksX9_toggles_0 : cX9_toggles.data.toList.drop 0 = dktX9_toggles_0 := by decide +kernel
theorem dksX9_toggles_1 : cX9_toggles.data.toList.drop 24 = dktX9_toggles_1 := dk_seg dksX9_toggles_0 24 rfl rfl
theorem dksX9_toggles_2 : cX9_toggles.data.toList.drop 47 = dktX9_toggles_2 := dk_seg dksX9_toggles_1 23 rfl rfl
theorem dksX9_toggles_3 : cX9_toggles.data.toList.drop 69 = dktX9_toggles_3 := dk_seg dksX9_toggles_2 22 rfl rfl
theorem dX9_toggles_0 : decode cX9_toggles 0 = .ok (.aload_n 0, 1) := dk_42 (dk_at dksX9_toggles_0 0 rfl rfl)
theorem dX9_toggles_1 : decode cX9_toggles 1 = .ok (.getfield 7, 3) := dk_180 0 7 (dk_at dksX9_toggles_0 1 rfl rfl)
theorem dX9_toggles_4 : decode cX9_toggles 4 = .ok (.iconst 1, 1) := dk_4 (dk_at dksX9_toggles_0 4 rfl rfl)
theorem dX9_toggles_5 : decode cX9_toggles 5 = .ok (.iconst 4, 1) := dk_7 (dk_at dksX9_toggles_0 5 rfl rfl)
theorem dX9_toggles_6 : decode cX9_toggles 6 = .ok (.iload_n 1, 1) := dk_27 (dk_at dksX9_toggles_0 6 rfl rfl)
theorem dX9_toggles_7 : decode cX9_toggles 7 = .ok (.imul, 1) := dk_104 (dk_at dksX9_toggles_0 7 rfl rfl)
theorem dX9_toggles_8 : decode cX9_toggles 8 = .ok (.iadd, 1) := dk_96 (dk_at dksX9_toggles_0 8 rfl rfl)
theorem dX9_toggles_9 : decode cX9_toggles 9 = .ok (.iconst 3, 1) := dk_6 (dk_at dksX9_toggles_0 9 rfl rfl)
theorem dX9_toggles_10 : decode cX9_toggles 10 = .ok (.iadd, 1) := dk_96 (dk_at dksX9_toggles_0 10 rfl rfl)
theorem dX9_toggles_11 : decode cX9_toggles 11 = .ok (.aload_n 0, 1) := dk_42 (dk_at dksX9_toggles_0 11 rfl rfl)
theorem dX9_toggles_12 : decode cX9_toggles 12 = .ok (.iload_n 1, 1) := dk_27 (dk_at dksX9_toggles_0 12 rfl rfl)
theorem dX9_toggles_13 : decode cX9_toggles 13 = .ok (.invokevirtual 80, 3) := dk_182 0 80 (dk_at dksX9_toggles_0 13 rfl rfl)
theorem dX9_toggles_16 : decode cX9_toggles 16 = .ok (.ifCond .eq 7, 3) := dk_153 0 7 (dk_at dksX9_toggles_0 16 rfl rfl)
theorem dX9_toggles_19 : decode cX9_toggles 19 = .ok (.iconst 0, 1) := dk_3 (dk_at dksX9_toggles_0 19 rfl rfl)
theorem dX9_toggles_20 : decode cX9_toggles 20 = .ok (.goto 4, 3) := dk_167 0 4 (dk_at dksX9_toggles_0 20 rfl rfl)
theorem dX9_toggles_23 : decode cX9_toggles 23 = .ok (.iconst 1, 1) := dk_4 (dk_at dksX9_toggles_0 23 rfl rfl)
theorem dX9_toggles_24 : decode cX9_toggles 24 = .ok (.iastore, 1) := dk_79 (dk_at dksX9_toggles_1 0 rfl rfl)
theorem dX9_toggles_25 : decode cX9_toggles 25 = .ok (.iconst 0, 1) := dk_3 (dk_at dksX9_toggles_1 1 rfl rfl)
theorem dX9_toggles_26 : decode cX9_toggles 26 = .ok (.istore_n 2, 1) := dk_61 (dk_at dksX9_toggles_1 2 rfl rfl)
theorem dX9_toggles_27 : decode cX9_toggles 27 = .ok (.iload_n 2, 1) := dk_28 (dk_at dksX9_toggles_1 3 rfl rfl)
theorem dX9_toggles_28 : decode cX9_toggles 28 = .ok (.iconst 4, 1) := dk_7 (dk_at dksX9_toggles_1 4 rfl rfl)
theorem dX9_toggles_29 : decode cX9_toggles 29 = .ok (.if_icmp .ge 43, 3) := dk_162 0 43 (dk_at dksX9_toggles_1 5 rfl rfl)
theorem dX9_toggles_32 : decode cX9_toggles 32 = .ok (.aload_n 0, 1) := dk_42 (dk_at dksX9_toggles_1 8 rfl rfl)
theorem dX9_toggles_33 : decode cX9_toggles 33 = .ok (.iload_n 2, 1) := dk_28 (dk_at dksX9_toggles_1 9 rfl rfl)
theorem dX9_toggles_34 : decode cX9_toggles 34 = .ok (.iconst 2, 1) := dk_5 (dk_at dksX9_toggles_1 10 rfl rfl)
theorem dX9_toggles_35 : decode cX9_toggles 35 = .ok (.aload_n 0, 1) := dk_42 (dk_at dksX9_toggles_1 11 rfl rfl)
theorem dX9_toggles_36 : decode cX9_toggles 36 = .ok (.iload_n 2, 1) := dk_28 (dk_at dksX9_toggles_1 12 rfl rfl)
theorem dX9_toggles_37 : decode cX9_toggles 37 = .ok (.iconst 2, 1) := dk_5 (dk_at dksX9_toggles_1 13 rfl rfl)
theorem dX9_toggles_38 : decode cX9_toggles 38 = .ok (.invokevirtual 53, 3) := dk_182 0 53 (dk_at dksX9_toggles_1 14 rfl rfl)
theorem dX9_toggles_41 : decode cX9_toggles 41 = .ok (.iload_n 1, 1) := dk_27 (dk_at dksX9_toggles_1 17 rfl rfl)
theorem dX9_toggles_42 : decode cX9_toggles 42 = .ok (.if_icmp .ne 15, 3) := dk_160 0 15 (dk_at dksX9_toggles_1 18 rfl rfl)
theorem dX9_toggles_45 : decode cX9_toggles 45 = .ok (.aload_n 0, 1) := dk_42 (dk_at dksX9_toggles_1 21 rfl rfl)
theorem dX9_toggles_46 : decode cX9_toggles 46 = .ok (.iload_n 1, 1) := dk_27 (dk_at dksX9_toggles_1 22 rfl rfl)
theorem dX9_toggles_47 : decode cX9_toggles 47 = .ok (.invokevirtual 80, 3) := dk_182 0 80 (dk_at dksX9_toggles_2 0 rfl rfl)
theorem dX9_toggles_50 : decode cX9_toggles 50 = .ok (.ifCond .ne 7, 3) := dk_154 0 7 (dk_at dksX9_toggles_2 3 rfl rfl)
theorem dX9_toggles_53 : decode cX9_toggles 53 = .ok (.iconst (-1), 1) := dk_2 (dk_at dksX9_toggles_2 6 rfl rfl)
theorem dX9_toggles_54 : decode cX9_toggles 54 = .ok (.goto 9, 3) := dk_167 0 9 (dk_at dksX9_toggles_2 7 rfl rfl)
theorem dX9_toggles_57 : decode cX9_toggles 57 = .ok (.aload_n 0, 1) := dk_42 (dk_at dksX9_toggles_2 10 rfl rfl)
theorem dX9_toggles_58 : decode cX9_toggles 58 = .ok (.iload_n 2, 1) := dk_28 (dk_at dksX9_toggles_2 11 rfl rfl)
theorem dX9_toggles_59 : decode cX9_toggles 59 = .ok (.iconst 2, 1) := dk_5 (dk_at dksX9_toggles_2 12 rfl rfl)
theorem dX9_toggles_60 : decode cX9_toggles 60 = .ok (.invokevirtual 53, 3) := dk_182 0 53 (dk_at dksX9_toggles_2 13 rfl rfl)
theorem dX9_toggles_63 : decode cX9_toggles 63 = .ok (.invokevirtual 31, 3) := dk_182 0 31 (dk_at dksX9_toggles_2 16 rfl rfl)
theorem dX9_toggles_66 : decode cX9_toggles 66 = .ok (.iinc 2 1, 3) := dk_132 2 1 (dk_at dksX9_toggles_2 19 rfl rfl)
theorem dX9_toggles_69 : decode cX9_toggles 69 = .ok (.goto (-42), 3) := dk_167 255 214 (dk_at dksX9_toggles_3 0 rfl rfl)
theorem dX9_toggles_72 : decode cX9_toggles 72 = .ok (.aload_n 0, 1) := dk_42 (dk_at dksX9_toggles_3 3 rfl rfl)
theorem dX9_toggles_73 : decode cX9_toggles 73 = .ok (.iload_n 1, 1) := dk_27 (dk_at dksX9_toggles_3 4 rfl rfl)
theorem dX9_toggles_74 : decode cX9_toggles 74 = .ok (.invokevirtual 80, 3) := dk_182 0 80 (dk_at dksX9_toggles_3 5 rfl rfl)
theorem dX9_toggles_77 : decode cX9_toggles 77 = .ok (.ireturn, 1) := dk_172 (dk_at dksX9_toggles_3 8 rfl rfl)
abbrev cX9_isFree : ByteArray := prog_17_method_17_code
def yX9_isFree : MethodName := ⟨RX9, "isFree", "(I)Z"⟩
def dkwX9_isFree_0 : List UInt8 := [42, 180, 0, 7, 4, 7, 27, 104, 96, 6, 96, 46, 4, 160, 0, 7, 4, 167, 0, 4, 3, 172]
abbrev dktX9_isFree_0 : List UInt8 := dkwX9_isFree_0 ++ []
theorem dksX9_isFree_0 : cX9_isFree.data.toList.drop 0 = dktX9_isFree_0 := by decide +kernel
theorem dX9_isFree_0 : decode cX9_isFree 0 = .ok (.aload_n 0, 1) := dk_42 (dk_at dksX9_isFree_0 0 rfl rfl)
theorem dX9_isFree_1 : decode cX9_isFree 1 = .ok (.getfield 7, 3) := dk_180 0 7 (dk_at dksX9_isFree_0 1 rfl rfl)
theorem dX9_isFree_4 : decode cX9_isFree 4 = .ok (.iconst 1, 1) := dk_4 (dk_at dksX9_isFree_0 4 rfl rfl)
theorem dX9_isFree_5 : decode cX9_isFree 5 = .ok (.iconst 4, 1) := dk_7 (dk_at dksX9_isFree_0 5 rfl rfl)
theorem dX9_isFree_6 : decode cX9_isFree 6 = .ok (.iload_n 1, 1) := dk_27 (dk_at dksX9_isFree_0 6 rfl rfl)
theorem dX9_isFree_7 : decode cX9_isFree 7 = .ok (.imul, 1) := dk_104 (dk_at dksX9_isFree_0 7 rfl rfl)
theorem dX9_isFree_8 : decode cX9_isFree 8 = .ok (.iadd, 1) := dk_96 (dk_at dksX9_isFree_0 8 rfl rfl)
theorem dX9_isFree_9 : decode cX9_isFree 9 = .ok (.iconst 3, 1) := dk_6 (dk_at dksX9_isFree_0 9 rfl rfl)
theorem dX9_isFree_10 : decode cX9_isFree 10 = .ok (.iadd, 1) := dk_96 (dk_at dksX9_isFree_0 10 rfl rfl)
theorem dX9_isFree_11 : decode cX9_isFree 11 = .ok (.iaload, 1) := dk_46 (dk_at dksX9_isFree_0 11 rfl rfl)
theorem dX9_isFree_12 : decode cX9_isFree 12 = .ok (.iconst 1, 1) := dk_4 (dk_at dksX9_isFree_0 12 rfl rfl)
theorem dX9_isFree_13 : decode cX9_isFree 13 = .ok (.if_icmp .ne 7, 3) := dk_160 0 7 (dk_at dksX9_isFree_0 13 rfl rfl)
theorem dX9_isFree_16 : decode cX9_isFree 16 = .ok (.iconst 1, 1) := dk_4 (dk_at dksX9_isFree_0 16 rfl rfl)
theorem dX9_isFree_17 : decode cX9_isFree 17 = .ok (.goto 4, 3) := dk_167 0 4 (dk_at dksX9_isFree_0 17 rfl rfl)
theorem dX9_isFree_20 : decode cX9_isFree 20 = .ok (.iconst 0, 1) := dk_3 (dk_at dksX9_isFree_0 20 rfl rfl)
theorem dX9_isFree_21 : decode cX9_isFree 21 = .ok (.ireturn, 1) := dk_172 (dk_at dksX9_isFree_0 21 rfl rfl)
abbrev cX9_place : ByteArray := prog_17_method_40_code
def yX9_place : MethodName := ⟨RX9, "place", "(II)I"⟩
def dkwX9_place_3 : List UInt8 := [3, 28, 182, 0, 31, 42, 27, 5, 2, 182, 0, 31, 42, 182, 0, 137, 29, 172]
abbrev dktX9_place_3 : List UInt8 := dkwX9_place_3 ++ []
def dkwX9_place_2 : List UInt8 := [5, 182, 0, 122, 172, 132, 3, 1, 167, 255, 227, 42, 182, 0, 125, 42, 27, 3, 182, 0, 53, 62, 42, 27]
abbrev dktX9_place_2 : List UInt8 := dkwX9_place_2 ++ dktX9_place_3
def dkwX9_place_1 : List UInt8 := [172, 3, 62, 29, 7, 162, 0, 30, 29, 27, 159, 0, 19, 42, 29, 3, 182, 0, 53, 28, 160, 0, 9, 42]
abbrev dktX9_place_1 : List UInt8 := dkwX9_place_1 ++ dktX9_place_2
def dkwX9_place_0 : List UInt8 := [42, 3, 181, 0, 38, 27, 184, 0, 134, 153, 0, 10, 28, 184, 0, 119, 154, 0, 9, 42, 4, 182, 0, 122]
abbrev dktX9_place_0 : List UInt8 := dkwX9_place_0 ++ dktX9_place_1
theorem dksX9_place_0 : cX9_place.data.toList.drop 0 = dktX9_place_0 := by decide +kernel
theorem dksX9_place_1 : cX9_place.data.toList.drop 24 = dktX9_place_1 := dk_seg dksX9_place_0 24 rfl rfl
theorem dksX9_place_2 : cX9_place.data.toList.drop 48 = dktX9_place_2 := dk_seg dksX9_place_1 24 rfl rfl
theorem dksX9_place_3 : cX9_place.data.toList.drop 72 = dktX9_place_3 := dk_seg dksX9_place_2 24 rfl rfl
theorem dX9_place_0 : decode cX9_place 0 = .ok (.aload_n 0, 1) := dk_42 (dk_at dksX9_place_0 0 rfl rfl)
theorem dX9_place_1 : decode cX9_place 1 = .ok (.iconst 0, 1) := dk_3 (dk_at dksX9_place_0 1 rfl rfl)
theorem dX9_place_2 : decode cX9_place 2 = .ok (.putfield 38, 3) := dk_181 0 38 (dk_at dksX9_place_0 2 rfl rfl)
theorem dX9_place_5 : decode cX9_place 5 = .ok (.iload_n 1, 1) := dk_27 (dk_at dksX9_place_0 5 rfl rfl)
theorem dX9_place_6 : decode cX9_place 6 = .ok (.invokestatic 134, 3) := dk_184 0 134 (dk_at dksX9_place_0 6 rfl rfl)
theorem dX9_place_9 : decode cX9_place 9 = .ok (.ifCond .eq 10, 3) := dk_153 0 10 (dk_at dksX9_place_0 9 rfl rfl)
theorem dX9_place_12 : decode cX9_place 12 = .ok (.iload_n 2, 1) := dk_28 (dk_at dksX9_place_0 12 rfl rfl)
theorem dX9_place_13 : decode cX9_place 13 = .ok (.invokestatic 119, 3) := dk_184 0 119 (dk_at dksX9_place_0 13 rfl rfl)
theorem dX9_place_16 : decode cX9_place 16 = .ok (.ifCond .ne 9, 3) := dk_154 0 9 (dk_at dksX9_place_0 16 rfl rfl)
theorem dX9_place_19 : decode cX9_place 19 = .ok (.aload_n 0, 1) := dk_42 (dk_at dksX9_place_0 19 rfl rfl)
theorem dX9_place_20 : decode cX9_place 20 = .ok (.iconst 1, 1) := dk_4 (dk_at dksX9_place_0 20 rfl rfl)
theorem dX9_place_21 : decode cX9_place 21 = .ok (.invokevirtual 122, 3) := dk_182 0 122 (dk_at dksX9_place_0 21 rfl rfl)
theorem dX9_place_24 : decode cX9_place 24 = .ok (.ireturn, 1) := dk_172 (dk_at dksX9_place_1 0 rfl rfl)
theorem dX9_place_25 : decode cX9_place 25 = .ok (.iconst 0, 1) := dk_3 (dk_at dksX9_place_1 1 rfl rfl)
theorem dX9_place_26 : decode cX9_place 26 = .ok (.istore_n 3, 1) := dk_62 (dk_at dksX9_place_1 2 rfl rfl)
theorem dX9_place_27 : decode cX9_place 27 = .ok (.iload_n 3, 1) := dk_29 (dk_at dksX9_place_1 3 rfl rfl)
theorem dX9_place_28 : decode cX9_place 28 = .ok (.iconst 4, 1) := dk_7 (dk_at dksX9_place_1 4 rfl rfl)
theorem dX9_place_29 : decode cX9_place 29 = .ok (.if_icmp .ge 30, 3) := dk_162 0 30 (dk_at dksX9_place_1 5 rfl rfl)
theorem dX9_place_32 : decode cX9_place 32 = .ok (.iload_n 3, 1) := dk_29 (dk_at dksX9_place_1 8 rfl rfl)
theorem dX9_place_33 : decode cX9_place 33 = .ok (.iload_n 1, 1) := dk_27 (dk_at dksX9_place_1 9 rfl rfl)
theorem dX9_place_34 : decode cX9_place 34 = .ok (.if_icmp .eq 19, 3) := dk_159 0 19 (dk_at dksX9_place_1 10 rfl rfl)
theorem dX9_place_37 : decode cX9_place 37 = .ok (.aload_n 0, 1) := dk_42 (dk_at dksX9_place_1 13 rfl rfl)
theorem dX9_place_38 : decode cX9_place 38 = .ok (.iload_n 3, 1) := dk_29 (dk_at dksX9_place_1 14 rfl rfl)
theorem dX9_place_39 : decode cX9_place 39 = .ok (.iconst 0, 1) := dk_3 (dk_at dksX9_place_1 15 rfl rfl)
theorem dX9_place_40 : decode cX9_place 40 = .ok (.invokevirtual 53, 3) := dk_182 0 53 (dk_at dksX9_place_1 16 rfl rfl)
theorem dX9_place_43 : decode cX9_place 43 = .ok (.iload_n 2, 1) := dk_28 (dk_at dksX9_place_1 19 rfl rfl)
theorem dX9_place_44 : decode cX9_place 44 = .ok (.if_icmp .ne 9, 3) := dk_160 0 9 (dk_at dksX9_place_1 20 rfl rfl)
theorem dX9_place_47 : decode cX9_place 47 = .ok (.aload_n 0, 1) := dk_42 (dk_at dksX9_place_1 23 rfl rfl)
theorem dX9_place_48 : decode cX9_place 48 = .ok (.iconst 2, 1) := dk_5 (dk_at dksX9_place_2 0 rfl rfl)
theorem dX9_place_49 : decode cX9_place 49 = .ok (.invokevirtual 122, 3) := dk_182 0 122 (dk_at dksX9_place_2 1 rfl rfl)
theorem dX9_place_52 : decode cX9_place 52 = .ok (.ireturn, 1) := dk_172 (dk_at dksX9_place_2 4 rfl rfl)
theorem dX9_place_53 : decode cX9_place 53 = .ok (.iinc 3 1, 3) := dk_132 3 1 (dk_at dksX9_place_2 5 rfl rfl)
theorem dX9_place_56 : decode cX9_place 56 = .ok (.goto (-29), 3) := dk_167 255 227 (dk_at dksX9_place_2 8 rfl rfl)
theorem dX9_place_59 : decode cX9_place 59 = .ok (.aload_n 0, 1) := dk_42 (dk_at dksX9_place_2 11 rfl rfl)
theorem dX9_place_60 : decode cX9_place 60 = .ok (.invokevirtual 125, 3) := dk_182 0 125 (dk_at dksX9_place_2 12 rfl rfl)
theorem dX9_place_63 : decode cX9_place 63 = .ok (.aload_n 0, 1) := dk_42 (dk_at dksX9_place_2 15 rfl rfl)
theorem dX9_place_64 : decode cX9_place 64 = .ok (.iload_n 1, 1) := dk_27 (dk_at dksX9_place_2 16 rfl rfl)
theorem dX9_place_65 : decode cX9_place 65 = .ok (.iconst 0, 1) := dk_3 (dk_at dksX9_place_2 17 rfl rfl)
theorem dX9_place_66 : decode cX9_place 66 = .ok (.invokevirtual 53, 3) := dk_182 0 53 (dk_at dksX9_place_2 18 rfl rfl)
theorem dX9_place_69 : decode cX9_place 69 = .ok (.istore_n 3, 1) := dk_62 (dk_at dksX9_place_2 21 rfl rfl)
theorem dX9_place_70 : decode cX9_place 70 = .ok (.aload_n 0, 1) := dk_42 (dk_at dksX9_place_2 22 rfl rfl)
theorem dX9_place_71 : decode cX9_place 71 = .ok (.iload_n 1, 1) := dk_27 (dk_at dksX9_place_2 23 rfl rfl)
theorem dX9_place_72 : decode cX9_place 72 = .ok (.iconst 0, 1) := dk_3 (dk_at dksX9_place_3 0 rfl rfl)
theorem dX9_place_73 : decode cX9_place 73 = .ok (.iload_n 2, 1) := dk_28 (dk_at dksX9_place_3 1 rfl rfl)
theorem dX9_place_74 : decode cX9_place 74 = .ok (.invokevirtual 31, 3) := dk_182 0 31 (dk_at dksX9_place_3 2 rfl rfl)
theorem dX9_place_77 : decode cX9_place 77 = .ok (.aload_n 0, 1) := dk_42 (dk_at dksX9_place_3 5 rfl rfl)
theorem dX9_place_78 : decode cX9_place 78 = .ok (.iload_n 1, 1) := dk_27 (dk_at dksX9_place_3 6 rfl rfl)
theorem dX9_place_79 : decode cX9_place 79 = .ok (.iconst 2, 1) := dk_5 (dk_at dksX9_place_3 7 rfl rfl)
theorem dX9_place_80 : decode cX9_place 80 = .ok (.iconst (-1), 1) := dk_2 (dk_at dksX9_place_3 8 rfl rfl)
theorem dX9_place_81 : decode cX9_place 81 = .ok (.invokevirtual 31, 3) := dk_182 0 31 (dk_at dksX9_place_3 9 rfl rfl)
theorem dX9_place_84 : decode cX9_place 84 = .ok (.aload_n 0, 1) := dk_42 (dk_at dksX9_place_3 12 rfl rfl)
theorem dX9_place_85 : decode cX9_place 85 = .ok (.invokevirtual 137, 3) := dk_182 0 137 (dk_at dksX9_place_3 13 rfl rfl)
theorem dX9_place_88 : decode cX9_place 88 = .ok (.iload_n 3, 1) := dk_29 (dk_at dksX9_place_3 16 rfl rfl)
theorem dX9_place_89 : decode cX9_place 89 = .ok (.ireturn, 1) := dk_172 (dk_at dksX9_place_3 17 rfl rfl)
abbrev cX9_isCourier : ByteArray := prog_17_method_6_code
def yX9_isCourier : MethodName := ⟨RX9, "isCourier", "(I)Z"⟩
def dkwX9_isCourier_0 : List UInt8 := [26, 3, 6, 184, 0, 42, 172]
abbrev dktX9_isCourier_0 : List UInt8 := dkwX9_isCourier_0 ++ []
theorem dksX9_isCourier_0 : cX9_isCourier.data.toList.drop 0 = dktX9_isCourier_0 := by decide +kernel
theorem dX9_isCourier_0 : decode cX9_isCourier 0 = .ok (.iload_n 0, 1) := dk_26 (dk_at dksX9_isCourier_0 0 rfl rfl)
theorem dX9_isCourier_1 : decode cX9_isCourier 1 = .ok (.iconst 0, 1) := dk_3 (dk_at dksX9_isCourier_0 1 rfl rfl)
theorem dX9_isCourier_2 : decode cX9_isCourier 2 = .ok (.iconst 3, 1) := dk_6 (dk_at dksX9_isCourier_0 2 rfl rfl)
theorem dX9_isCourier_3 : decode cX9_isCourier 3 = .ok (.invokestatic 42, 3) := dk_184 0 42 (dk_at dksX9_isCourier_0 3 rfl rfl)
theorem dX9_isCourier_6 : decode cX9_isCourier 6 = .ok (.ireturn, 1) := dk_172 (dk_at dksX9_isCourier_0 6 rfl rfl)
abbrev cX9_drops : ByteArray := prog_17_method_25_code
def yX9_drops : MethodName := ⟨RX9, "drops", "()V"⟩
def dkwX9_drops_0 : List UInt8 := [42, 180, 0, 7, 17, 0, 174, 3, 79, 42, 182, 0, 35, 177]
abbrev dktX9_drops_0 : List UInt8 := dkwX9_drops_0 ++ []
theorem dksX9_drops_0 : cX9_drops.data.toList.drop 0 = dktX9_drops_0 := by decide +kernel
theorem dX9_drops_0 : decode cX9_drops 0 = .ok (.aload_n 0, 1) := dk_42 (dk_at dksX9_drops_0 0 rfl rfl)
theorem dX9_drops_1 : decode cX9_drops 1 = .ok (.getfield 7, 3) := dk_180 0 7 (dk_at dksX9_drops_0 1 rfl rfl)
theorem dX9_drops_4 : decode cX9_drops 4 = .ok (.sipush 174, 3) := dk_17 0 174 (dk_at dksX9_drops_0 4 rfl rfl)
theorem dX9_drops_7 : decode cX9_drops 7 = .ok (.iconst 0, 1) := dk_3 (dk_at dksX9_drops_0 7 rfl rfl)
theorem dX9_drops_8 : decode cX9_drops 8 = .ok (.iastore, 1) := dk_79 (dk_at dksX9_drops_0 8 rfl rfl)
theorem dX9_drops_9 : decode cX9_drops 9 = .ok (.aload_n 0, 1) := dk_42 (dk_at dksX9_drops_0 9 rfl rfl)
theorem dX9_drops_10 : decode cX9_drops 10 = .ok (.invokevirtual 35, 3) := dk_182 0 35 (dk_at dksX9_drops_0 10 rfl rfl)
theorem dX9_drops_13 : decode cX9_drops 13 = .ok (.return_, 1) := dk_177 (dk_at dksX9_drops_0 13 rfl rfl)
abbrev cX9_toggleVan : ByteArray := prog_17_method_41_code
def yX9_toggleVan : MethodName := ⟨RX9, "toggleVan", "(I)Z"⟩
def dkwX9_toggleVan_5 : List UInt8 := [153, 0, 7, 2, 167, 0, 4, 29, 182, 0, 31, 28, 172]
abbrev dktX9_toggleVan_5 : List UInt8 := dkwX9_toggleVan_5 ++ []
def dkwX9_toggleVan_4 : List UInt8 := [27, 5, 182, 0, 53, 62, 42, 27, 5, 28, 153, 0, 20, 29, 2, 159, 0, 15, 42, 29, 182, 0, 84]
abbrev dktX9_toggleVan_4 : List UInt8 := dkwX9_toggleVan_4 ++ dktX9_toggleVan_5
def dkwX9_toggleVan_3 : List UInt8 := [182, 0, 53, 100, 182, 0, 31, 42, 27, 4, 182, 0, 53, 4, 160, 0, 7, 4, 167, 0, 4, 3, 61, 42]
abbrev dktX9_toggleVan_3 : List UInt8 := dkwX9_toggleVan_3 ++ dktX9_toggleVan_4
def dkwX9_toggleVan_2 : List UInt8 := [181, 0, 38, 42, 180, 0, 38, 158, 0, 5, 3, 172, 42, 182, 0, 125, 42, 27, 4, 4, 42, 27, 4]
abbrev dktX9_toggleVan_2 : List UInt8 := dkwX9_toggleVan_2 ++ dktX9_toggleVan_3
def dkwX9_toggleVan_1 : List UInt8 := [182, 0, 53, 100, 42, 180, 0, 7, 17, 0, 166, 46, 182, 0, 56, 164, 0, 7, 5, 167, 0, 4, 3]
abbrev dktX9_toggleVan_1 : List UInt8 := dkwX9_toggleVan_1 ++ dktX9_toggleVan_2
def dkwX9_toggleVan_0 : List UInt8 := [42, 27, 184, 0, 134, 154, 0, 7, 4, 167, 0, 37, 42, 27, 182, 0, 94, 42, 27, 4, 42, 27, 4]
abbrev dktX9_toggleVan_0 : List UInt8 := dkwX9_toggleVan_0 ++ dktX9_toggleVan_1
theorem dksX9_toggleVan_0 : cX9_toggleVan.data.toList.drop 0 = dktX9_toggleVan_0 := by decide +kernel
theorem dksX9_toggleVan_1 : cX9_toggleVan.data.toList.drop 23 = dktX9_toggleVan_1 := dk_seg dksX9_toggleVan_0 23 rfl rfl
theorem dksX9_toggleVan_2 : cX9_toggleVan.data.toList.drop 46 = dktX9_toggleVan_2 := dk_seg dksX9_toggleVan_1 23 rfl rfl
theorem dksX9_toggleVan_3 : cX9_toggleVan.data.toList.drop 69 = dktX9_toggleVan_3 := dk_seg dksX9_toggleVan_2 23 rfl rfl
theorem dksX9_toggleVan_4 : cX9_toggleVan.data.toList.drop 93 = dktX9_toggleVan_4 := dk_seg dksX9_toggleVan_3 24 rfl rfl
theorem dksX9_toggleVan_5 : cX9_toggleVan.data.toList.drop 116 = dktX9_toggleVan_5 := dk_seg dksX9_toggleVan_4 23 rfl rfl
theorem dX9_toggleVan_0 : decode cX9_toggleVan 0 = .ok (.aload_n 0, 1) := dk_42 (dk_at dksX9_toggleVan_0 0 rfl rfl)
theorem dX9_toggleVan_1 : decode cX9_toggleVan 1 = .ok (.iload_n 1, 1) := dk_27 (dk_at dksX9_toggleVan_0 1 rfl rfl)
theorem dX9_toggleVan_2 : decode cX9_toggleVan 2 = .ok (.invokestatic 134, 3) := dk_184 0 134 (dk_at dksX9_toggleVan_0 2 rfl rfl)
theorem dX9_toggleVan_5 : decode cX9_toggleVan 5 = .ok (.ifCond .ne 7, 3) := dk_154 0 7 (dk_at dksX9_toggleVan_0 5 rfl rfl)
theorem dX9_toggleVan_8 : decode cX9_toggleVan 8 = .ok (.iconst 1, 1) := dk_4 (dk_at dksX9_toggleVan_0 8 rfl rfl)
theorem dX9_toggleVan_9 : decode cX9_toggleVan 9 = .ok (.goto 37, 3) := dk_167 0 37 (dk_at dksX9_toggleVan_0 9 rfl rfl)
theorem dX9_toggleVan_12 : decode cX9_toggleVan 12 = .ok (.aload_n 0, 1) := dk_42 (dk_at dksX9_toggleVan_0 12 rfl rfl)
theorem dX9_toggleVan_13 : decode cX9_toggleVan 13 = .ok (.iload_n 1, 1) := dk_27 (dk_at dksX9_toggleVan_0 13 rfl rfl)
theorem dX9_toggleVan_14 : decode cX9_toggleVan 14 = .ok (.invokevirtual 94, 3) := dk_182 0 94 (dk_at dksX9_toggleVan_0 14 rfl rfl)
theorem dX9_toggleVan_17 : decode cX9_toggleVan 17 = .ok (.aload_n 0, 1) := dk_42 (dk_at dksX9_toggleVan_0 17 rfl rfl)
theorem dX9_toggleVan_18 : decode cX9_toggleVan 18 = .ok (.iload_n 1, 1) := dk_27 (dk_at dksX9_toggleVan_0 18 rfl rfl)
theorem dX9_toggleVan_19 : decode cX9_toggleVan 19 = .ok (.iconst 1, 1) := dk_4 (dk_at dksX9_toggleVan_0 19 rfl rfl)
theorem dX9_toggleVan_20 : decode cX9_toggleVan 20 = .ok (.aload_n 0, 1) := dk_42 (dk_at dksX9_toggleVan_0 20 rfl rfl)
theorem dX9_toggleVan_21 : decode cX9_toggleVan 21 = .ok (.iload_n 1, 1) := dk_27 (dk_at dksX9_toggleVan_0 21 rfl rfl)
theorem dX9_toggleVan_22 : decode cX9_toggleVan 22 = .ok (.iconst 1, 1) := dk_4 (dk_at dksX9_toggleVan_0 22 rfl rfl)
theorem dX9_toggleVan_23 : decode cX9_toggleVan 23 = .ok (.invokevirtual 53, 3) := dk_182 0 53 (dk_at dksX9_toggleVan_1 0 rfl rfl)
theorem dX9_toggleVan_26 : decode cX9_toggleVan 26 = .ok (.isub, 1) := dk_100 (dk_at dksX9_toggleVan_1 3 rfl rfl)
theorem dX9_toggleVan_27 : decode cX9_toggleVan 27 = .ok (.aload_n 0, 1) := dk_42 (dk_at dksX9_toggleVan_1 4 rfl rfl)
theorem dX9_toggleVan_28 : decode cX9_toggleVan 28 = .ok (.getfield 7, 3) := dk_180 0 7 (dk_at dksX9_toggleVan_1 5 rfl rfl)
theorem dX9_toggleVan_31 : decode cX9_toggleVan 31 = .ok (.sipush 166, 3) := dk_17 0 166 (dk_at dksX9_toggleVan_1 8 rfl rfl)
theorem dX9_toggleVan_34 : decode cX9_toggleVan 34 = .ok (.iaload, 1) := dk_46 (dk_at dksX9_toggleVan_1 11 rfl rfl)
theorem dX9_toggleVan_35 : decode cX9_toggleVan 35 = .ok (.invokevirtual 56, 3) := dk_182 0 56 (dk_at dksX9_toggleVan_1 12 rfl rfl)
theorem dX9_toggleVan_38 : decode cX9_toggleVan 38 = .ok (.if_icmp .le 7, 3) := dk_164 0 7 (dk_at dksX9_toggleVan_1 15 rfl rfl)
theorem dX9_toggleVan_41 : decode cX9_toggleVan 41 = .ok (.iconst 2, 1) := dk_5 (dk_at dksX9_toggleVan_1 18 rfl rfl)
theorem dX9_toggleVan_42 : decode cX9_toggleVan 42 = .ok (.goto 4, 3) := dk_167 0 4 (dk_at dksX9_toggleVan_1 19 rfl rfl)
theorem dX9_toggleVan_45 : decode cX9_toggleVan 45 = .ok (.iconst 0, 1) := dk_3 (dk_at dksX9_toggleVan_1 22 rfl rfl)
theorem dX9_toggleVan_46 : decode cX9_toggleVan 46 = .ok (.putfield 38, 3) := dk_181 0 38 (dk_at dksX9_toggleVan_2 0 rfl rfl)
theorem dX9_toggleVan_49 : decode cX9_toggleVan 49 = .ok (.aload_n 0, 1) := dk_42 (dk_at dksX9_toggleVan_2 3 rfl rfl)
theorem dX9_toggleVan_50 : decode cX9_toggleVan 50 = .ok (.getfield 38, 3) := dk_180 0 38 (dk_at dksX9_toggleVan_2 4 rfl rfl)
theorem dX9_toggleVan_53 : decode cX9_toggleVan 53 = .ok (.ifCond .le 5, 3) := dk_158 0 5 (dk_at dksX9_toggleVan_2 7 rfl rfl)
theorem dX9_toggleVan_56 : decode cX9_toggleVan 56 = .ok (.iconst 0, 1) := dk_3 (dk_at dksX9_toggleVan_2 10 rfl rfl)
theorem dX9_toggleVan_57 : decode cX9_toggleVan 57 = .ok (.ireturn, 1) := dk_172 (dk_at dksX9_toggleVan_2 11 rfl rfl)
theorem dX9_toggleVan_58 : decode cX9_toggleVan 58 = .ok (.aload_n 0, 1) := dk_42 (dk_at dksX9_toggleVan_2 12 rfl rfl)
theorem dX9_toggleVan_59 : decode cX9_toggleVan 59 = .ok (.invokevirtual 125, 3) := dk_182 0 125 (dk_at dksX9_toggleVan_2 13 rfl rfl)
theorem dX9_toggleVan_62 : decode cX9_toggleVan 62 = .ok (.aload_n 0, 1) := dk_42 (dk_at dksX9_toggleVan_2 16 rfl rfl)
theorem dX9_toggleVan_63 : decode cX9_toggleVan 63 = .ok (.iload_n 1, 1) := dk_27 (dk_at dksX9_toggleVan_2 17 rfl rfl)
theorem dX9_toggleVan_64 : decode cX9_toggleVan 64 = .ok (.iconst 1, 1) := dk_4 (dk_at dksX9_toggleVan_2 18 rfl rfl)
theorem dX9_toggleVan_65 : decode cX9_toggleVan 65 = .ok (.iconst 1, 1) := dk_4 (dk_at dksX9_toggleVan_2 19 rfl rfl)
theorem dX9_toggleVan_66 : decode cX9_toggleVan 66 = .ok (.aload_n 0, 1) := dk_42 (dk_at dksX9_toggleVan_2 20 rfl rfl)
theorem dX9_toggleVan_67 : decode cX9_toggleVan 67 = .ok (.iload_n 1, 1) := dk_27 (dk_at dksX9_toggleVan_2 21 rfl rfl)
theorem dX9_toggleVan_68 : decode cX9_toggleVan 68 = .ok (.iconst 1, 1) := dk_4 (dk_at dksX9_toggleVan_2 22 rfl rfl)
theorem dX9_toggleVan_69 : decode cX9_toggleVan 69 = .ok (.invokevirtual 53, 3) := dk_182 0 53 (dk_at dksX9_toggleVan_3 0 rfl rfl)
theorem dX9_toggleVan_72 : decode cX9_toggleVan 72 = .ok (.isub, 1) := dk_100 (dk_at dksX9_toggleVan_3 3 rfl rfl)
theorem dX9_toggleVan_73 : decode cX9_toggleVan 73 = .ok (.invokevirtual 31, 3) := dk_182 0 31 (dk_at dksX9_toggleVan_3 4 rfl rfl)
theorem dX9_toggleVan_76 : decode cX9_toggleVan 76 = .ok (.aload_n 0, 1) := dk_42 (dk_at dksX9_toggleVan_3 7 rfl rfl)
theorem dX9_toggleVan_77 : decode cX9_toggleVan 77 = .ok (.iload_n 1, 1) := dk_27 (dk_at dksX9_toggleVan_3 8 rfl rfl)
theorem dX9_toggleVan_78 : decode cX9_toggleVan 78 = .ok (.iconst 1, 1) := dk_4 (dk_at dksX9_toggleVan_3 9 rfl rfl)
theorem dX9_toggleVan_79 : decode cX9_toggleVan 79 = .ok (.invokevirtual 53, 3) := dk_182 0 53 (dk_at dksX9_toggleVan_3 10 rfl rfl)
theorem dX9_toggleVan_82 : decode cX9_toggleVan 82 = .ok (.iconst 1, 1) := dk_4 (dk_at dksX9_toggleVan_3 13 rfl rfl)
theorem dX9_toggleVan_83 : decode cX9_toggleVan 83 = .ok (.if_icmp .ne 7, 3) := dk_160 0 7 (dk_at dksX9_toggleVan_3 14 rfl rfl)
theorem dX9_toggleVan_86 : decode cX9_toggleVan 86 = .ok (.iconst 1, 1) := dk_4 (dk_at dksX9_toggleVan_3 17 rfl rfl)
theorem dX9_toggleVan_87 : decode cX9_toggleVan 87 = .ok (.goto 4, 3) := dk_167 0 4 (dk_at dksX9_toggleVan_3 18 rfl rfl)
theorem dX9_toggleVan_90 : decode cX9_toggleVan 90 = .ok (.iconst 0, 1) := dk_3 (dk_at dksX9_toggleVan_3 21 rfl rfl)
theorem dX9_toggleVan_91 : decode cX9_toggleVan 91 = .ok (.istore_n 2, 1) := dk_61 (dk_at dksX9_toggleVan_3 22 rfl rfl)
theorem dX9_toggleVan_92 : decode cX9_toggleVan 92 = .ok (.aload_n 0, 1) := dk_42 (dk_at dksX9_toggleVan_3 23 rfl rfl)
theorem dX9_toggleVan_93 : decode cX9_toggleVan 93 = .ok (.iload_n 1, 1) := dk_27 (dk_at dksX9_toggleVan_4 0 rfl rfl)
theorem dX9_toggleVan_94 : decode cX9_toggleVan 94 = .ok (.iconst 2, 1) := dk_5 (dk_at dksX9_toggleVan_4 1 rfl rfl)
theorem dX9_toggleVan_95 : decode cX9_toggleVan 95 = .ok (.invokevirtual 53, 3) := dk_182 0 53 (dk_at dksX9_toggleVan_4 2 rfl rfl)
theorem dX9_toggleVan_98 : decode cX9_toggleVan 98 = .ok (.istore_n 3, 1) := dk_62 (dk_at dksX9_toggleVan_4 5 rfl rfl)
theorem dX9_toggleVan_99 : decode cX9_toggleVan 99 = .ok (.aload_n 0, 1) := dk_42 (dk_at dksX9_toggleVan_4 6 rfl rfl)
theorem dX9_toggleVan_100 : decode cX9_toggleVan 100 = .ok (.iload_n 1, 1) := dk_27 (dk_at dksX9_toggleVan_4 7 rfl rfl)
theorem dX9_toggleVan_101 : decode cX9_toggleVan 101 = .ok (.iconst 2, 1) := dk_5 (dk_at dksX9_toggleVan_4 8 rfl rfl)
theorem dX9_toggleVan_102 : decode cX9_toggleVan 102 = .ok (.iload_n 2, 1) := dk_28 (dk_at dksX9_toggleVan_4 9 rfl rfl)
theorem dX9_toggleVan_103 : decode cX9_toggleVan 103 = .ok (.ifCond .eq 20, 3) := dk_153 0 20 (dk_at dksX9_toggleVan_4 10 rfl rfl)
theorem dX9_toggleVan_106 : decode cX9_toggleVan 106 = .ok (.iload_n 3, 1) := dk_29 (dk_at dksX9_toggleVan_4 13 rfl rfl)
theorem dX9_toggleVan_107 : decode cX9_toggleVan 107 = .ok (.iconst (-1), 1) := dk_2 (dk_at dksX9_toggleVan_4 14 rfl rfl)
theorem dX9_toggleVan_108 : decode cX9_toggleVan 108 = .ok (.if_icmp .eq 15, 3) := dk_159 0 15 (dk_at dksX9_toggleVan_4 15 rfl rfl)
theorem dX9_toggleVan_111 : decode cX9_toggleVan 111 = .ok (.aload_n 0, 1) := dk_42 (dk_at dksX9_toggleVan_4 18 rfl rfl)
theorem dX9_toggleVan_112 : decode cX9_toggleVan 112 = .ok (.iload_n 3, 1) := dk_29 (dk_at dksX9_toggleVan_4 19 rfl rfl)
theorem dX9_toggleVan_113 : decode cX9_toggleVan 113 = .ok (.invokevirtual 84, 3) := dk_182 0 84 (dk_at dksX9_toggleVan_4 20 rfl rfl)
theorem dX9_toggleVan_116 : decode cX9_toggleVan 116 = .ok (.ifCond .eq 7, 3) := dk_153 0 7 (dk_at dksX9_toggleVan_5 0 rfl rfl)
theorem dX9_toggleVan_119 : decode cX9_toggleVan 119 = .ok (.iconst (-1), 1) := dk_2 (dk_at dksX9_toggleVan_5 3 rfl rfl)
theorem dX9_toggleVan_120 : decode cX9_toggleVan 120 = .ok (.goto 4, 3) := dk_167 0 4 (dk_at dksX9_toggleVan_5 4 rfl rfl)
theorem dX9_toggleVan_123 : decode cX9_toggleVan 123 = .ok (.iload_n 3, 1) := dk_29 (dk_at dksX9_toggleVan_5 7 rfl rfl)
theorem dX9_toggleVan_124 : decode cX9_toggleVan 124 = .ok (.invokevirtual 31, 3) := dk_182 0 31 (dk_at dksX9_toggleVan_5 8 rfl rfl)
theorem dX9_toggleVan_127 : decode cX9_toggleVan 127 = .ok (.iload_n 2, 1) := dk_28 (dk_at dksX9_toggleVan_5 11 rfl rfl)
theorem dX9_toggleVan_128 : decode cX9_toggleVan 128 = .ok (.ireturn, 1) := dk_172 (dk_at dksX9_toggleVan_5 12 rfl rfl)
abbrev cX9_load : ByteArray := prog_17_method_18_code
def yX9_load : MethodName := ⟨RX9, "load", "(I)I"⟩
def dkwX9_load_2 : List UInt8 := [61, 132, 3, 1, 167, 255, 209, 28, 172]
abbrev dktX9_load_2 : List UInt8 := dkwX9_load_2 ++ []
def dkwX9_load_1 : List UInt8 := [160, 0, 22, 42, 29, 8, 182, 0, 49, 27, 160, 0, 12, 42, 29, 5, 182, 0, 49, 167, 0, 4, 3, 96]
abbrev dktX9_load_1 : List UInt8 := dkwX9_load_1 ++ dktX9_load_2
def dkwX9_load_0 : List UInt8 := [3, 61, 3, 62, 29, 42, 180, 0, 7, 16, 117, 46, 162, 0, 42, 28, 42, 29, 7, 182, 0, 49, 4]
abbrev dktX9_load_0 : List UInt8 := dkwX9_load_0 ++ dktX9_load_1
theorem dksX9_load_0 : cX9_load.data.toList.drop 0 = dktX9_load_0 := by decide +kernel
theorem dksX9_load_1 : cX9_load.data.toList.drop 23 = dktX9_load_1 := dk_seg dksX9_load_0 23 rfl rfl
theorem dksX9_load_2 : cX9_load.data.toList.drop 47 = dktX9_load_2 := dk_seg dksX9_load_1 24 rfl rfl
theorem dX9_load_0 : decode cX9_load 0 = .ok (.iconst 0, 1) := dk_3 (dk_at dksX9_load_0 0 rfl rfl)
theorem dX9_load_1 : decode cX9_load 1 = .ok (.istore_n 2, 1) := dk_61 (dk_at dksX9_load_0 1 rfl rfl)
theorem dX9_load_2 : decode cX9_load 2 = .ok (.iconst 0, 1) := dk_3 (dk_at dksX9_load_0 2 rfl rfl)
theorem dX9_load_3 : decode cX9_load 3 = .ok (.istore_n 3, 1) := dk_62 (dk_at dksX9_load_0 3 rfl rfl)
theorem dX9_load_4 : decode cX9_load 4 = .ok (.iload_n 3, 1) := dk_29 (dk_at dksX9_load_0 4 rfl rfl)
theorem dX9_load_5 : decode cX9_load 5 = .ok (.aload_n 0, 1) := dk_42 (dk_at dksX9_load_0 5 rfl rfl)
theorem dX9_load_6 : decode cX9_load 6 = .ok (.getfield 7, 3) := dk_180 0 7 (dk_at dksX9_load_0 6 rfl rfl)
theorem dX9_load_9 : decode cX9_load 9 = .ok (.bipush 117, 2) := dk_16 117 (dk_at dksX9_load_0 9 rfl rfl)
theorem dX9_load_11 : decode cX9_load 11 = .ok (.iaload, 1) := dk_46 (dk_at dksX9_load_0 11 rfl rfl)
theorem dX9_load_12 : decode cX9_load 12 = .ok (.if_icmp .ge 42, 3) := dk_162 0 42 (dk_at dksX9_load_0 12 rfl rfl)
theorem dX9_load_15 : decode cX9_load 15 = .ok (.iload_n 2, 1) := dk_28 (dk_at dksX9_load_0 15 rfl rfl)
theorem dX9_load_16 : decode cX9_load 16 = .ok (.aload_n 0, 1) := dk_42 (dk_at dksX9_load_0 16 rfl rfl)
theorem dX9_load_17 : decode cX9_load 17 = .ok (.iload_n 3, 1) := dk_29 (dk_at dksX9_load_0 17 rfl rfl)
theorem dX9_load_18 : decode cX9_load 18 = .ok (.iconst 4, 1) := dk_7 (dk_at dksX9_load_0 18 rfl rfl)
theorem dX9_load_19 : decode cX9_load 19 = .ok (.invokevirtual 49, 3) := dk_182 0 49 (dk_at dksX9_load_0 19 rfl rfl)
theorem dX9_load_22 : decode cX9_load 22 = .ok (.iconst 1, 1) := dk_4 (dk_at dksX9_load_0 22 rfl rfl)
theorem dX9_load_23 : decode cX9_load 23 = .ok (.if_icmp .ne 22, 3) := dk_160 0 22 (dk_at dksX9_load_1 0 rfl rfl)
theorem dX9_load_26 : decode cX9_load 26 = .ok (.aload_n 0, 1) := dk_42 (dk_at dksX9_load_1 3 rfl rfl)
theorem dX9_load_27 : decode cX9_load 27 = .ok (.iload_n 3, 1) := dk_29 (dk_at dksX9_load_1 4 rfl rfl)
theorem dX9_load_28 : decode cX9_load 28 = .ok (.iconst 5, 1) := dk_8 (dk_at dksX9_load_1 5 rfl rfl)
theorem dX9_load_29 : decode cX9_load 29 = .ok (.invokevirtual 49, 3) := dk_182 0 49 (dk_at dksX9_load_1 6 rfl rfl)
theorem dX9_load_32 : decode cX9_load 32 = .ok (.iload_n 1, 1) := dk_27 (dk_at dksX9_load_1 9 rfl rfl)
theorem dX9_load_33 : decode cX9_load 33 = .ok (.if_icmp .ne 12, 3) := dk_160 0 12 (dk_at dksX9_load_1 10 rfl rfl)
theorem dX9_load_36 : decode cX9_load 36 = .ok (.aload_n 0, 1) := dk_42 (dk_at dksX9_load_1 13 rfl rfl)
theorem dX9_load_37 : decode cX9_load 37 = .ok (.iload_n 3, 1) := dk_29 (dk_at dksX9_load_1 14 rfl rfl)
theorem dX9_load_38 : decode cX9_load 38 = .ok (.iconst 2, 1) := dk_5 (dk_at dksX9_load_1 15 rfl rfl)
theorem dX9_load_39 : decode cX9_load 39 = .ok (.invokevirtual 49, 3) := dk_182 0 49 (dk_at dksX9_load_1 16 rfl rfl)
theorem dX9_load_42 : decode cX9_load 42 = .ok (.goto 4, 3) := dk_167 0 4 (dk_at dksX9_load_1 19 rfl rfl)
theorem dX9_load_45 : decode cX9_load 45 = .ok (.iconst 0, 1) := dk_3 (dk_at dksX9_load_1 22 rfl rfl)
theorem dX9_load_46 : decode cX9_load 46 = .ok (.iadd, 1) := dk_96 (dk_at dksX9_load_1 23 rfl rfl)
theorem dX9_load_47 : decode cX9_load 47 = .ok (.istore_n 2, 1) := dk_61 (dk_at dksX9_load_2 0 rfl rfl)
theorem dX9_load_48 : decode cX9_load 48 = .ok (.iinc 3 1, 3) := dk_132 3 1 (dk_at dksX9_load_2 1 rfl rfl)
theorem dX9_load_51 : decode cX9_load 51 = .ok (.goto (-47), 3) := dk_167 255 209 (dk_at dksX9_load_2 4 rfl rfl)
theorem dX9_load_54 : decode cX9_load 54 = .ok (.iload_n 2, 1) := dk_28 (dk_at dksX9_load_2 7 rfl rfl)
theorem dX9_load_55 : decode cX9_load 55 = .ok (.ireturn, 1) := dk_172 (dk_at dksX9_load_2 8 rfl rfl)
abbrev cX9_room : ByteArray := prog_17_method_19_code
def yX9_room : MethodName := ⟨RX9, "room", "(III)I"⟩
def dkwX9_room_0 : List UInt8 := [28, 4, 160, 0, 9, 5, 29, 104, 167, 0, 4, 29, 172]
abbrev dktX9_room_0 : List UInt8 := dkwX9_room_0 ++ []
theorem dksX9_room_0 : cX9_room.data.toList.drop 0 = dktX9_room_0 := by decide +kernel
theorem dX9_room_0 : decode cX9_room 0 = .ok (.iload_n 2, 1) := dk_28 (dk_at dksX9_room_0 0 rfl rfl)
theorem dX9_room_1 : decode cX9_room 1 = .ok (.iconst 1, 1) := dk_4 (dk_at dksX9_room_0 1 rfl rfl)
theorem dX9_room_2 : decode cX9_room 2 = .ok (.if_icmp .ne 9, 3) := dk_160 0 9 (dk_at dksX9_room_0 2 rfl rfl)
theorem dX9_room_5 : decode cX9_room 5 = .ok (.iconst 2, 1) := dk_5 (dk_at dksX9_room_0 5 rfl rfl)
theorem dX9_room_6 : decode cX9_room 6 = .ok (.iload_n 3, 1) := dk_29 (dk_at dksX9_room_0 6 rfl rfl)
theorem dX9_room_7 : decode cX9_room 7 = .ok (.imul, 1) := dk_104 (dk_at dksX9_room_0 7 rfl rfl)
theorem dX9_room_8 : decode cX9_room 8 = .ok (.goto 4, 3) := dk_167 0 4 (dk_at dksX9_room_0 8 rfl rfl)
theorem dX9_room_11 : decode cX9_room 11 = .ok (.iload_n 3, 1) := dk_29 (dk_at dksX9_room_0 11 rfl rfl)
theorem dX9_room_12 : decode cX9_room 12 = .ok (.ireturn, 1) := dk_172 (dk_at dksX9_room_0 12 rfl rfl)
abbrev cX9_isNarrow : ByteArray := prog_17_method_16_code
def yX9_isNarrow : MethodName := ⟨RX9, "isNarrow", "(I)Z"⟩
def dkwX9_isNarrow_0 : List UInt8 := [42, 180, 0, 7, 4, 7, 27, 104, 96, 5, 96, 46, 4, 160, 0, 7, 4, 167, 0, 4, 3, 172]
abbrev dktX9_isNarrow_0 : List UInt8 := dkwX9_isNarrow_0 ++ []
theorem dksX9_isNarrow_0 : cX9_isNarrow.data.toList.drop 0 = dktX9_isNarrow_0 := by decide +kernel
theorem dX9_isNarrow_0 : decode cX9_isNarrow 0 = .ok (.aload_n 0, 1) := dk_42 (dk_at dksX9_isNarrow_0 0 rfl rfl)
theorem dX9_isNarrow_1 : decode cX9_isNarrow 1 = .ok (.getfield 7, 3) := dk_180 0 7 (dk_at dksX9_isNarrow_0 1 rfl rfl)
theorem dX9_isNarrow_4 : decode cX9_isNarrow 4 = .ok (.iconst 1, 1) := dk_4 (dk_at dksX9_isNarrow_0 4 rfl rfl)
theorem dX9_isNarrow_5 : decode cX9_isNarrow 5 = .ok (.iconst 4, 1) := dk_7 (dk_at dksX9_isNarrow_0 5 rfl rfl)
theorem dX9_isNarrow_6 : decode cX9_isNarrow 6 = .ok (.iload_n 1, 1) := dk_27 (dk_at dksX9_isNarrow_0 6 rfl rfl)
theorem dX9_isNarrow_7 : decode cX9_isNarrow 7 = .ok (.imul, 1) := dk_104 (dk_at dksX9_isNarrow_0 7 rfl rfl)
theorem dX9_isNarrow_8 : decode cX9_isNarrow 8 = .ok (.iadd, 1) := dk_96 (dk_at dksX9_isNarrow_0 8 rfl rfl)
theorem dX9_isNarrow_9 : decode cX9_isNarrow 9 = .ok (.iconst 2, 1) := dk_5 (dk_at dksX9_isNarrow_0 9 rfl rfl)
theorem dX9_isNarrow_10 : decode cX9_isNarrow 10 = .ok (.iadd, 1) := dk_96 (dk_at dksX9_isNarrow_0 10 rfl rfl)
theorem dX9_isNarrow_11 : decode cX9_isNarrow 11 = .ok (.iaload, 1) := dk_46 (dk_at dksX9_isNarrow_0 11 rfl rfl)
theorem dX9_isNarrow_12 : decode cX9_isNarrow 12 = .ok (.iconst 1, 1) := dk_4 (dk_at dksX9_isNarrow_0 12 rfl rfl)
theorem dX9_isNarrow_13 : decode cX9_isNarrow 13 = .ok (.if_icmp .ne 7, 3) := dk_160 0 7 (dk_at dksX9_isNarrow_0 13 rfl rfl)
theorem dX9_isNarrow_16 : decode cX9_isNarrow 16 = .ok (.iconst 1, 1) := dk_4 (dk_at dksX9_isNarrow_0 16 rfl rfl)
theorem dX9_isNarrow_17 : decode cX9_isNarrow 17 = .ok (.goto 4, 3) := dk_167 0 4 (dk_at dksX9_isNarrow_0 17 rfl rfl)
theorem dX9_isNarrow_20 : decode cX9_isNarrow 20 = .ok (.iconst 0, 1) := dk_3 (dk_at dksX9_isNarrow_0 20 rfl rfl)
theorem dX9_isNarrow_21 : decode cX9_isNarrow 21 = .ok (.ireturn, 1) := dk_172 (dk_at dksX9_isNarrow_0 21 rfl rfl)
abbrev cX9_setCapacity : ByteArray := prog_17_method_42_code
def yX9_setCapacity : MethodName := ⟨RX9, "setCapacity", "(I)I"⟩
def dkwX9_setCapacity_3 : List UInt8 := [61, 42, 180, 0, 7, 17, 0, 166, 27, 79, 28, 172]
abbrev dktX9_setCapacity_3 : List UInt8 := dkwX9_setCapacity_3 ++ []
def dkwX9_setCapacity_2 : List UInt8 := [42, 5, 182, 0, 122, 172, 132, 2, 1, 167, 255, 222, 42, 182, 0, 125, 42, 180, 0, 7, 17, 0, 166, 46]
abbrev dktX9_setCapacity_2 : List UInt8 := dkwX9_setCapacity_2 ++ dktX9_setCapacity_3
def dkwX9_setCapacity_1 : List UInt8 := [7, 162, 0, 35, 42, 28, 182, 0, 94, 42, 28, 42, 28, 4, 182, 0, 53, 27, 182, 0, 56, 164, 0, 9]
abbrev dktX9_setCapacity_1 : List UInt8 := dkwX9_setCapacity_1 ++ dktX9_setCapacity_2
def dkwX9_setCapacity_0 : List UInt8 := [42, 3, 181, 0, 38, 27, 4, 16, 9, 184, 0, 42, 154, 0, 9, 42, 4, 182, 0, 122, 172, 3, 61, 28]
abbrev dktX9_setCapacity_0 : List UInt8 := dkwX9_setCapacity_0 ++ dktX9_setCapacity_1
theorem dksX9_setCapacity_0 : cX9_setCapacity.data.toList.drop 0 = dktX9_setCapacity_0 := by decide +kernel
theorem dksX9_setCapacity_1 : cX9_setCapacity.data.toList.drop 24 = dktX9_setCapacity_1 := dk_seg dksX9_setCapacity_0 24 rfl rfl
theorem dksX9_setCapacity_2 : cX9_setCapacity.data.toList.drop 48 = dktX9_setCapacity_2 := dk_seg dksX9_setCapacity_1 24 rfl rfl
theorem dksX9_setCapacity_3 : cX9_setCapacity.data.toList.drop 72 = dktX9_setCapacity_3 := dk_seg dksX9_setCapacity_2 24 rfl rfl
theorem dX9_setCapacity_0 : decode cX9_setCapacity 0 = .ok (.aload_n 0, 1) := dk_42 (dk_at dksX9_setCapacity_0 0 rfl rfl)
theorem dX9_setCapacity_1 : decode cX9_setCapacity 1 = .ok (.iconst 0, 1) := dk_3 (dk_at dksX9_setCapacity_0 1 rfl rfl)
theorem dX9_setCapacity_2 : decode cX9_setCapacity 2 = .ok (.putfield 38, 3) := dk_181 0 38 (dk_at dksX9_setCapacity_0 2 rfl rfl)
theorem dX9_setCapacity_5 : decode cX9_setCapacity 5 = .ok (.iload_n 1, 1) := dk_27 (dk_at dksX9_setCapacity_0 5 rfl rfl)
theorem dX9_setCapacity_6 : decode cX9_setCapacity 6 = .ok (.iconst 1, 1) := dk_4 (dk_at dksX9_setCapacity_0 6 rfl rfl)
theorem dX9_setCapacity_7 : decode cX9_setCapacity 7 = .ok (.bipush 9, 2) := dk_16 9 (dk_at dksX9_setCapacity_0 7 rfl rfl)
theorem dX9_setCapacity_9 : decode cX9_setCapacity 9 = .ok (.invokestatic 42, 3) := dk_184 0 42 (dk_at dksX9_setCapacity_0 9 rfl rfl)
theorem dX9_setCapacity_12 : decode cX9_setCapacity 12 = .ok (.ifCond .ne 9, 3) := dk_154 0 9 (dk_at dksX9_setCapacity_0 12 rfl rfl)
theorem dX9_setCapacity_15 : decode cX9_setCapacity 15 = .ok (.aload_n 0, 1) := dk_42 (dk_at dksX9_setCapacity_0 15 rfl rfl)
theorem dX9_setCapacity_16 : decode cX9_setCapacity 16 = .ok (.iconst 1, 1) := dk_4 (dk_at dksX9_setCapacity_0 16 rfl rfl)
theorem dX9_setCapacity_17 : decode cX9_setCapacity 17 = .ok (.invokevirtual 122, 3) := dk_182 0 122 (dk_at dksX9_setCapacity_0 17 rfl rfl)
theorem dX9_setCapacity_20 : decode cX9_setCapacity 20 = .ok (.ireturn, 1) := dk_172 (dk_at dksX9_setCapacity_0 20 rfl rfl)
theorem dX9_setCapacity_21 : decode cX9_setCapacity 21 = .ok (.iconst 0, 1) := dk_3 (dk_at dksX9_setCapacity_0 21 rfl rfl)
theorem dX9_setCapacity_22 : decode cX9_setCapacity 22 = .ok (.istore_n 2, 1) := dk_61 (dk_at dksX9_setCapacity_0 22 rfl rfl)
theorem dX9_setCapacity_23 : decode cX9_setCapacity 23 = .ok (.iload_n 2, 1) := dk_28 (dk_at dksX9_setCapacity_0 23 rfl rfl)
theorem dX9_setCapacity_24 : decode cX9_setCapacity 24 = .ok (.iconst 4, 1) := dk_7 (dk_at dksX9_setCapacity_1 0 rfl rfl)
theorem dX9_setCapacity_25 : decode cX9_setCapacity 25 = .ok (.if_icmp .ge 35, 3) := dk_162 0 35 (dk_at dksX9_setCapacity_1 1 rfl rfl)
theorem dX9_setCapacity_28 : decode cX9_setCapacity 28 = .ok (.aload_n 0, 1) := dk_42 (dk_at dksX9_setCapacity_1 4 rfl rfl)
theorem dX9_setCapacity_29 : decode cX9_setCapacity 29 = .ok (.iload_n 2, 1) := dk_28 (dk_at dksX9_setCapacity_1 5 rfl rfl)
theorem dX9_setCapacity_30 : decode cX9_setCapacity 30 = .ok (.invokevirtual 94, 3) := dk_182 0 94 (dk_at dksX9_setCapacity_1 6 rfl rfl)
theorem dX9_setCapacity_33 : decode cX9_setCapacity 33 = .ok (.aload_n 0, 1) := dk_42 (dk_at dksX9_setCapacity_1 9 rfl rfl)
theorem dX9_setCapacity_34 : decode cX9_setCapacity 34 = .ok (.iload_n 2, 1) := dk_28 (dk_at dksX9_setCapacity_1 10 rfl rfl)
theorem dX9_setCapacity_35 : decode cX9_setCapacity 35 = .ok (.aload_n 0, 1) := dk_42 (dk_at dksX9_setCapacity_1 11 rfl rfl)
theorem dX9_setCapacity_36 : decode cX9_setCapacity 36 = .ok (.iload_n 2, 1) := dk_28 (dk_at dksX9_setCapacity_1 12 rfl rfl)
theorem dX9_setCapacity_37 : decode cX9_setCapacity 37 = .ok (.iconst 1, 1) := dk_4 (dk_at dksX9_setCapacity_1 13 rfl rfl)
theorem dX9_setCapacity_38 : decode cX9_setCapacity 38 = .ok (.invokevirtual 53, 3) := dk_182 0 53 (dk_at dksX9_setCapacity_1 14 rfl rfl)
theorem dX9_setCapacity_41 : decode cX9_setCapacity 41 = .ok (.iload_n 1, 1) := dk_27 (dk_at dksX9_setCapacity_1 17 rfl rfl)
theorem dX9_setCapacity_42 : decode cX9_setCapacity 42 = .ok (.invokevirtual 56, 3) := dk_182 0 56 (dk_at dksX9_setCapacity_1 18 rfl rfl)
theorem dX9_setCapacity_45 : decode cX9_setCapacity 45 = .ok (.if_icmp .le 9, 3) := dk_164 0 9 (dk_at dksX9_setCapacity_1 21 rfl rfl)
theorem dX9_setCapacity_48 : decode cX9_setCapacity 48 = .ok (.aload_n 0, 1) := dk_42 (dk_at dksX9_setCapacity_2 0 rfl rfl)
theorem dX9_setCapacity_49 : decode cX9_setCapacity 49 = .ok (.iconst 2, 1) := dk_5 (dk_at dksX9_setCapacity_2 1 rfl rfl)
theorem dX9_setCapacity_50 : decode cX9_setCapacity 50 = .ok (.invokevirtual 122, 3) := dk_182 0 122 (dk_at dksX9_setCapacity_2 2 rfl rfl)
theorem dX9_setCapacity_53 : decode cX9_setCapacity 53 = .ok (.ireturn, 1) := dk_172 (dk_at dksX9_setCapacity_2 5 rfl rfl)
theorem dX9_setCapacity_54 : decode cX9_setCapacity 54 = .ok (.iinc 2 1, 3) := dk_132 2 1 (dk_at dksX9_setCapacity_2 6 rfl rfl)
theorem dX9_setCapacity_57 : decode cX9_setCapacity 57 = .ok (.goto (-34), 3) := dk_167 255 222 (dk_at dksX9_setCapacity_2 9 rfl rfl)
theorem dX9_setCapacity_60 : decode cX9_setCapacity 60 = .ok (.aload_n 0, 1) := dk_42 (dk_at dksX9_setCapacity_2 12 rfl rfl)
theorem dX9_setCapacity_61 : decode cX9_setCapacity 61 = .ok (.invokevirtual 125, 3) := dk_182 0 125 (dk_at dksX9_setCapacity_2 13 rfl rfl)
theorem dX9_setCapacity_64 : decode cX9_setCapacity 64 = .ok (.aload_n 0, 1) := dk_42 (dk_at dksX9_setCapacity_2 16 rfl rfl)
theorem dX9_setCapacity_65 : decode cX9_setCapacity 65 = .ok (.getfield 7, 3) := dk_180 0 7 (dk_at dksX9_setCapacity_2 17 rfl rfl)
theorem dX9_setCapacity_68 : decode cX9_setCapacity 68 = .ok (.sipush 166, 3) := dk_17 0 166 (dk_at dksX9_setCapacity_2 20 rfl rfl)
theorem dX9_setCapacity_71 : decode cX9_setCapacity 71 = .ok (.iaload, 1) := dk_46 (dk_at dksX9_setCapacity_2 23 rfl rfl)
theorem dX9_setCapacity_72 : decode cX9_setCapacity 72 = .ok (.istore_n 2, 1) := dk_61 (dk_at dksX9_setCapacity_3 0 rfl rfl)
theorem dX9_setCapacity_73 : decode cX9_setCapacity 73 = .ok (.aload_n 0, 1) := dk_42 (dk_at dksX9_setCapacity_3 1 rfl rfl)
theorem dX9_setCapacity_74 : decode cX9_setCapacity 74 = .ok (.getfield 7, 3) := dk_180 0 7 (dk_at dksX9_setCapacity_3 2 rfl rfl)
theorem dX9_setCapacity_77 : decode cX9_setCapacity 77 = .ok (.sipush 166, 3) := dk_17 0 166 (dk_at dksX9_setCapacity_3 5 rfl rfl)
theorem dX9_setCapacity_80 : decode cX9_setCapacity 80 = .ok (.iload_n 1, 1) := dk_27 (dk_at dksX9_setCapacity_3 8 rfl rfl)
theorem dX9_setCapacity_81 : decode cX9_setCapacity 81 = .ok (.iastore, 1) := dk_79 (dk_at dksX9_setCapacity_3 9 rfl rfl)
theorem dX9_setCapacity_82 : decode cX9_setCapacity 82 = .ok (.iload_n 2, 1) := dk_28 (dk_at dksX9_setCapacity_3 10 rfl rfl)
theorem dX9_setCapacity_83 : decode cX9_setCapacity 83 = .ok (.ireturn, 1) := dk_172 (dk_at dksX9_setCapacity_3 11 rfl rfl)
abbrev cX9_addParcel : ByteArray := prog_17_method_43_code
def yX9_addParcel : MethodName := ⟨RX9, "addParcel", "(IIII)I"⟩
def dkwX9_addParcel_6 : List UInt8 := [8, 2, 182, 0, 103, 42, 182, 0, 137, 21, 5, 172]
abbrev dktX9_addParcel_6 : List UInt8 := dkwX9_addParcel_6 ++ []
def dkwX9_addParcel_5 : List UInt8 := [29, 182, 0, 103, 42, 21, 5, 6, 21, 4, 182, 0, 103, 42, 21, 5, 7, 3, 182, 0, 103, 42, 21, 5]
abbrev dktX9_addParcel_5 : List UInt8 := dkwX9_addParcel_5 ++ dktX9_addParcel_6
def dkwX9_addParcel_4 : List UInt8 := [46, 4, 96, 79, 42, 21, 5, 3, 27, 182, 0, 103, 42, 21, 5, 4, 28, 182, 0, 103, 42, 21, 5, 5]
abbrev dktX9_addParcel_4 : List UInt8 := dkwX9_addParcel_4 ++ dktX9_addParcel_5
def dkwX9_addParcel_3 : List UInt8 := [182, 0, 122, 172, 42, 182, 0, 125, 42, 180, 0, 7, 16, 117, 46, 54, 5, 42, 180, 0, 7, 16, 117, 92]
abbrev dktX9_addParcel_3 : List UInt8 := dkwX9_addParcel_3 ++ dktX9_addParcel_4
def dkwX9_addParcel_2 : List UInt8 := [154, 0, 9, 42, 5, 182, 0, 122, 172, 42, 180, 0, 7, 16, 117, 46, 16, 8, 160, 0, 9, 42, 6]
abbrev dktX9_addParcel_2 : List UInt8 := dkwX9_addParcel_2 ++ dktX9_addParcel_3
def dkwX9_addParcel_1 : List UInt8 := [172, 27, 28, 159, 0, 23, 29, 4, 8, 184, 0, 42, 153, 0, 14, 21, 4, 4, 16, 9, 184, 0, 42]
abbrev dktX9_addParcel_1 : List UInt8 := dkwX9_addParcel_1 ++ dktX9_addParcel_2
def dkwX9_addParcel_0 : List UInt8 := [42, 3, 181, 0, 38, 27, 184, 0, 119, 153, 0, 10, 28, 184, 0, 119, 154, 0, 9, 42, 4, 182, 0, 122]
abbrev dktX9_addParcel_0 : List UInt8 := dkwX9_addParcel_0 ++ dktX9_addParcel_1
theorem dksX9_addParcel_0 : cX9_addParcel.data.toList.drop 0 = dktX9_addParcel_0 := by decide +kernel
theorem dksX9_addParcel_1 : cX9_addParcel.data.toList.drop 24 = dktX9_addParcel_1 := dk_seg dksX9_addParcel_0 24 rfl rfl
theorem dksX9_addParcel_2 : cX9_addParcel.data.toList.drop 47 = dktX9_addParcel_2 := dk_seg dksX9_addParcel_1 23 rfl rfl
theorem dksX9_addParcel_3 : cX9_addParcel.data.toList.drop 70 = dktX9_addParcel_3 := dk_seg dksX9_addParcel_2 23 rfl rfl
theorem dksX9_addParcel_4 : cX9_addParcel.data.toList.drop 94 = dktX9_addParcel_4 := dk_seg dksX9_addParcel_3 24 rfl rfl
theorem dksX9_addParcel_5 : cX9_addParcel.data.toList.drop 118 = dktX9_addParcel_5 := dk_seg dksX9_addParcel_4 24 rfl rfl
theorem dksX9_addParcel_6 : cX9_addParcel.data.toList.drop 142 = dktX9_addParcel_6 := dk_seg dksX9_addParcel_5 24 rfl rfl
theorem dX9_addParcel_0 : decode cX9_addParcel 0 = .ok (.aload_n 0, 1) := dk_42 (dk_at dksX9_addParcel_0 0 rfl rfl)
theorem dX9_addParcel_1 : decode cX9_addParcel 1 = .ok (.iconst 0, 1) := dk_3 (dk_at dksX9_addParcel_0 1 rfl rfl)
theorem dX9_addParcel_2 : decode cX9_addParcel 2 = .ok (.putfield 38, 3) := dk_181 0 38 (dk_at dksX9_addParcel_0 2 rfl rfl)
theorem dX9_addParcel_5 : decode cX9_addParcel 5 = .ok (.iload_n 1, 1) := dk_27 (dk_at dksX9_addParcel_0 5 rfl rfl)
theorem dX9_addParcel_6 : decode cX9_addParcel 6 = .ok (.invokestatic 119, 3) := dk_184 0 119 (dk_at dksX9_addParcel_0 6 rfl rfl)
theorem dX9_addParcel_9 : decode cX9_addParcel 9 = .ok (.ifCond .eq 10, 3) := dk_153 0 10 (dk_at dksX9_addParcel_0 9 rfl rfl)
theorem dX9_addParcel_12 : decode cX9_addParcel 12 = .ok (.iload_n 2, 1) := dk_28 (dk_at dksX9_addParcel_0 12 rfl rfl)
theorem dX9_addParcel_13 : decode cX9_addParcel 13 = .ok (.invokestatic 119, 3) := dk_184 0 119 (dk_at dksX9_addParcel_0 13 rfl rfl)
theorem dX9_addParcel_16 : decode cX9_addParcel 16 = .ok (.ifCond .ne 9, 3) := dk_154 0 9 (dk_at dksX9_addParcel_0 16 rfl rfl)
theorem dX9_addParcel_19 : decode cX9_addParcel 19 = .ok (.aload_n 0, 1) := dk_42 (dk_at dksX9_addParcel_0 19 rfl rfl)
theorem dX9_addParcel_20 : decode cX9_addParcel 20 = .ok (.iconst 1, 1) := dk_4 (dk_at dksX9_addParcel_0 20 rfl rfl)
theorem dX9_addParcel_21 : decode cX9_addParcel 21 = .ok (.invokevirtual 122, 3) := dk_182 0 122 (dk_at dksX9_addParcel_0 21 rfl rfl)
theorem dX9_addParcel_24 : decode cX9_addParcel 24 = .ok (.ireturn, 1) := dk_172 (dk_at dksX9_addParcel_1 0 rfl rfl)
theorem dX9_addParcel_25 : decode cX9_addParcel 25 = .ok (.iload_n 1, 1) := dk_27 (dk_at dksX9_addParcel_1 1 rfl rfl)
theorem dX9_addParcel_26 : decode cX9_addParcel 26 = .ok (.iload_n 2, 1) := dk_28 (dk_at dksX9_addParcel_1 2 rfl rfl)
theorem dX9_addParcel_27 : decode cX9_addParcel 27 = .ok (.if_icmp .eq 23, 3) := dk_159 0 23 (dk_at dksX9_addParcel_1 3 rfl rfl)
theorem dX9_addParcel_30 : decode cX9_addParcel 30 = .ok (.iload_n 3, 1) := dk_29 (dk_at dksX9_addParcel_1 6 rfl rfl)
theorem dX9_addParcel_31 : decode cX9_addParcel 31 = .ok (.iconst 1, 1) := dk_4 (dk_at dksX9_addParcel_1 7 rfl rfl)
theorem dX9_addParcel_32 : decode cX9_addParcel 32 = .ok (.iconst 5, 1) := dk_8 (dk_at dksX9_addParcel_1 8 rfl rfl)
theorem dX9_addParcel_33 : decode cX9_addParcel 33 = .ok (.invokestatic 42, 3) := dk_184 0 42 (dk_at dksX9_addParcel_1 9 rfl rfl)
theorem dX9_addParcel_36 : decode cX9_addParcel 36 = .ok (.ifCond .eq 14, 3) := dk_153 0 14 (dk_at dksX9_addParcel_1 12 rfl rfl)
theorem dX9_addParcel_39 : decode cX9_addParcel 39 = .ok (.iload 4, 2) := dk_21 4 (dk_at dksX9_addParcel_1 15 rfl rfl)
theorem dX9_addParcel_41 : decode cX9_addParcel 41 = .ok (.iconst 1, 1) := dk_4 (dk_at dksX9_addParcel_1 17 rfl rfl)
theorem dX9_addParcel_42 : decode cX9_addParcel 42 = .ok (.bipush 9, 2) := dk_16 9 (dk_at dksX9_addParcel_1 18 rfl rfl)
theorem dX9_addParcel_44 : decode cX9_addParcel 44 = .ok (.invokestatic 42, 3) := dk_184 0 42 (dk_at dksX9_addParcel_1 20 rfl rfl)
theorem dX9_addParcel_47 : decode cX9_addParcel 47 = .ok (.ifCond .ne 9, 3) := dk_154 0 9 (dk_at dksX9_addParcel_2 0 rfl rfl)
theorem dX9_addParcel_50 : decode cX9_addParcel 50 = .ok (.aload_n 0, 1) := dk_42 (dk_at dksX9_addParcel_2 3 rfl rfl)
theorem dX9_addParcel_51 : decode cX9_addParcel 51 = .ok (.iconst 2, 1) := dk_5 (dk_at dksX9_addParcel_2 4 rfl rfl)
theorem dX9_addParcel_52 : decode cX9_addParcel 52 = .ok (.invokevirtual 122, 3) := dk_182 0 122 (dk_at dksX9_addParcel_2 5 rfl rfl)
theorem dX9_addParcel_55 : decode cX9_addParcel 55 = .ok (.ireturn, 1) := dk_172 (dk_at dksX9_addParcel_2 8 rfl rfl)
theorem dX9_addParcel_56 : decode cX9_addParcel 56 = .ok (.aload_n 0, 1) := dk_42 (dk_at dksX9_addParcel_2 9 rfl rfl)
theorem dX9_addParcel_57 : decode cX9_addParcel 57 = .ok (.getfield 7, 3) := dk_180 0 7 (dk_at dksX9_addParcel_2 10 rfl rfl)
theorem dX9_addParcel_60 : decode cX9_addParcel 60 = .ok (.bipush 117, 2) := dk_16 117 (dk_at dksX9_addParcel_2 13 rfl rfl)
theorem dX9_addParcel_62 : decode cX9_addParcel 62 = .ok (.iaload, 1) := dk_46 (dk_at dksX9_addParcel_2 15 rfl rfl)
theorem dX9_addParcel_63 : decode cX9_addParcel 63 = .ok (.bipush 8, 2) := dk_16 8 (dk_at dksX9_addParcel_2 16 rfl rfl)
theorem dX9_addParcel_65 : decode cX9_addParcel 65 = .ok (.if_icmp .ne 9, 3) := dk_160 0 9 (dk_at dksX9_addParcel_2 18 rfl rfl)
theorem dX9_addParcel_68 : decode cX9_addParcel 68 = .ok (.aload_n 0, 1) := dk_42 (dk_at dksX9_addParcel_2 21 rfl rfl)
theorem dX9_addParcel_69 : decode cX9_addParcel 69 = .ok (.iconst 3, 1) := dk_6 (dk_at dksX9_addParcel_2 22 rfl rfl)
theorem dX9_addParcel_70 : decode cX9_addParcel 70 = .ok (.invokevirtual 122, 3) := dk_182 0 122 (dk_at dksX9_addParcel_3 0 rfl rfl)
theorem dX9_addParcel_73 : decode cX9_addParcel 73 = .ok (.ireturn, 1) := dk_172 (dk_at dksX9_addParcel_3 3 rfl rfl)
theorem dX9_addParcel_74 : decode cX9_addParcel 74 = .ok (.aload_n 0, 1) := dk_42 (dk_at dksX9_addParcel_3 4 rfl rfl)
theorem dX9_addParcel_75 : decode cX9_addParcel 75 = .ok (.invokevirtual 125, 3) := dk_182 0 125 (dk_at dksX9_addParcel_3 5 rfl rfl)
theorem dX9_addParcel_78 : decode cX9_addParcel 78 = .ok (.aload_n 0, 1) := dk_42 (dk_at dksX9_addParcel_3 8 rfl rfl)
theorem dX9_addParcel_79 : decode cX9_addParcel 79 = .ok (.getfield 7, 3) := dk_180 0 7 (dk_at dksX9_addParcel_3 9 rfl rfl)
theorem dX9_addParcel_82 : decode cX9_addParcel 82 = .ok (.bipush 117, 2) := dk_16 117 (dk_at dksX9_addParcel_3 12 rfl rfl)
theorem dX9_addParcel_84 : decode cX9_addParcel 84 = .ok (.iaload, 1) := dk_46 (dk_at dksX9_addParcel_3 14 rfl rfl)
theorem dX9_addParcel_85 : decode cX9_addParcel 85 = .ok (.istore 5, 2) := dk_54 5 (dk_at dksX9_addParcel_3 15 rfl rfl)
theorem dX9_addParcel_87 : decode cX9_addParcel 87 = .ok (.aload_n 0, 1) := dk_42 (dk_at dksX9_addParcel_3 17 rfl rfl)
theorem dX9_addParcel_88 : decode cX9_addParcel 88 = .ok (.getfield 7, 3) := dk_180 0 7 (dk_at dksX9_addParcel_3 18 rfl rfl)
theorem dX9_addParcel_91 : decode cX9_addParcel 91 = .ok (.bipush 117, 2) := dk_16 117 (dk_at dksX9_addParcel_3 21 rfl rfl)
theorem dX9_addParcel_93 : decode cX9_addParcel 93 = .ok (.dup2, 1) := dk_92 (dk_at dksX9_addParcel_3 23 rfl rfl)
theorem dX9_addParcel_94 : decode cX9_addParcel 94 = .ok (.iaload, 1) := dk_46 (dk_at dksX9_addParcel_4 0 rfl rfl)
theorem dX9_addParcel_95 : decode cX9_addParcel 95 = .ok (.iconst 1, 1) := dk_4 (dk_at dksX9_addParcel_4 1 rfl rfl)
theorem dX9_addParcel_96 : decode cX9_addParcel 96 = .ok (.iadd, 1) := dk_96 (dk_at dksX9_addParcel_4 2 rfl rfl)
theorem dX9_addParcel_97 : decode cX9_addParcel 97 = .ok (.iastore, 1) := dk_79 (dk_at dksX9_addParcel_4 3 rfl rfl)
theorem dX9_addParcel_98 : decode cX9_addParcel 98 = .ok (.aload_n 0, 1) := dk_42 (dk_at dksX9_addParcel_4 4 rfl rfl)
theorem dX9_addParcel_99 : decode cX9_addParcel 99 = .ok (.iload 5, 2) := dk_21 5 (dk_at dksX9_addParcel_4 5 rfl rfl)
theorem dX9_addParcel_101 : decode cX9_addParcel 101 = .ok (.iconst 0, 1) := dk_3 (dk_at dksX9_addParcel_4 7 rfl rfl)
theorem dX9_addParcel_102 : decode cX9_addParcel 102 = .ok (.iload_n 1, 1) := dk_27 (dk_at dksX9_addParcel_4 8 rfl rfl)
theorem dX9_addParcel_103 : decode cX9_addParcel 103 = .ok (.invokevirtual 103, 3) := dk_182 0 103 (dk_at dksX9_addParcel_4 9 rfl rfl)
theorem dX9_addParcel_106 : decode cX9_addParcel 106 = .ok (.aload_n 0, 1) := dk_42 (dk_at dksX9_addParcel_4 12 rfl rfl)
theorem dX9_addParcel_107 : decode cX9_addParcel 107 = .ok (.iload 5, 2) := dk_21 5 (dk_at dksX9_addParcel_4 13 rfl rfl)
theorem dX9_addParcel_109 : decode cX9_addParcel 109 = .ok (.iconst 1, 1) := dk_4 (dk_at dksX9_addParcel_4 15 rfl rfl)
theorem dX9_addParcel_110 : decode cX9_addParcel 110 = .ok (.iload_n 2, 1) := dk_28 (dk_at dksX9_addParcel_4 16 rfl rfl)
theorem dX9_addParcel_111 : decode cX9_addParcel 111 = .ok (.invokevirtual 103, 3) := dk_182 0 103 (dk_at dksX9_addParcel_4 17 rfl rfl)
theorem dX9_addParcel_114 : decode cX9_addParcel 114 = .ok (.aload_n 0, 1) := dk_42 (dk_at dksX9_addParcel_4 20 rfl rfl)
theorem dX9_addParcel_115 : decode cX9_addParcel 115 = .ok (.iload 5, 2) := dk_21 5 (dk_at dksX9_addParcel_4 21 rfl rfl)
theorem dX9_addParcel_117 : decode cX9_addParcel 117 = .ok (.iconst 2, 1) := dk_5 (dk_at dksX9_addParcel_4 23 rfl rfl)
theorem dX9_addParcel_118 : decode cX9_addParcel 118 = .ok (.iload_n 3, 1) := dk_29 (dk_at dksX9_addParcel_5 0 rfl rfl)
theorem dX9_addParcel_119 : decode cX9_addParcel 119 = .ok (.invokevirtual 103, 3) := dk_182 0 103 (dk_at dksX9_addParcel_5 1 rfl rfl)
theorem dX9_addParcel_122 : decode cX9_addParcel 122 = .ok (.aload_n 0, 1) := dk_42 (dk_at dksX9_addParcel_5 4 rfl rfl)
theorem dX9_addParcel_123 : decode cX9_addParcel 123 = .ok (.iload 5, 2) := dk_21 5 (dk_at dksX9_addParcel_5 5 rfl rfl)
theorem dX9_addParcel_125 : decode cX9_addParcel 125 = .ok (.iconst 3, 1) := dk_6 (dk_at dksX9_addParcel_5 7 rfl rfl)
theorem dX9_addParcel_126 : decode cX9_addParcel 126 = .ok (.iload 4, 2) := dk_21 4 (dk_at dksX9_addParcel_5 8 rfl rfl)
theorem dX9_addParcel_128 : decode cX9_addParcel 128 = .ok (.invokevirtual 103, 3) := dk_182 0 103 (dk_at dksX9_addParcel_5 10 rfl rfl)
theorem dX9_addParcel_131 : decode cX9_addParcel 131 = .ok (.aload_n 0, 1) := dk_42 (dk_at dksX9_addParcel_5 13 rfl rfl)
theorem dX9_addParcel_132 : decode cX9_addParcel 132 = .ok (.iload 5, 2) := dk_21 5 (dk_at dksX9_addParcel_5 14 rfl rfl)
theorem dX9_addParcel_134 : decode cX9_addParcel 134 = .ok (.iconst 4, 1) := dk_7 (dk_at dksX9_addParcel_5 16 rfl rfl)
theorem dX9_addParcel_135 : decode cX9_addParcel 135 = .ok (.iconst 0, 1) := dk_3 (dk_at dksX9_addParcel_5 17 rfl rfl)
theorem dX9_addParcel_136 : decode cX9_addParcel 136 = .ok (.invokevirtual 103, 3) := dk_182 0 103 (dk_at dksX9_addParcel_5 18 rfl rfl)
theorem dX9_addParcel_139 : decode cX9_addParcel 139 = .ok (.aload_n 0, 1) := dk_42 (dk_at dksX9_addParcel_5 21 rfl rfl)
theorem dX9_addParcel_140 : decode cX9_addParcel 140 = .ok (.iload 5, 2) := dk_21 5 (dk_at dksX9_addParcel_5 22 rfl rfl)
theorem dX9_addParcel_142 : decode cX9_addParcel 142 = .ok (.iconst 5, 1) := dk_8 (dk_at dksX9_addParcel_6 0 rfl rfl)
theorem dX9_addParcel_143 : decode cX9_addParcel 143 = .ok (.iconst (-1), 1) := dk_2 (dk_at dksX9_addParcel_6 1 rfl rfl)
theorem dX9_addParcel_144 : decode cX9_addParcel 144 = .ok (.invokevirtual 103, 3) := dk_182 0 103 (dk_at dksX9_addParcel_6 2 rfl rfl)
theorem dX9_addParcel_147 : decode cX9_addParcel 147 = .ok (.aload_n 0, 1) := dk_42 (dk_at dksX9_addParcel_6 5 rfl rfl)
theorem dX9_addParcel_148 : decode cX9_addParcel 148 = .ok (.invokevirtual 137, 3) := dk_182 0 137 (dk_at dksX9_addParcel_6 6 rfl rfl)
theorem dX9_addParcel_151 : decode cX9_addParcel 151 = .ok (.iload 5, 2) := dk_21 5 (dk_at dksX9_addParcel_6 9 rfl rfl)
theorem dX9_addParcel_153 : decode cX9_addParcel 153 = .ok (.ireturn, 1) := dk_172 (dk_at dksX9_addParcel_6 11 rfl rfl)
abbrev cX9_put : ByteArray := prog_17_method_13_code
def yX9_put : MethodName := ⟨RX9, "put", "(III)V"⟩
def dkwX9_put_0 : List UInt8 := [42, 180, 0, 7, 16, 118, 16, 6, 27, 104, 96, 28, 96, 29, 79, 177]
abbrev dktX9_put_0 : List UInt8 := dkwX9_put_0 ++ []
theorem dksX9_put_0 : cX9_put.data.toList.drop 0 = dktX9_put_0 := by decide +kernel
theorem dX9_put_0 : decode cX9_put 0 = .ok (.aload_n 0, 1) := dk_42 (dk_at dksX9_put_0 0 rfl rfl)
theorem dX9_put_1 : decode cX9_put 1 = .ok (.getfield 7, 3) := dk_180 0 7 (dk_at dksX9_put_0 1 rfl rfl)
theorem dX9_put_4 : decode cX9_put 4 = .ok (.bipush 118, 2) := dk_16 118 (dk_at dksX9_put_0 4 rfl rfl)
theorem dX9_put_6 : decode cX9_put 6 = .ok (.bipush 6, 2) := dk_16 6 (dk_at dksX9_put_0 6 rfl rfl)
theorem dX9_put_8 : decode cX9_put 8 = .ok (.iload_n 1, 1) := dk_27 (dk_at dksX9_put_0 8 rfl rfl)
theorem dX9_put_9 : decode cX9_put 9 = .ok (.imul, 1) := dk_104 (dk_at dksX9_put_0 9 rfl rfl)
theorem dX9_put_10 : decode cX9_put 10 = .ok (.iadd, 1) := dk_96 (dk_at dksX9_put_0 10 rfl rfl)
theorem dX9_put_11 : decode cX9_put 11 = .ok (.iload_n 2, 1) := dk_28 (dk_at dksX9_put_0 11 rfl rfl)
theorem dX9_put_12 : decode cX9_put 12 = .ok (.iadd, 1) := dk_96 (dk_at dksX9_put_0 12 rfl rfl)
theorem dX9_put_13 : decode cX9_put 13 = .ok (.iload_n 3, 1) := dk_29 (dk_at dksX9_put_0 13 rfl rfl)
theorem dX9_put_14 : decode cX9_put 14 = .ok (.iastore, 1) := dk_79 (dk_at dksX9_put_0 14 rfl rfl)
theorem dX9_put_15 : decode cX9_put 15 = .ok (.return_, 1) := dk_177 (dk_at dksX9_put_0 15 rfl rfl)
abbrev cX9_setLimit : ByteArray := prog_17_method_44_code
def yX9_setLimit : MethodName := ⟨RX9, "setLimit", "(I)I"⟩
def dkwX9_setLimit_1 : List UInt8 := [182, 0, 125, 42, 180, 0, 7, 17, 0, 167, 46, 61, 42, 180, 0, 7, 17, 0, 167, 27, 79, 28, 172]
abbrev dktX9_setLimit_1 : List UInt8 := dkwX9_setLimit_1 ++ []
def dkwX9_setLimit_0 : List UInt8 := [42, 3, 181, 0, 38, 27, 4, 16, 60, 184, 0, 42, 154, 0, 9, 42, 4, 182, 0, 122, 172, 42]
abbrev dktX9_setLimit_0 : List UInt8 := dkwX9_setLimit_0 ++ dktX9_setLimit_1
theorem dksX9_setLimit_0 : cX9_setLimit.data.toList.drop 0 = dktX9_setLimit_0 := by decide +kernel
theorem dksX9_setLimit_1 : cX9_setLimit.data.toList.drop 22 = dktX9_setLimit_1 := dk_seg dksX9_setLimit_0 22 rfl rfl
theorem dX9_setLimit_0 : decode cX9_setLimit 0 = .ok (.aload_n 0, 1) := dk_42 (dk_at dksX9_setLimit_0 0 rfl rfl)
theorem dX9_setLimit_1 : decode cX9_setLimit 1 = .ok (.iconst 0, 1) := dk_3 (dk_at dksX9_setLimit_0 1 rfl rfl)
theorem dX9_setLimit_2 : decode cX9_setLimit 2 = .ok (.putfield 38, 3) := dk_181 0 38 (dk_at dksX9_setLimit_0 2 rfl rfl)
theorem dX9_setLimit_5 : decode cX9_setLimit 5 = .ok (.iload_n 1, 1) := dk_27 (dk_at dksX9_setLimit_0 5 rfl rfl)
theorem dX9_setLimit_6 : decode cX9_setLimit 6 = .ok (.iconst 1, 1) := dk_4 (dk_at dksX9_setLimit_0 6 rfl rfl)
theorem dX9_setLimit_7 : decode cX9_setLimit 7 = .ok (.bipush 60, 2) := dk_16 60 (dk_at dksX9_setLimit_0 7 rfl rfl)
theorem dX9_setLimit_9 : decode cX9_setLimit 9 = .ok (.invokestatic 42, 3) := dk_184 0 42 (dk_at dksX9_setLimit_0 9 rfl rfl)
theorem dX9_setLimit_12 : decode cX9_setLimit 12 = .ok (.ifCond .ne 9, 3) := dk_154 0 9 (dk_at dksX9_setLimit_0 12 rfl rfl)
theorem dX9_setLimit_15 : decode cX9_setLimit 15 = .ok (.aload_n 0, 1) := dk_42 (dk_at dksX9_setLimit_0 15 rfl rfl)
theorem dX9_setLimit_16 : decode cX9_setLimit 16 = .ok (.iconst 1, 1) := dk_4 (dk_at dksX9_setLimit_0 16 rfl rfl)
theorem dX9_setLimit_17 : decode cX9_setLimit 17 = .ok (.invokevirtual 122, 3) := dk_182 0 122 (dk_at dksX9_setLimit_0 17 rfl rfl)
theorem dX9_setLimit_20 : decode cX9_setLimit 20 = .ok (.ireturn, 1) := dk_172 (dk_at dksX9_setLimit_0 20 rfl rfl)
theorem dX9_setLimit_21 : decode cX9_setLimit 21 = .ok (.aload_n 0, 1) := dk_42 (dk_at dksX9_setLimit_0 21 rfl rfl)
theorem dX9_setLimit_22 : decode cX9_setLimit 22 = .ok (.invokevirtual 125, 3) := dk_182 0 125 (dk_at dksX9_setLimit_1 0 rfl rfl)
theorem dX9_setLimit_25 : decode cX9_setLimit 25 = .ok (.aload_n 0, 1) := dk_42 (dk_at dksX9_setLimit_1 3 rfl rfl)
theorem dX9_setLimit_26 : decode cX9_setLimit 26 = .ok (.getfield 7, 3) := dk_180 0 7 (dk_at dksX9_setLimit_1 4 rfl rfl)
theorem dX9_setLimit_29 : decode cX9_setLimit 29 = .ok (.sipush 167, 3) := dk_17 0 167 (dk_at dksX9_setLimit_1 7 rfl rfl)
theorem dX9_setLimit_32 : decode cX9_setLimit 32 = .ok (.iaload, 1) := dk_46 (dk_at dksX9_setLimit_1 10 rfl rfl)
theorem dX9_setLimit_33 : decode cX9_setLimit 33 = .ok (.istore_n 2, 1) := dk_61 (dk_at dksX9_setLimit_1 11 rfl rfl)
theorem dX9_setLimit_34 : decode cX9_setLimit 34 = .ok (.aload_n 0, 1) := dk_42 (dk_at dksX9_setLimit_1 12 rfl rfl)
theorem dX9_setLimit_35 : decode cX9_setLimit 35 = .ok (.getfield 7, 3) := dk_180 0 7 (dk_at dksX9_setLimit_1 13 rfl rfl)
theorem dX9_setLimit_38 : decode cX9_setLimit 38 = .ok (.sipush 167, 3) := dk_17 0 167 (dk_at dksX9_setLimit_1 16 rfl rfl)
theorem dX9_setLimit_41 : decode cX9_setLimit 41 = .ok (.iload_n 1, 1) := dk_27 (dk_at dksX9_setLimit_1 19 rfl rfl)
theorem dX9_setLimit_42 : decode cX9_setLimit 42 = .ok (.iastore, 1) := dk_79 (dk_at dksX9_setLimit_1 20 rfl rfl)
theorem dX9_setLimit_43 : decode cX9_setLimit 43 = .ok (.iload_n 2, 1) := dk_28 (dk_at dksX9_setLimit_1 21 rfl rfl)
theorem dX9_setLimit_44 : decode cX9_setLimit 44 = .ok (.ireturn, 1) := dk_172 (dk_at dksX9_setLimit_1 22 rfl rfl)
abbrev cX9_order : ByteArray := prog_17_method_45_code
def yX9_order : MethodName := ⟨RX9, "order", "(II)I"⟩
def dkwX9_order_2 : List UInt8 := [27, 5, 28, 182, 0, 31, 42, 28, 182, 0, 91, 172]
abbrev dktX9_order_2 : List UInt8 := dkwX9_order_2 ++ []
def dkwX9_order_1 : List UInt8 := [182, 0, 122, 172, 42, 27, 28, 182, 0, 140, 153, 0, 9, 42, 5, 182, 0, 122, 172, 42, 182, 0, 125, 42]
abbrev dktX9_order_1 : List UInt8 := dkwX9_order_1 ++ dktX9_order_2
def dkwX9_order_0 : List UInt8 := [42, 3, 181, 0, 38, 27, 184, 0, 134, 153, 0, 11, 42, 28, 182, 0, 128, 154, 0, 9, 42, 4]
abbrev dktX9_order_0 : List UInt8 := dkwX9_order_0 ++ dktX9_order_1
theorem dksX9_order_0 : cX9_order.data.toList.drop 0 = dktX9_order_0 := by decide +kernel
theorem dksX9_order_1 : cX9_order.data.toList.drop 22 = dktX9_order_1 := dk_seg dksX9_order_0 22 rfl rfl
theorem dksX9_order_2 : cX9_order.data.toList.drop 46 = dktX9_order_2 := dk_seg dksX9_order_1 24 rfl rfl
theorem dX9_order_0 : decode cX9_order 0 = .ok (.aload_n 0, 1) := dk_42 (dk_at dksX9_order_0 0 rfl rfl)
theorem dX9_order_1 : decode cX9_order 1 = .ok (.iconst 0, 1) := dk_3 (dk_at dksX9_order_0 1 rfl rfl)
theorem dX9_order_2 : decode cX9_order 2 = .ok (.putfield 38, 3) := dk_181 0 38 (dk_at dksX9_order_0 2 rfl rfl)
theorem dX9_order_5 : decode cX9_order 5 = .ok (.iload_n 1, 1) := dk_27 (dk_at dksX9_order_0 5 rfl rfl)
theorem dX9_order_6 : decode cX9_order 6 = .ok (.invokestatic 134, 3) := dk_184 0 134 (dk_at dksX9_order_0 6 rfl rfl)
theorem dX9_order_9 : decode cX9_order 9 = .ok (.ifCond .eq 11, 3) := dk_153 0 11 (dk_at dksX9_order_0 9 rfl rfl)
theorem dX9_order_12 : decode cX9_order 12 = .ok (.aload_n 0, 1) := dk_42 (dk_at dksX9_order_0 12 rfl rfl)
theorem dX9_order_13 : decode cX9_order 13 = .ok (.iload_n 2, 1) := dk_28 (dk_at dksX9_order_0 13 rfl rfl)
theorem dX9_order_14 : decode cX9_order 14 = .ok (.invokevirtual 128, 3) := dk_182 0 128 (dk_at dksX9_order_0 14 rfl rfl)
theorem dX9_order_17 : decode cX9_order 17 = .ok (.ifCond .ne 9, 3) := dk_154 0 9 (dk_at dksX9_order_0 17 rfl rfl)
theorem dX9_order_20 : decode cX9_order 20 = .ok (.aload_n 0, 1) := dk_42 (dk_at dksX9_order_0 20 rfl rfl)
theorem dX9_order_21 : decode cX9_order 21 = .ok (.iconst 1, 1) := dk_4 (dk_at dksX9_order_0 21 rfl rfl)
theorem dX9_order_22 : decode cX9_order 22 = .ok (.invokevirtual 122, 3) := dk_182 0 122 (dk_at dksX9_order_1 0 rfl rfl)
theorem dX9_order_25 : decode cX9_order 25 = .ok (.ireturn, 1) := dk_172 (dk_at dksX9_order_1 3 rfl rfl)
theorem dX9_order_26 : decode cX9_order 26 = .ok (.aload_n 0, 1) := dk_42 (dk_at dksX9_order_1 4 rfl rfl)
theorem dX9_order_27 : decode cX9_order 27 = .ok (.iload_n 1, 1) := dk_27 (dk_at dksX9_order_1 5 rfl rfl)
theorem dX9_order_28 : decode cX9_order 28 = .ok (.iload_n 2, 1) := dk_28 (dk_at dksX9_order_1 6 rfl rfl)
theorem dX9_order_29 : decode cX9_order 29 = .ok (.invokevirtual 140, 3) := dk_182 0 140 (dk_at dksX9_order_1 7 rfl rfl)
theorem dX9_order_32 : decode cX9_order 32 = .ok (.ifCond .eq 9, 3) := dk_153 0 9 (dk_at dksX9_order_1 10 rfl rfl)
theorem dX9_order_35 : decode cX9_order 35 = .ok (.aload_n 0, 1) := dk_42 (dk_at dksX9_order_1 13 rfl rfl)
theorem dX9_order_36 : decode cX9_order 36 = .ok (.iconst 2, 1) := dk_5 (dk_at dksX9_order_1 14 rfl rfl)
theorem dX9_order_37 : decode cX9_order 37 = .ok (.invokevirtual 122, 3) := dk_182 0 122 (dk_at dksX9_order_1 15 rfl rfl)
theorem dX9_order_40 : decode cX9_order 40 = .ok (.ireturn, 1) := dk_172 (dk_at dksX9_order_1 18 rfl rfl)
theorem dX9_order_41 : decode cX9_order 41 = .ok (.aload_n 0, 1) := dk_42 (dk_at dksX9_order_1 19 rfl rfl)
theorem dX9_order_42 : decode cX9_order 42 = .ok (.invokevirtual 125, 3) := dk_182 0 125 (dk_at dksX9_order_1 20 rfl rfl)
theorem dX9_order_45 : decode cX9_order 45 = .ok (.aload_n 0, 1) := dk_42 (dk_at dksX9_order_1 23 rfl rfl)
theorem dX9_order_46 : decode cX9_order 46 = .ok (.iload_n 1, 1) := dk_27 (dk_at dksX9_order_2 0 rfl rfl)
theorem dX9_order_47 : decode cX9_order 47 = .ok (.iconst 2, 1) := dk_5 (dk_at dksX9_order_2 1 rfl rfl)
theorem dX9_order_48 : decode cX9_order 48 = .ok (.iload_n 2, 1) := dk_28 (dk_at dksX9_order_2 2 rfl rfl)
theorem dX9_order_49 : decode cX9_order 49 = .ok (.invokevirtual 31, 3) := dk_182 0 31 (dk_at dksX9_order_2 3 rfl rfl)
theorem dX9_order_52 : decode cX9_order 52 = .ok (.aload_n 0, 1) := dk_42 (dk_at dksX9_order_2 6 rfl rfl)
theorem dX9_order_53 : decode cX9_order 53 = .ok (.iload_n 2, 1) := dk_28 (dk_at dksX9_order_2 7 rfl rfl)
theorem dX9_order_54 : decode cX9_order 54 = .ok (.invokevirtual 91, 3) := dk_182 0 91 (dk_at dksX9_order_2 8 rfl rfl)
theorem dX9_order_57 : decode cX9_order 57 = .ok (.ireturn, 1) := dk_172 (dk_at dksX9_order_2 11 rfl rfl)
abbrev cX9_noOrder : ByteArray := prog_17_method_29_code
def yX9_noOrder : MethodName := ⟨RX9, "noOrder", "(II)I"⟩
def dkwX9_noOrder_2 : List UInt8 := [182, 0, 53, 4, 160, 0, 7, 7, 167, 0, 4, 3, 172]
abbrev dktX9_noOrder_2 : List UInt8 := dkwX9_noOrder_2 ++ []
def dkwX9_noOrder_1 : List UInt8 := [172, 42, 28, 182, 0, 80, 154, 0, 7, 6, 167, 0, 26, 42, 28, 182, 0, 84, 153, 0, 17, 42, 27, 4]
abbrev dktX9_noOrder_1 : List UInt8 := dkwX9_noOrder_1 ++ dktX9_noOrder_2
def dkwX9_noOrder_0 : List UInt8 := [42, 182, 0, 74, 153, 0, 5, 4, 172, 42, 28, 182, 0, 77, 42, 27, 3, 182, 0, 53, 159, 0, 5, 5]
abbrev dktX9_noOrder_0 : List UInt8 := dkwX9_noOrder_0 ++ dktX9_noOrder_1
theorem dksX9_noOrder_0 : cX9_noOrder.data.toList.drop 0 = dktX9_noOrder_0 := by decide +kernel
theorem dksX9_noOrder_1 : cX9_noOrder.data.toList.drop 24 = dktX9_noOrder_1 := dk_seg dksX9_noOrder_0 24 rfl rfl
theorem dksX9_noOrder_2 : cX9_noOrder.data.toList.drop 48 = dktX9_noOrder_2 := dk_seg dksX9_noOrder_1 24 rfl rfl
theorem dX9_noOrder_0 : decode cX9_noOrder 0 = .ok (.aload_n 0, 1) := dk_42 (dk_at dksX9_noOrder_0 0 rfl rfl)
theorem dX9_noOrder_1 : decode cX9_noOrder 1 = .ok (.invokevirtual 74, 3) := dk_182 0 74 (dk_at dksX9_noOrder_0 1 rfl rfl)
theorem dX9_noOrder_4 : decode cX9_noOrder 4 = .ok (.ifCond .eq 5, 3) := dk_153 0 5 (dk_at dksX9_noOrder_0 4 rfl rfl)
theorem dX9_noOrder_7 : decode cX9_noOrder 7 = .ok (.iconst 1, 1) := dk_4 (dk_at dksX9_noOrder_0 7 rfl rfl)
theorem dX9_noOrder_8 : decode cX9_noOrder 8 = .ok (.ireturn, 1) := dk_172 (dk_at dksX9_noOrder_0 8 rfl rfl)
theorem dX9_noOrder_9 : decode cX9_noOrder 9 = .ok (.aload_n 0, 1) := dk_42 (dk_at dksX9_noOrder_0 9 rfl rfl)
theorem dX9_noOrder_10 : decode cX9_noOrder 10 = .ok (.iload_n 2, 1) := dk_28 (dk_at dksX9_noOrder_0 10 rfl rfl)
theorem dX9_noOrder_11 : decode cX9_noOrder 11 = .ok (.invokevirtual 77, 3) := dk_182 0 77 (dk_at dksX9_noOrder_0 11 rfl rfl)
theorem dX9_noOrder_14 : decode cX9_noOrder 14 = .ok (.aload_n 0, 1) := dk_42 (dk_at dksX9_noOrder_0 14 rfl rfl)
theorem dX9_noOrder_15 : decode cX9_noOrder 15 = .ok (.iload_n 1, 1) := dk_27 (dk_at dksX9_noOrder_0 15 rfl rfl)
theorem dX9_noOrder_16 : decode cX9_noOrder 16 = .ok (.iconst 0, 1) := dk_3 (dk_at dksX9_noOrder_0 16 rfl rfl)
theorem dX9_noOrder_17 : decode cX9_noOrder 17 = .ok (.invokevirtual 53, 3) := dk_182 0 53 (dk_at dksX9_noOrder_0 17 rfl rfl)
theorem dX9_noOrder_20 : decode cX9_noOrder 20 = .ok (.if_icmp .eq 5, 3) := dk_159 0 5 (dk_at dksX9_noOrder_0 20 rfl rfl)
theorem dX9_noOrder_23 : decode cX9_noOrder 23 = .ok (.iconst 2, 1) := dk_5 (dk_at dksX9_noOrder_0 23 rfl rfl)
theorem dX9_noOrder_24 : decode cX9_noOrder 24 = .ok (.ireturn, 1) := dk_172 (dk_at dksX9_noOrder_1 0 rfl rfl)
theorem dX9_noOrder_25 : decode cX9_noOrder 25 = .ok (.aload_n 0, 1) := dk_42 (dk_at dksX9_noOrder_1 1 rfl rfl)
theorem dX9_noOrder_26 : decode cX9_noOrder 26 = .ok (.iload_n 2, 1) := dk_28 (dk_at dksX9_noOrder_1 2 rfl rfl)
theorem dX9_noOrder_27 : decode cX9_noOrder 27 = .ok (.invokevirtual 80, 3) := dk_182 0 80 (dk_at dksX9_noOrder_1 3 rfl rfl)
theorem dX9_noOrder_30 : decode cX9_noOrder 30 = .ok (.ifCond .ne 7, 3) := dk_154 0 7 (dk_at dksX9_noOrder_1 6 rfl rfl)
theorem dX9_noOrder_33 : decode cX9_noOrder 33 = .ok (.iconst 3, 1) := dk_6 (dk_at dksX9_noOrder_1 9 rfl rfl)
theorem dX9_noOrder_34 : decode cX9_noOrder 34 = .ok (.goto 26, 3) := dk_167 0 26 (dk_at dksX9_noOrder_1 10 rfl rfl)
theorem dX9_noOrder_37 : decode cX9_noOrder 37 = .ok (.aload_n 0, 1) := dk_42 (dk_at dksX9_noOrder_1 13 rfl rfl)
theorem dX9_noOrder_38 : decode cX9_noOrder 38 = .ok (.iload_n 2, 1) := dk_28 (dk_at dksX9_noOrder_1 14 rfl rfl)
theorem dX9_noOrder_39 : decode cX9_noOrder 39 = .ok (.invokevirtual 84, 3) := dk_182 0 84 (dk_at dksX9_noOrder_1 15 rfl rfl)
theorem dX9_noOrder_42 : decode cX9_noOrder 42 = .ok (.ifCond .eq 17, 3) := dk_153 0 17 (dk_at dksX9_noOrder_1 18 rfl rfl)
theorem dX9_noOrder_45 : decode cX9_noOrder 45 = .ok (.aload_n 0, 1) := dk_42 (dk_at dksX9_noOrder_1 21 rfl rfl)
theorem dX9_noOrder_46 : decode cX9_noOrder 46 = .ok (.iload_n 1, 1) := dk_27 (dk_at dksX9_noOrder_1 22 rfl rfl)
theorem dX9_noOrder_47 : decode cX9_noOrder 47 = .ok (.iconst 1, 1) := dk_4 (dk_at dksX9_noOrder_1 23 rfl rfl)
theorem dX9_noOrder_48 : decode cX9_noOrder 48 = .ok (.invokevirtual 53, 3) := dk_182 0 53 (dk_at dksX9_noOrder_2 0 rfl rfl)
theorem dX9_noOrder_51 : decode cX9_noOrder 51 = .ok (.iconst 1, 1) := dk_4 (dk_at dksX9_noOrder_2 3 rfl rfl)
theorem dX9_noOrder_52 : decode cX9_noOrder 52 = .ok (.if_icmp .ne 7, 3) := dk_160 0 7 (dk_at dksX9_noOrder_2 4 rfl rfl)
theorem dX9_noOrder_55 : decode cX9_noOrder 55 = .ok (.iconst 4, 1) := dk_7 (dk_at dksX9_noOrder_2 7 rfl rfl)
theorem dX9_noOrder_56 : decode cX9_noOrder 56 = .ok (.goto 4, 3) := dk_167 0 4 (dk_at dksX9_noOrder_2 8 rfl rfl)
theorem dX9_noOrder_59 : decode cX9_noOrder 59 = .ok (.iconst 0, 1) := dk_3 (dk_at dksX9_noOrder_2 11 rfl rfl)
theorem dX9_noOrder_60 : decode cX9_noOrder 60 = .ok (.ireturn, 1) := dk_172 (dk_at dksX9_noOrder_2 12 rfl rfl)
abbrev cX9_over : ByteArray := prog_17_method_28_code
def yX9_over : MethodName := ⟨RX9, "over", "()I"⟩
def dkwX9_over_4 : List UInt8 := [180, 0, 7, 17, 0, 167, 46, 161, 0, 7, 6, 167, 0, 4, 3, 172]
abbrev dktX9_over_4 : List UInt8 := dkwX9_over_4 ++ []
def dkwX9_over_3 : List UInt8 := [182, 0, 68, 182, 0, 71, 5, 164, 0, 7, 5, 167, 0, 27, 42, 180, 0, 7, 17, 0, 168, 46, 42]
abbrev dktX9_over_3 : List UInt8 := dkwX9_over_3 ++ dktX9_over_4
def dkwX9_over_2 : List UInt8 := [3, 60, 132, 2, 1, 167, 255, 222, 27, 153, 0, 7, 4, 167, 0, 47, 42, 42, 182, 0, 64, 42]
abbrev dktX9_over_2 : List UInt8 := dkwX9_over_2 ++ dktX9_over_3
def dkwX9_over_1 : List UInt8 := [16, 117, 46, 162, 0, 29, 27, 153, 0, 17, 42, 28, 7, 182, 0, 49, 5, 160, 0, 7, 4, 167, 0, 4]
abbrev dktX9_over_1 : List UInt8 := dkwX9_over_1 ++ dktX9_over_2
def dkwX9_over_0 : List UInt8 := [42, 180, 0, 7, 16, 117, 46, 158, 0, 7, 4, 167, 0, 4, 3, 60, 3, 61, 28, 42, 180, 0, 7]
abbrev dktX9_over_0 : List UInt8 := dkwX9_over_0 ++ dktX9_over_1
theorem dksX9_over_0 : cX9_over.data.toList.drop 0 = dktX9_over_0 := by decide +kernel
theorem dksX9_over_1 : cX9_over.data.toList.drop 23 = dktX9_over_1 := dk_seg dksX9_over_0 23 rfl rfl
theorem dksX9_over_2 : cX9_over.data.toList.drop 47 = dktX9_over_2 := dk_seg dksX9_over_1 24 rfl rfl
theorem dksX9_over_3 : cX9_over.data.toList.drop 69 = dktX9_over_3 := dk_seg dksX9_over_2 22 rfl rfl
theorem dksX9_over_4 : cX9_over.data.toList.drop 92 = dktX9_over_4 := dk_seg dksX9_over_3 23 rfl rfl
theorem dX9_over_0 : decode cX9_over 0 = .ok (.aload_n 0, 1) := dk_42 (dk_at dksX9_over_0 0 rfl rfl)
theorem dX9_over_1 : decode cX9_over 1 = .ok (.getfield 7, 3) := dk_180 0 7 (dk_at dksX9_over_0 1 rfl rfl)
theorem dX9_over_4 : decode cX9_over 4 = .ok (.bipush 117, 2) := dk_16 117 (dk_at dksX9_over_0 4 rfl rfl)
theorem dX9_over_6 : decode cX9_over 6 = .ok (.iaload, 1) := dk_46 (dk_at dksX9_over_0 6 rfl rfl)
theorem dX9_over_7 : decode cX9_over 7 = .ok (.ifCond .le 7, 3) := dk_158 0 7 (dk_at dksX9_over_0 7 rfl rfl)
theorem dX9_over_10 : decode cX9_over 10 = .ok (.iconst 1, 1) := dk_4 (dk_at dksX9_over_0 10 rfl rfl)
theorem dX9_over_11 : decode cX9_over 11 = .ok (.goto 4, 3) := dk_167 0 4 (dk_at dksX9_over_0 11 rfl rfl)
theorem dX9_over_14 : decode cX9_over 14 = .ok (.iconst 0, 1) := dk_3 (dk_at dksX9_over_0 14 rfl rfl)
theorem dX9_over_15 : decode cX9_over 15 = .ok (.istore_n 1, 1) := dk_60 (dk_at dksX9_over_0 15 rfl rfl)
theorem dX9_over_16 : decode cX9_over 16 = .ok (.iconst 0, 1) := dk_3 (dk_at dksX9_over_0 16 rfl rfl)
theorem dX9_over_17 : decode cX9_over 17 = .ok (.istore_n 2, 1) := dk_61 (dk_at dksX9_over_0 17 rfl rfl)
theorem dX9_over_18 : decode cX9_over 18 = .ok (.iload_n 2, 1) := dk_28 (dk_at dksX9_over_0 18 rfl rfl)
theorem dX9_over_19 : decode cX9_over 19 = .ok (.aload_n 0, 1) := dk_42 (dk_at dksX9_over_0 19 rfl rfl)
theorem dX9_over_20 : decode cX9_over 20 = .ok (.getfield 7, 3) := dk_180 0 7 (dk_at dksX9_over_0 20 rfl rfl)
theorem dX9_over_23 : decode cX9_over 23 = .ok (.bipush 117, 2) := dk_16 117 (dk_at dksX9_over_1 0 rfl rfl)
theorem dX9_over_25 : decode cX9_over 25 = .ok (.iaload, 1) := dk_46 (dk_at dksX9_over_1 2 rfl rfl)
theorem dX9_over_26 : decode cX9_over 26 = .ok (.if_icmp .ge 29, 3) := dk_162 0 29 (dk_at dksX9_over_1 3 rfl rfl)
theorem dX9_over_29 : decode cX9_over 29 = .ok (.iload_n 1, 1) := dk_27 (dk_at dksX9_over_1 6 rfl rfl)
theorem dX9_over_30 : decode cX9_over 30 = .ok (.ifCond .eq 17, 3) := dk_153 0 17 (dk_at dksX9_over_1 7 rfl rfl)
theorem dX9_over_33 : decode cX9_over 33 = .ok (.aload_n 0, 1) := dk_42 (dk_at dksX9_over_1 10 rfl rfl)
theorem dX9_over_34 : decode cX9_over 34 = .ok (.iload_n 2, 1) := dk_28 (dk_at dksX9_over_1 11 rfl rfl)
theorem dX9_over_35 : decode cX9_over 35 = .ok (.iconst 4, 1) := dk_7 (dk_at dksX9_over_1 12 rfl rfl)
theorem dX9_over_36 : decode cX9_over 36 = .ok (.invokevirtual 49, 3) := dk_182 0 49 (dk_at dksX9_over_1 13 rfl rfl)
theorem dX9_over_39 : decode cX9_over 39 = .ok (.iconst 2, 1) := dk_5 (dk_at dksX9_over_1 16 rfl rfl)
theorem dX9_over_40 : decode cX9_over 40 = .ok (.if_icmp .ne 7, 3) := dk_160 0 7 (dk_at dksX9_over_1 17 rfl rfl)
theorem dX9_over_43 : decode cX9_over 43 = .ok (.iconst 1, 1) := dk_4 (dk_at dksX9_over_1 20 rfl rfl)
theorem dX9_over_44 : decode cX9_over 44 = .ok (.goto 4, 3) := dk_167 0 4 (dk_at dksX9_over_1 21 rfl rfl)
theorem dX9_over_47 : decode cX9_over 47 = .ok (.iconst 0, 1) := dk_3 (dk_at dksX9_over_2 0 rfl rfl)
theorem dX9_over_48 : decode cX9_over 48 = .ok (.istore_n 1, 1) := dk_60 (dk_at dksX9_over_2 1 rfl rfl)
theorem dX9_over_49 : decode cX9_over 49 = .ok (.iinc 2 1, 3) := dk_132 2 1 (dk_at dksX9_over_2 2 rfl rfl)
theorem dX9_over_52 : decode cX9_over 52 = .ok (.goto (-34), 3) := dk_167 255 222 (dk_at dksX9_over_2 5 rfl rfl)
theorem dX9_over_55 : decode cX9_over 55 = .ok (.iload_n 1, 1) := dk_27 (dk_at dksX9_over_2 8 rfl rfl)
theorem dX9_over_56 : decode cX9_over 56 = .ok (.ifCond .eq 7, 3) := dk_153 0 7 (dk_at dksX9_over_2 9 rfl rfl)
theorem dX9_over_59 : decode cX9_over 59 = .ok (.iconst 1, 1) := dk_4 (dk_at dksX9_over_2 12 rfl rfl)
theorem dX9_over_60 : decode cX9_over 60 = .ok (.goto 47, 3) := dk_167 0 47 (dk_at dksX9_over_2 13 rfl rfl)
theorem dX9_over_63 : decode cX9_over 63 = .ok (.aload_n 0, 1) := dk_42 (dk_at dksX9_over_2 16 rfl rfl)
theorem dX9_over_64 : decode cX9_over 64 = .ok (.aload_n 0, 1) := dk_42 (dk_at dksX9_over_2 17 rfl rfl)
theorem dX9_over_65 : decode cX9_over 65 = .ok (.invokevirtual 64, 3) := dk_182 0 64 (dk_at dksX9_over_2 18 rfl rfl)
theorem dX9_over_68 : decode cX9_over 68 = .ok (.aload_n 0, 1) := dk_42 (dk_at dksX9_over_2 21 rfl rfl)
theorem dX9_over_69 : decode cX9_over 69 = .ok (.invokevirtual 68, 3) := dk_182 0 68 (dk_at dksX9_over_3 0 rfl rfl)
theorem dX9_over_72 : decode cX9_over 72 = .ok (.invokevirtual 71, 3) := dk_182 0 71 (dk_at dksX9_over_3 3 rfl rfl)
theorem dX9_over_75 : decode cX9_over 75 = .ok (.iconst 2, 1) := dk_5 (dk_at dksX9_over_3 6 rfl rfl)
theorem dX9_over_76 : decode cX9_over 76 = .ok (.if_icmp .le 7, 3) := dk_164 0 7 (dk_at dksX9_over_3 7 rfl rfl)
theorem dX9_over_79 : decode cX9_over 79 = .ok (.iconst 2, 1) := dk_5 (dk_at dksX9_over_3 10 rfl rfl)
theorem dX9_over_80 : decode cX9_over 80 = .ok (.goto 27, 3) := dk_167 0 27 (dk_at dksX9_over_3 11 rfl rfl)
theorem dX9_over_83 : decode cX9_over 83 = .ok (.aload_n 0, 1) := dk_42 (dk_at dksX9_over_3 14 rfl rfl)
theorem dX9_over_84 : decode cX9_over 84 = .ok (.getfield 7, 3) := dk_180 0 7 (dk_at dksX9_over_3 15 rfl rfl)
theorem dX9_over_87 : decode cX9_over 87 = .ok (.sipush 168, 3) := dk_17 0 168 (dk_at dksX9_over_3 18 rfl rfl)
theorem dX9_over_90 : decode cX9_over 90 = .ok (.iaload, 1) := dk_46 (dk_at dksX9_over_3 21 rfl rfl)
theorem dX9_over_91 : decode cX9_over 91 = .ok (.aload_n 0, 1) := dk_42 (dk_at dksX9_over_3 22 rfl rfl)
theorem dX9_over_92 : decode cX9_over 92 = .ok (.getfield 7, 3) := dk_180 0 7 (dk_at dksX9_over_4 0 rfl rfl)
theorem dX9_over_95 : decode cX9_over 95 = .ok (.sipush 167, 3) := dk_17 0 167 (dk_at dksX9_over_4 3 rfl rfl)
theorem dX9_over_98 : decode cX9_over 98 = .ok (.iaload, 1) := dk_46 (dk_at dksX9_over_4 6 rfl rfl)
theorem dX9_over_99 : decode cX9_over 99 = .ok (.if_icmp .lt 7, 3) := dk_161 0 7 (dk_at dksX9_over_4 7 rfl rfl)
theorem dX9_over_102 : decode cX9_over 102 = .ok (.iconst 3, 1) := dk_6 (dk_at dksX9_over_4 10 rfl rfl)
theorem dX9_over_103 : decode cX9_over 103 = .ok (.goto 4, 3) := dk_167 0 4 (dk_at dksX9_over_4 11 rfl rfl)
theorem dX9_over_106 : decode cX9_over 106 = .ok (.iconst 0, 1) := dk_3 (dk_at dksX9_over_4 14 rfl rfl)
theorem dX9_over_107 : decode cX9_over 107 = .ok (.ireturn, 1) := dk_172 (dk_at dksX9_over_4 15 rfl rfl)
abbrev cX9_timesOf : ByteArray := prog_17_method_26_code
def yX9_timesOf : MethodName := ⟨RX9, "timesOf", "(II)I"⟩
def dkwX9_timesOf_2 : List UInt8 := [96, 4, 96, 46, 28, 160, 0, 7, 4, 167, 0, 4, 3, 96, 62, 132, 4, 1, 167, 255, 196, 29, 172]
abbrev dktX9_timesOf_2 : List UInt8 := dkwX9_timesOf_2 ++ []
def dkwX9_timesOf_1 : List UInt8 := [17, 0, 175, 5, 21, 4, 104, 96, 46, 27, 160, 0, 26, 42, 180, 0, 7, 17, 0, 175, 5, 21, 4, 104]
abbrev dktX9_timesOf_1 : List UInt8 := dkwX9_timesOf_1 ++ dktX9_timesOf_2
def dkwX9_timesOf_0 : List UInt8 := [3, 62, 3, 54, 4, 21, 4, 42, 180, 0, 7, 17, 0, 174, 46, 162, 0, 53, 29, 42, 180, 0, 7]
abbrev dktX9_timesOf_0 : List UInt8 := dkwX9_timesOf_0 ++ dktX9_timesOf_1
theorem dksX9_timesOf_0 : cX9_timesOf.data.toList.drop 0 = dktX9_timesOf_0 := by decide +kernel
theorem dksX9_timesOf_1 : cX9_timesOf.data.toList.drop 23 = dktX9_timesOf_1 := dk_seg dksX9_timesOf_0 23 rfl rfl
theorem dksX9_timesOf_2 : cX9_timesOf.data.toList.drop 47 = dktX9_timesOf_2 := dk_seg dksX9_timesOf_1 24 rfl rfl
theorem dX9_timesOf_0 : decode cX9_timesOf 0 = .ok (.iconst 0, 1) := dk_3 (dk_at dksX9_timesOf_0 0 rfl rfl)
theorem dX9_timesOf_1 : decode cX9_timesOf 1 = .ok (.istore_n 3, 1) := dk_62 (dk_at dksX9_timesOf_0 1 rfl rfl)
theorem dX9_timesOf_2 : decode cX9_timesOf 2 = .ok (.iconst 0, 1) := dk_3 (dk_at dksX9_timesOf_0 2 rfl rfl)
theorem dX9_timesOf_3 : decode cX9_timesOf 3 = .ok (.istore 4, 2) := dk_54 4 (dk_at dksX9_timesOf_0 3 rfl rfl)
theorem dX9_timesOf_5 : decode cX9_timesOf 5 = .ok (.iload 4, 2) := dk_21 4 (dk_at dksX9_timesOf_0 5 rfl rfl)
theorem dX9_timesOf_7 : decode cX9_timesOf 7 = .ok (.aload_n 0, 1) := dk_42 (dk_at dksX9_timesOf_0 7 rfl rfl)
theorem dX9_timesOf_8 : decode cX9_timesOf 8 = .ok (.getfield 7, 3) := dk_180 0 7 (dk_at dksX9_timesOf_0 8 rfl rfl)
theorem dX9_timesOf_11 : decode cX9_timesOf 11 = .ok (.sipush 174, 3) := dk_17 0 174 (dk_at dksX9_timesOf_0 11 rfl rfl)
theorem dX9_timesOf_14 : decode cX9_timesOf 14 = .ok (.iaload, 1) := dk_46 (dk_at dksX9_timesOf_0 14 rfl rfl)
theorem dX9_timesOf_15 : decode cX9_timesOf 15 = .ok (.if_icmp .ge 53, 3) := dk_162 0 53 (dk_at dksX9_timesOf_0 15 rfl rfl)
theorem dX9_timesOf_18 : decode cX9_timesOf 18 = .ok (.iload_n 3, 1) := dk_29 (dk_at dksX9_timesOf_0 18 rfl rfl)
theorem dX9_timesOf_19 : decode cX9_timesOf 19 = .ok (.aload_n 0, 1) := dk_42 (dk_at dksX9_timesOf_0 19 rfl rfl)
theorem dX9_timesOf_20 : decode cX9_timesOf 20 = .ok (.getfield 7, 3) := dk_180 0 7 (dk_at dksX9_timesOf_0 20 rfl rfl)
theorem dX9_timesOf_23 : decode cX9_timesOf 23 = .ok (.sipush 175, 3) := dk_17 0 175 (dk_at dksX9_timesOf_1 0 rfl rfl)
theorem dX9_timesOf_26 : decode cX9_timesOf 26 = .ok (.iconst 2, 1) := dk_5 (dk_at dksX9_timesOf_1 3 rfl rfl)
theorem dX9_timesOf_27 : decode cX9_timesOf 27 = .ok (.iload 4, 2) := dk_21 4 (dk_at dksX9_timesOf_1 4 rfl rfl)
theorem dX9_timesOf_29 : decode cX9_timesOf 29 = .ok (.imul, 1) := dk_104 (dk_at dksX9_timesOf_1 6 rfl rfl)
theorem dX9_timesOf_30 : decode cX9_timesOf 30 = .ok (.iadd, 1) := dk_96 (dk_at dksX9_timesOf_1 7 rfl rfl)
theorem dX9_timesOf_31 : decode cX9_timesOf 31 = .ok (.iaload, 1) := dk_46 (dk_at dksX9_timesOf_1 8 rfl rfl)
theorem dX9_timesOf_32 : decode cX9_timesOf 32 = .ok (.iload_n 1, 1) := dk_27 (dk_at dksX9_timesOf_1 9 rfl rfl)
theorem dX9_timesOf_33 : decode cX9_timesOf 33 = .ok (.if_icmp .ne 26, 3) := dk_160 0 26 (dk_at dksX9_timesOf_1 10 rfl rfl)
theorem dX9_timesOf_36 : decode cX9_timesOf 36 = .ok (.aload_n 0, 1) := dk_42 (dk_at dksX9_timesOf_1 13 rfl rfl)
theorem dX9_timesOf_37 : decode cX9_timesOf 37 = .ok (.getfield 7, 3) := dk_180 0 7 (dk_at dksX9_timesOf_1 14 rfl rfl)
theorem dX9_timesOf_40 : decode cX9_timesOf 40 = .ok (.sipush 175, 3) := dk_17 0 175 (dk_at dksX9_timesOf_1 17 rfl rfl)
theorem dX9_timesOf_43 : decode cX9_timesOf 43 = .ok (.iconst 2, 1) := dk_5 (dk_at dksX9_timesOf_1 20 rfl rfl)
theorem dX9_timesOf_44 : decode cX9_timesOf 44 = .ok (.iload 4, 2) := dk_21 4 (dk_at dksX9_timesOf_1 21 rfl rfl)
theorem dX9_timesOf_46 : decode cX9_timesOf 46 = .ok (.imul, 1) := dk_104 (dk_at dksX9_timesOf_1 23 rfl rfl)
theorem dX9_timesOf_47 : decode cX9_timesOf 47 = .ok (.iadd, 1) := dk_96 (dk_at dksX9_timesOf_2 0 rfl rfl)
theorem dX9_timesOf_48 : decode cX9_timesOf 48 = .ok (.iconst 1, 1) := dk_4 (dk_at dksX9_timesOf_2 1 rfl rfl)
theorem dX9_timesOf_49 : decode cX9_timesOf 49 = .ok (.iadd, 1) := dk_96 (dk_at dksX9_timesOf_2 2 rfl rfl)
theorem dX9_timesOf_50 : decode cX9_timesOf 50 = .ok (.iaload, 1) := dk_46 (dk_at dksX9_timesOf_2 3 rfl rfl)
theorem dX9_timesOf_51 : decode cX9_timesOf 51 = .ok (.iload_n 2, 1) := dk_28 (dk_at dksX9_timesOf_2 4 rfl rfl)
theorem dX9_timesOf_52 : decode cX9_timesOf 52 = .ok (.if_icmp .ne 7, 3) := dk_160 0 7 (dk_at dksX9_timesOf_2 5 rfl rfl)
theorem dX9_timesOf_55 : decode cX9_timesOf 55 = .ok (.iconst 1, 1) := dk_4 (dk_at dksX9_timesOf_2 8 rfl rfl)
theorem dX9_timesOf_56 : decode cX9_timesOf 56 = .ok (.goto 4, 3) := dk_167 0 4 (dk_at dksX9_timesOf_2 9 rfl rfl)
theorem dX9_timesOf_59 : decode cX9_timesOf 59 = .ok (.iconst 0, 1) := dk_3 (dk_at dksX9_timesOf_2 12 rfl rfl)
theorem dX9_timesOf_60 : decode cX9_timesOf 60 = .ok (.iadd, 1) := dk_96 (dk_at dksX9_timesOf_2 13 rfl rfl)
theorem dX9_timesOf_61 : decode cX9_timesOf 61 = .ok (.istore_n 3, 1) := dk_62 (dk_at dksX9_timesOf_2 14 rfl rfl)
theorem dX9_timesOf_62 : decode cX9_timesOf 62 = .ok (.iinc 4 1, 3) := dk_132 4 1 (dk_at dksX9_timesOf_2 15 rfl rfl)
theorem dX9_timesOf_65 : decode cX9_timesOf 65 = .ok (.goto (-60), 3) := dk_167 255 196 (dk_at dksX9_timesOf_2 18 rfl rfl)
theorem dX9_timesOf_68 : decode cX9_timesOf 68 = .ok (.iload_n 3, 1) := dk_29 (dk_at dksX9_timesOf_2 21 rfl rfl)
theorem dX9_timesOf_69 : decode cX9_timesOf 69 = .ok (.ireturn, 1) := dk_172 (dk_at dksX9_timesOf_2 22 rfl rfl)
abbrev cX9_takeBack : ByteArray := prog_17_method_46_code
def yX9_takeBack : MethodName := ⟨RX9, "takeBack", "(I)Z"⟩
def dkwX9_takeBack_2 : List UInt8 := [2, 182, 0, 31, 28, 172]
abbrev dktX9_takeBack_2 : List UInt8 := dkwX9_takeBack_2 ++ []
def dkwX9_takeBack_1 : List UInt8 := [172, 42, 182, 0, 125, 42, 27, 5, 182, 0, 53, 2, 159, 0, 7, 4, 167, 0, 4, 3, 61, 42, 27, 5]
abbrev dktX9_takeBack_1 : List UInt8 := dkwX9_takeBack_1 ++ dktX9_takeBack_2
def dkwX9_takeBack_0 : List UInt8 := [42, 27, 184, 0, 134, 153, 0, 7, 3, 167, 0, 4, 4, 181, 0, 38, 42, 180, 0, 38, 158, 0, 5, 3]
abbrev dktX9_takeBack_0 : List UInt8 := dkwX9_takeBack_0 ++ dktX9_takeBack_1
theorem dksX9_takeBack_0 : cX9_takeBack.data.toList.drop 0 = dktX9_takeBack_0 := by decide +kernel
theorem dksX9_takeBack_1 : cX9_takeBack.data.toList.drop 24 = dktX9_takeBack_1 := dk_seg dksX9_takeBack_0 24 rfl rfl
theorem dksX9_takeBack_2 : cX9_takeBack.data.toList.drop 48 = dktX9_takeBack_2 := dk_seg dksX9_takeBack_1 24 rfl rfl
theorem dX9_takeBack_0 : decode cX9_takeBack 0 = .ok (.aload_n 0, 1) := dk_42 (dk_at dksX9_takeBack_0 0 rfl rfl)
theorem dX9_takeBack_1 : decode cX9_takeBack 1 = .ok (.iload_n 1, 1) := dk_27 (dk_at dksX9_takeBack_0 1 rfl rfl)
theorem dX9_takeBack_2 : decode cX9_takeBack 2 = .ok (.invokestatic 134, 3) := dk_184 0 134 (dk_at dksX9_takeBack_0 2 rfl rfl)
theorem dX9_takeBack_5 : decode cX9_takeBack 5 = .ok (.ifCond .eq 7, 3) := dk_153 0 7 (dk_at dksX9_takeBack_0 5 rfl rfl)
theorem dX9_takeBack_8 : decode cX9_takeBack 8 = .ok (.iconst 0, 1) := dk_3 (dk_at dksX9_takeBack_0 8 rfl rfl)
theorem dX9_takeBack_9 : decode cX9_takeBack 9 = .ok (.goto 4, 3) := dk_167 0 4 (dk_at dksX9_takeBack_0 9 rfl rfl)
theorem dX9_takeBack_12 : decode cX9_takeBack 12 = .ok (.iconst 1, 1) := dk_4 (dk_at dksX9_takeBack_0 12 rfl rfl)
theorem dX9_takeBack_13 : decode cX9_takeBack 13 = .ok (.putfield 38, 3) := dk_181 0 38 (dk_at dksX9_takeBack_0 13 rfl rfl)
theorem dX9_takeBack_16 : decode cX9_takeBack 16 = .ok (.aload_n 0, 1) := dk_42 (dk_at dksX9_takeBack_0 16 rfl rfl)
theorem dX9_takeBack_17 : decode cX9_takeBack 17 = .ok (.getfield 38, 3) := dk_180 0 38 (dk_at dksX9_takeBack_0 17 rfl rfl)
theorem dX9_takeBack_20 : decode cX9_takeBack 20 = .ok (.ifCond .le 5, 3) := dk_158 0 5 (dk_at dksX9_takeBack_0 20 rfl rfl)
theorem dX9_takeBack_23 : decode cX9_takeBack 23 = .ok (.iconst 0, 1) := dk_3 (dk_at dksX9_takeBack_0 23 rfl rfl)
theorem dX9_takeBack_24 : decode cX9_takeBack 24 = .ok (.ireturn, 1) := dk_172 (dk_at dksX9_takeBack_1 0 rfl rfl)
theorem dX9_takeBack_25 : decode cX9_takeBack 25 = .ok (.aload_n 0, 1) := dk_42 (dk_at dksX9_takeBack_1 1 rfl rfl)
theorem dX9_takeBack_26 : decode cX9_takeBack 26 = .ok (.invokevirtual 125, 3) := dk_182 0 125 (dk_at dksX9_takeBack_1 2 rfl rfl)
theorem dX9_takeBack_29 : decode cX9_takeBack 29 = .ok (.aload_n 0, 1) := dk_42 (dk_at dksX9_takeBack_1 5 rfl rfl)
theorem dX9_takeBack_30 : decode cX9_takeBack 30 = .ok (.iload_n 1, 1) := dk_27 (dk_at dksX9_takeBack_1 6 rfl rfl)
theorem dX9_takeBack_31 : decode cX9_takeBack 31 = .ok (.iconst 2, 1) := dk_5 (dk_at dksX9_takeBack_1 7 rfl rfl)
theorem dX9_takeBack_32 : decode cX9_takeBack 32 = .ok (.invokevirtual 53, 3) := dk_182 0 53 (dk_at dksX9_takeBack_1 8 rfl rfl)
theorem dX9_takeBack_35 : decode cX9_takeBack 35 = .ok (.iconst (-1), 1) := dk_2 (dk_at dksX9_takeBack_1 11 rfl rfl)
theorem dX9_takeBack_36 : decode cX9_takeBack 36 = .ok (.if_icmp .eq 7, 3) := dk_159 0 7 (dk_at dksX9_takeBack_1 12 rfl rfl)
theorem dX9_takeBack_39 : decode cX9_takeBack 39 = .ok (.iconst 1, 1) := dk_4 (dk_at dksX9_takeBack_1 15 rfl rfl)
theorem dX9_takeBack_40 : decode cX9_takeBack 40 = .ok (.goto 4, 3) := dk_167 0 4 (dk_at dksX9_takeBack_1 16 rfl rfl)
theorem dX9_takeBack_43 : decode cX9_takeBack 43 = .ok (.iconst 0, 1) := dk_3 (dk_at dksX9_takeBack_1 19 rfl rfl)
theorem dX9_takeBack_44 : decode cX9_takeBack 44 = .ok (.istore_n 2, 1) := dk_61 (dk_at dksX9_takeBack_1 20 rfl rfl)
theorem dX9_takeBack_45 : decode cX9_takeBack 45 = .ok (.aload_n 0, 1) := dk_42 (dk_at dksX9_takeBack_1 21 rfl rfl)
theorem dX9_takeBack_46 : decode cX9_takeBack 46 = .ok (.iload_n 1, 1) := dk_27 (dk_at dksX9_takeBack_1 22 rfl rfl)
theorem dX9_takeBack_47 : decode cX9_takeBack 47 = .ok (.iconst 2, 1) := dk_5 (dk_at dksX9_takeBack_1 23 rfl rfl)
theorem dX9_takeBack_48 : decode cX9_takeBack 48 = .ok (.iconst (-1), 1) := dk_2 (dk_at dksX9_takeBack_2 0 rfl rfl)
theorem dX9_takeBack_49 : decode cX9_takeBack 49 = .ok (.invokevirtual 31, 3) := dk_182 0 31 (dk_at dksX9_takeBack_2 1 rfl rfl)
theorem dX9_takeBack_52 : decode cX9_takeBack 52 = .ok (.iload_n 2, 1) := dk_28 (dk_at dksX9_takeBack_2 4 rfl rfl)
theorem dX9_takeBack_53 : decode cX9_takeBack 53 = .ok (.ireturn, 1) := dk_172 (dk_at dksX9_takeBack_2 5 rfl rfl)
abbrev cX9_turn : ByteArray := prog_17_method_47_code
def yX9_turn : MethodName := ⟨RX9, "turn", "()I"⟩
def dkwX9_turn_1 : List UInt8 := [182, 0, 143, 172]
abbrev dktX9_turn_1 : List UInt8 := dkwX9_turn_1 ++ []
def dkwX9_turn_0 : List UInt8 := [42, 3, 181, 0, 38, 42, 182, 0, 74, 153, 0, 9, 42, 4, 182, 0, 122, 172, 42, 182, 0, 125, 42]
abbrev dktX9_turn_0 : List UInt8 := dkwX9_turn_0 ++ dktX9_turn_1
theorem dksX9_turn_0 : cX9_turn.data.toList.drop 0 = dktX9_turn_0 := by decide +kernel
theorem dksX9_turn_1 : cX9_turn.data.toList.drop 23 = dktX9_turn_1 := dk_seg dksX9_turn_0 23 rfl rfl
theorem dX9_turn_0 : decode cX9_turn 0 = .ok (.aload_n 0, 1) := dk_42 (dk_at dksX9_turn_0 0 rfl rfl)
theorem dX9_turn_1 : decode cX9_turn 1 = .ok (.iconst 0, 1) := dk_3 (dk_at dksX9_turn_0 1 rfl rfl)
theorem dX9_turn_2 : decode cX9_turn 2 = .ok (.putfield 38, 3) := dk_181 0 38 (dk_at dksX9_turn_0 2 rfl rfl)
theorem dX9_turn_5 : decode cX9_turn 5 = .ok (.aload_n 0, 1) := dk_42 (dk_at dksX9_turn_0 5 rfl rfl)
theorem dX9_turn_6 : decode cX9_turn 6 = .ok (.invokevirtual 74, 3) := dk_182 0 74 (dk_at dksX9_turn_0 6 rfl rfl)
theorem dX9_turn_9 : decode cX9_turn 9 = .ok (.ifCond .eq 9, 3) := dk_153 0 9 (dk_at dksX9_turn_0 9 rfl rfl)
theorem dX9_turn_12 : decode cX9_turn 12 = .ok (.aload_n 0, 1) := dk_42 (dk_at dksX9_turn_0 12 rfl rfl)
theorem dX9_turn_13 : decode cX9_turn 13 = .ok (.iconst 1, 1) := dk_4 (dk_at dksX9_turn_0 13 rfl rfl)
theorem dX9_turn_14 : decode cX9_turn 14 = .ok (.invokevirtual 122, 3) := dk_182 0 122 (dk_at dksX9_turn_0 14 rfl rfl)
theorem dX9_turn_17 : decode cX9_turn 17 = .ok (.ireturn, 1) := dk_172 (dk_at dksX9_turn_0 17 rfl rfl)
theorem dX9_turn_18 : decode cX9_turn 18 = .ok (.aload_n 0, 1) := dk_42 (dk_at dksX9_turn_0 18 rfl rfl)
theorem dX9_turn_19 : decode cX9_turn 19 = .ok (.invokevirtual 125, 3) := dk_182 0 125 (dk_at dksX9_turn_0 19 rfl rfl)
theorem dX9_turn_22 : decode cX9_turn 22 = .ok (.aload_n 0, 1) := dk_42 (dk_at dksX9_turn_0 22 rfl rfl)
theorem dX9_turn_23 : decode cX9_turn 23 = .ok (.invokevirtual 143, 3) := dk_182 0 143 (dk_at dksX9_turn_1 0 rfl rfl)
theorem dX9_turn_26 : decode cX9_turn 26 = .ok (.ireturn, 1) := dk_172 (dk_at dksX9_turn_1 3 rfl rfl)
abbrev cX9_turns : ByteArray := prog_17_method_36_code
def yX9_turns : MethodName := ⟨RX9, "turns", "()I"⟩
def dkwX9_turns_6 : List UInt8 := [182, 0, 35, 27, 172]
abbrev dktX9_turns_6 : List UInt8 := dkwX9_turns_6 ++ []
def dkwX9_turns_5 : List UInt8 := [182, 0, 31, 132, 2, 1, 167, 255, 236, 42, 180, 0, 7, 17, 0, 168, 92, 46, 4, 96, 79, 42]
abbrev dktX9_turns_5 : List UInt8 := dkwX9_turns_5 ++ dktX9_turns_6
def dkwX9_turns_4 : List UInt8 := [79, 132, 2, 1, 167, 255, 168, 3, 61, 28, 7, 162, 0, 21, 42, 28, 182, 0, 115, 42, 28, 5, 2]
abbrev dktX9_turns_4 : List UInt8 := dkwX9_turns_4 ++ dktX9_turns_5
def dkwX9_turns_3 : List UInt8 := [180, 0, 7, 17, 0, 169, 92, 46, 42, 180, 0, 22, 28, 46, 4, 164, 0, 7, 4, 167, 0, 4, 3, 96]
abbrev dktX9_turns_3 : List UInt8 := dkwX9_turns_3 ++ dktX9_turns_4
def dkwX9_turns_2 : List UInt8 := [182, 0, 91, 182, 0, 31, 42, 28, 6, 42, 28, 6, 182, 0, 53, 4, 96, 182, 0, 31, 132, 1, 1, 42]
abbrev dktX9_turns_2 : List UInt8 := dkwX9_turns_2 ++ dktX9_turns_3
def dkwX9_turns_1 : List UInt8 := [182, 0, 31, 42, 180, 0, 22, 28, 46, 154, 0, 36, 42, 28, 3, 42, 42, 28, 5, 182, 0, 53]
abbrev dktX9_turns_1 : List UInt8 := dkwX9_turns_1 ++ dktX9_turns_2
def dkwX9_turns_0 : List UInt8 := [42, 182, 0, 112, 3, 60, 3, 61, 28, 7, 162, 0, 89, 42, 28, 7, 42, 180, 0, 22, 28, 46]
abbrev dktX9_turns_0 : List UInt8 := dkwX9_turns_0 ++ dktX9_turns_1
theorem dksX9_turns_0 : cX9_turns.data.toList.drop 0 = dktX9_turns_0 := by decide +kernel
theorem dksX9_turns_1 : cX9_turns.data.toList.drop 22 = dktX9_turns_1 := dk_seg dksX9_turns_0 22 rfl rfl
theorem dksX9_turns_2 : cX9_turns.data.toList.drop 44 = dktX9_turns_2 := dk_seg dksX9_turns_1 22 rfl rfl
theorem dksX9_turns_3 : cX9_turns.data.toList.drop 68 = dktX9_turns_3 := dk_seg dksX9_turns_2 24 rfl rfl
theorem dksX9_turns_4 : cX9_turns.data.toList.drop 92 = dktX9_turns_4 := dk_seg dksX9_turns_3 24 rfl rfl
theorem dksX9_turns_5 : cX9_turns.data.toList.drop 115 = dktX9_turns_5 := dk_seg dksX9_turns_4 23 rfl rfl
theorem dksX9_turns_6 : cX9_turns.data.toList.drop 137 = dktX9_turns_6 := dk_seg dksX9_turns_5 22 rfl rfl
theorem dX9_turns_0 : decode cX9_turns 0 = .ok (.aload_n 0, 1) := dk_42 (dk_at dksX9_turns_0 0 rfl rfl)
theorem dX9_turns_1 : decode cX9_turns 1 = .ok (.invokevirtual 112, 3) := dk_182 0 112 (dk_at dksX9_turns_0 1 rfl rfl)
theorem dX9_turns_4 : decode cX9_turns 4 = .ok (.iconst 0, 1) := dk_3 (dk_at dksX9_turns_0 4 rfl rfl)
theorem dX9_turns_5 : decode cX9_turns 5 = .ok (.istore_n 1, 1) := dk_60 (dk_at dksX9_turns_0 5 rfl rfl)
theorem dX9_turns_6 : decode cX9_turns 6 = .ok (.iconst 0, 1) := dk_3 (dk_at dksX9_turns_0 6 rfl rfl)
theorem dX9_turns_7 : decode cX9_turns 7 = .ok (.istore_n 2, 1) := dk_61 (dk_at dksX9_turns_0 7 rfl rfl)
theorem dX9_turns_8 : decode cX9_turns 8 = .ok (.iload_n 2, 1) := dk_28 (dk_at dksX9_turns_0 8 rfl rfl)
theorem dX9_turns_9 : decode cX9_turns 9 = .ok (.iconst 4, 1) := dk_7 (dk_at dksX9_turns_0 9 rfl rfl)
theorem dX9_turns_10 : decode cX9_turns 10 = .ok (.if_icmp .ge 89, 3) := dk_162 0 89 (dk_at dksX9_turns_0 10 rfl rfl)
theorem dX9_turns_13 : decode cX9_turns 13 = .ok (.aload_n 0, 1) := dk_42 (dk_at dksX9_turns_0 13 rfl rfl)
theorem dX9_turns_14 : decode cX9_turns 14 = .ok (.iload_n 2, 1) := dk_28 (dk_at dksX9_turns_0 14 rfl rfl)
theorem dX9_turns_15 : decode cX9_turns 15 = .ok (.iconst 4, 1) := dk_7 (dk_at dksX9_turns_0 15 rfl rfl)
theorem dX9_turns_16 : decode cX9_turns 16 = .ok (.aload_n 0, 1) := dk_42 (dk_at dksX9_turns_0 16 rfl rfl)
theorem dX9_turns_17 : decode cX9_turns 17 = .ok (.getfield 22, 3) := dk_180 0 22 (dk_at dksX9_turns_0 17 rfl rfl)
theorem dX9_turns_20 : decode cX9_turns 20 = .ok (.iload_n 2, 1) := dk_28 (dk_at dksX9_turns_0 20 rfl rfl)
theorem dX9_turns_21 : decode cX9_turns 21 = .ok (.iaload, 1) := dk_46 (dk_at dksX9_turns_0 21 rfl rfl)
theorem dX9_turns_22 : decode cX9_turns 22 = .ok (.invokevirtual 31, 3) := dk_182 0 31 (dk_at dksX9_turns_1 0 rfl rfl)
theorem dX9_turns_25 : decode cX9_turns 25 = .ok (.aload_n 0, 1) := dk_42 (dk_at dksX9_turns_1 3 rfl rfl)
theorem dX9_turns_26 : decode cX9_turns 26 = .ok (.getfield 22, 3) := dk_180 0 22 (dk_at dksX9_turns_1 4 rfl rfl)
theorem dX9_turns_29 : decode cX9_turns 29 = .ok (.iload_n 2, 1) := dk_28 (dk_at dksX9_turns_1 7 rfl rfl)
theorem dX9_turns_30 : decode cX9_turns 30 = .ok (.iaload, 1) := dk_46 (dk_at dksX9_turns_1 8 rfl rfl)
theorem dX9_turns_31 : decode cX9_turns 31 = .ok (.ifCond .ne 36, 3) := dk_154 0 36 (dk_at dksX9_turns_1 9 rfl rfl)
theorem dX9_turns_34 : decode cX9_turns 34 = .ok (.aload_n 0, 1) := dk_42 (dk_at dksX9_turns_1 12 rfl rfl)
theorem dX9_turns_35 : decode cX9_turns 35 = .ok (.iload_n 2, 1) := dk_28 (dk_at dksX9_turns_1 13 rfl rfl)
theorem dX9_turns_36 : decode cX9_turns 36 = .ok (.iconst 0, 1) := dk_3 (dk_at dksX9_turns_1 14 rfl rfl)
theorem dX9_turns_37 : decode cX9_turns 37 = .ok (.aload_n 0, 1) := dk_42 (dk_at dksX9_turns_1 15 rfl rfl)
theorem dX9_turns_38 : decode cX9_turns 38 = .ok (.aload_n 0, 1) := dk_42 (dk_at dksX9_turns_1 16 rfl rfl)
theorem dX9_turns_39 : decode cX9_turns 39 = .ok (.iload_n 2, 1) := dk_28 (dk_at dksX9_turns_1 17 rfl rfl)
theorem dX9_turns_40 : decode cX9_turns 40 = .ok (.iconst 2, 1) := dk_5 (dk_at dksX9_turns_1 18 rfl rfl)
theorem dX9_turns_41 : decode cX9_turns 41 = .ok (.invokevirtual 53, 3) := dk_182 0 53 (dk_at dksX9_turns_1 19 rfl rfl)
theorem dX9_turns_44 : decode cX9_turns 44 = .ok (.invokevirtual 91, 3) := dk_182 0 91 (dk_at dksX9_turns_2 0 rfl rfl)
theorem dX9_turns_47 : decode cX9_turns 47 = .ok (.invokevirtual 31, 3) := dk_182 0 31 (dk_at dksX9_turns_2 3 rfl rfl)
theorem dX9_turns_50 : decode cX9_turns 50 = .ok (.aload_n 0, 1) := dk_42 (dk_at dksX9_turns_2 6 rfl rfl)
theorem dX9_turns_51 : decode cX9_turns 51 = .ok (.iload_n 2, 1) := dk_28 (dk_at dksX9_turns_2 7 rfl rfl)
theorem dX9_turns_52 : decode cX9_turns 52 = .ok (.iconst 3, 1) := dk_6 (dk_at dksX9_turns_2 8 rfl rfl)
theorem dX9_turns_53 : decode cX9_turns 53 = .ok (.aload_n 0, 1) := dk_42 (dk_at dksX9_turns_2 9 rfl rfl)
theorem dX9_turns_54 : decode cX9_turns 54 = .ok (.iload_n 2, 1) := dk_28 (dk_at dksX9_turns_2 10 rfl rfl)
theorem dX9_turns_55 : decode cX9_turns 55 = .ok (.iconst 3, 1) := dk_6 (dk_at dksX9_turns_2 11 rfl rfl)
theorem dX9_turns_56 : decode cX9_turns 56 = .ok (.invokevirtual 53, 3) := dk_182 0 53 (dk_at dksX9_turns_2 12 rfl rfl)
theorem dX9_turns_59 : decode cX9_turns 59 = .ok (.iconst 1, 1) := dk_4 (dk_at dksX9_turns_2 15 rfl rfl)
theorem dX9_turns_60 : decode cX9_turns 60 = .ok (.iadd, 1) := dk_96 (dk_at dksX9_turns_2 16 rfl rfl)
theorem dX9_turns_61 : decode cX9_turns 61 = .ok (.invokevirtual 31, 3) := dk_182 0 31 (dk_at dksX9_turns_2 17 rfl rfl)
theorem dX9_turns_64 : decode cX9_turns 64 = .ok (.iinc 1 1, 3) := dk_132 1 1 (dk_at dksX9_turns_2 20 rfl rfl)
theorem dX9_turns_67 : decode cX9_turns 67 = .ok (.aload_n 0, 1) := dk_42 (dk_at dksX9_turns_2 23 rfl rfl)
theorem dX9_turns_68 : decode cX9_turns 68 = .ok (.getfield 7, 3) := dk_180 0 7 (dk_at dksX9_turns_3 0 rfl rfl)
theorem dX9_turns_71 : decode cX9_turns 71 = .ok (.sipush 169, 3) := dk_17 0 169 (dk_at dksX9_turns_3 3 rfl rfl)
theorem dX9_turns_74 : decode cX9_turns 74 = .ok (.dup2, 1) := dk_92 (dk_at dksX9_turns_3 6 rfl rfl)
theorem dX9_turns_75 : decode cX9_turns 75 = .ok (.iaload, 1) := dk_46 (dk_at dksX9_turns_3 7 rfl rfl)
theorem dX9_turns_76 : decode cX9_turns 76 = .ok (.aload_n 0, 1) := dk_42 (dk_at dksX9_turns_3 8 rfl rfl)
theorem dX9_turns_77 : decode cX9_turns 77 = .ok (.getfield 22, 3) := dk_180 0 22 (dk_at dksX9_turns_3 9 rfl rfl)
theorem dX9_turns_80 : decode cX9_turns 80 = .ok (.iload_n 2, 1) := dk_28 (dk_at dksX9_turns_3 12 rfl rfl)
theorem dX9_turns_81 : decode cX9_turns 81 = .ok (.iaload, 1) := dk_46 (dk_at dksX9_turns_3 13 rfl rfl)
theorem dX9_turns_82 : decode cX9_turns 82 = .ok (.iconst 1, 1) := dk_4 (dk_at dksX9_turns_3 14 rfl rfl)
theorem dX9_turns_83 : decode cX9_turns 83 = .ok (.if_icmp .le 7, 3) := dk_164 0 7 (dk_at dksX9_turns_3 15 rfl rfl)
theorem dX9_turns_86 : decode cX9_turns 86 = .ok (.iconst 1, 1) := dk_4 (dk_at dksX9_turns_3 18 rfl rfl)
theorem dX9_turns_87 : decode cX9_turns 87 = .ok (.goto 4, 3) := dk_167 0 4 (dk_at dksX9_turns_3 19 rfl rfl)
theorem dX9_turns_90 : decode cX9_turns 90 = .ok (.iconst 0, 1) := dk_3 (dk_at dksX9_turns_3 22 rfl rfl)
theorem dX9_turns_91 : decode cX9_turns 91 = .ok (.iadd, 1) := dk_96 (dk_at dksX9_turns_3 23 rfl rfl)
theorem dX9_turns_92 : decode cX9_turns 92 = .ok (.iastore, 1) := dk_79 (dk_at dksX9_turns_4 0 rfl rfl)
theorem dX9_turns_93 : decode cX9_turns 93 = .ok (.iinc 2 1, 3) := dk_132 2 1 (dk_at dksX9_turns_4 1 rfl rfl)
theorem dX9_turns_96 : decode cX9_turns 96 = .ok (.goto (-88), 3) := dk_167 255 168 (dk_at dksX9_turns_4 4 rfl rfl)
theorem dX9_turns_99 : decode cX9_turns 99 = .ok (.iconst 0, 1) := dk_3 (dk_at dksX9_turns_4 7 rfl rfl)
theorem dX9_turns_100 : decode cX9_turns 100 = .ok (.istore_n 2, 1) := dk_61 (dk_at dksX9_turns_4 8 rfl rfl)
theorem dX9_turns_101 : decode cX9_turns 101 = .ok (.iload_n 2, 1) := dk_28 (dk_at dksX9_turns_4 9 rfl rfl)
theorem dX9_turns_102 : decode cX9_turns 102 = .ok (.iconst 4, 1) := dk_7 (dk_at dksX9_turns_4 10 rfl rfl)
theorem dX9_turns_103 : decode cX9_turns 103 = .ok (.if_icmp .ge 21, 3) := dk_162 0 21 (dk_at dksX9_turns_4 11 rfl rfl)
theorem dX9_turns_106 : decode cX9_turns 106 = .ok (.aload_n 0, 1) := dk_42 (dk_at dksX9_turns_4 14 rfl rfl)
theorem dX9_turns_107 : decode cX9_turns 107 = .ok (.iload_n 2, 1) := dk_28 (dk_at dksX9_turns_4 15 rfl rfl)
theorem dX9_turns_108 : decode cX9_turns 108 = .ok (.invokevirtual 115, 3) := dk_182 0 115 (dk_at dksX9_turns_4 16 rfl rfl)
theorem dX9_turns_111 : decode cX9_turns 111 = .ok (.aload_n 0, 1) := dk_42 (dk_at dksX9_turns_4 19 rfl rfl)
theorem dX9_turns_112 : decode cX9_turns 112 = .ok (.iload_n 2, 1) := dk_28 (dk_at dksX9_turns_4 20 rfl rfl)
theorem dX9_turns_113 : decode cX9_turns 113 = .ok (.iconst 2, 1) := dk_5 (dk_at dksX9_turns_4 21 rfl rfl)
theorem dX9_turns_114 : decode cX9_turns 114 = .ok (.iconst (-1), 1) := dk_2 (dk_at dksX9_turns_4 22 rfl rfl)
theorem dX9_turns_115 : decode cX9_turns 115 = .ok (.invokevirtual 31, 3) := dk_182 0 31 (dk_at dksX9_turns_5 0 rfl rfl)
theorem dX9_turns_118 : decode cX9_turns 118 = .ok (.iinc 2 1, 3) := dk_132 2 1 (dk_at dksX9_turns_5 3 rfl rfl)
theorem dX9_turns_121 : decode cX9_turns 121 = .ok (.goto (-20), 3) := dk_167 255 236 (dk_at dksX9_turns_5 6 rfl rfl)
theorem dX9_turns_124 : decode cX9_turns 124 = .ok (.aload_n 0, 1) := dk_42 (dk_at dksX9_turns_5 9 rfl rfl)
theorem dX9_turns_125 : decode cX9_turns 125 = .ok (.getfield 7, 3) := dk_180 0 7 (dk_at dksX9_turns_5 10 rfl rfl)
theorem dX9_turns_128 : decode cX9_turns 128 = .ok (.sipush 168, 3) := dk_17 0 168 (dk_at dksX9_turns_5 13 rfl rfl)
theorem dX9_turns_131 : decode cX9_turns 131 = .ok (.dup2, 1) := dk_92 (dk_at dksX9_turns_5 16 rfl rfl)
theorem dX9_turns_132 : decode cX9_turns 132 = .ok (.iaload, 1) := dk_46 (dk_at dksX9_turns_5 17 rfl rfl)
theorem dX9_turns_133 : decode cX9_turns 133 = .ok (.iconst 1, 1) := dk_4 (dk_at dksX9_turns_5 18 rfl rfl)
theorem dX9_turns_134 : decode cX9_turns 134 = .ok (.iadd, 1) := dk_96 (dk_at dksX9_turns_5 19 rfl rfl)
theorem dX9_turns_135 : decode cX9_turns 135 = .ok (.iastore, 1) := dk_79 (dk_at dksX9_turns_5 20 rfl rfl)
theorem dX9_turns_136 : decode cX9_turns 136 = .ok (.aload_n 0, 1) := dk_42 (dk_at dksX9_turns_5 21 rfl rfl)
theorem dX9_turns_137 : decode cX9_turns 137 = .ok (.invokevirtual 35, 3) := dk_182 0 35 (dk_at dksX9_turns_6 0 rfl rfl)
theorem dX9_turns_140 : decode cX9_turns 140 = .ok (.iload_n 1, 1) := dk_27 (dk_at dksX9_turns_6 3 rfl rfl)
theorem dX9_turns_141 : decode cX9_turns 141 = .ok (.ireturn, 1) := dk_172 (dk_at dksX9_turns_6 4 rfl rfl)
abbrev cX9_foretells : ByteArray := prog_17_method_32_code
def yX9_foretells : MethodName := ⟨RX9, "foretells", "()V"⟩
def dkwX9_foretells_5 : List UInt8 := [28, 46, 159, 0, 7, 4, 167, 0, 4, 3, 60, 132, 2, 1, 167, 255, 194, 167, 255, 158, 177]
abbrev dktX9_foretells_5 : List UInt8 := dkwX9_foretells_5 ++ []
def dkwX9_foretells_4 : List UInt8 := [167, 0, 9, 42, 180, 0, 25, 28, 46, 79, 27, 154, 0, 18, 42, 180, 0, 22, 28, 46, 42, 180, 0, 25]
abbrev dktX9_foretells_4 : List UInt8 := dkwX9_foretells_4 ++ dktX9_foretells_5
def dkwX9_foretells_3 : List UInt8 := [7, 162, 0, 63, 42, 180, 0, 22, 28, 42, 180, 0, 25, 28, 46, 154, 0, 11, 42, 28, 182, 0, 97]
abbrev dktX9_foretells_3 : List UInt8 := dkwX9_foretells_3 ++ dktX9_foretells_4
def dkwX9_foretells_2 : List UInt8 := [162, 0, 21, 42, 180, 0, 25, 28, 42, 180, 0, 22, 28, 46, 79, 132, 2, 1, 167, 255, 236, 3, 61, 28]
abbrev dktX9_foretells_2 : List UInt8 := dkwX9_foretells_2 ++ dktX9_foretells_3
def dkwX9_foretells_1 : List UInt8 := [167, 0, 4, 3, 79, 132, 1, 1, 167, 255, 227, 4, 60, 27, 153, 0, 100, 3, 60, 3, 61, 28, 7]
abbrev dktX9_foretells_1 : List UInt8 := dkwX9_foretells_1 ++ dktX9_foretells_2
def dkwX9_foretells_0 : List UInt8 := [3, 60, 27, 7, 162, 0, 30, 42, 180, 0, 22, 27, 42, 27, 5, 182, 0, 53, 2, 160, 0, 7, 4]
abbrev dktX9_foretells_0 : List UInt8 := dkwX9_foretells_0 ++ dktX9_foretells_1
theorem dksX9_foretells_0 : cX9_foretells.data.toList.drop 0 = dktX9_foretells_0 := by decide +kernel
theorem dksX9_foretells_1 : cX9_foretells.data.toList.drop 23 = dktX9_foretells_1 := dk_seg dksX9_foretells_0 23 rfl rfl
theorem dksX9_foretells_2 : cX9_foretells.data.toList.drop 46 = dktX9_foretells_2 := dk_seg dksX9_foretells_1 23 rfl rfl
theorem dksX9_foretells_3 : cX9_foretells.data.toList.drop 70 = dktX9_foretells_3 := dk_seg dksX9_foretells_2 24 rfl rfl
theorem dksX9_foretells_4 : cX9_foretells.data.toList.drop 93 = dktX9_foretells_4 := dk_seg dksX9_foretells_3 23 rfl rfl
theorem dksX9_foretells_5 : cX9_foretells.data.toList.drop 117 = dktX9_foretells_5 := dk_seg dksX9_foretells_4 24 rfl rfl
theorem dX9_foretells_0 : decode cX9_foretells 0 = .ok (.iconst 0, 1) := dk_3 (dk_at dksX9_foretells_0 0 rfl rfl)
theorem dX9_foretells_1 : decode cX9_foretells 1 = .ok (.istore_n 1, 1) := dk_60 (dk_at dksX9_foretells_0 1 rfl rfl)
theorem dX9_foretells_2 : decode cX9_foretells 2 = .ok (.iload_n 1, 1) := dk_27 (dk_at dksX9_foretells_0 2 rfl rfl)
theorem dX9_foretells_3 : decode cX9_foretells 3 = .ok (.iconst 4, 1) := dk_7 (dk_at dksX9_foretells_0 3 rfl rfl)
theorem dX9_foretells_4 : decode cX9_foretells 4 = .ok (.if_icmp .ge 30, 3) := dk_162 0 30 (dk_at dksX9_foretells_0 4 rfl rfl)
theorem dX9_foretells_7 : decode cX9_foretells 7 = .ok (.aload_n 0, 1) := dk_42 (dk_at dksX9_foretells_0 7 rfl rfl)
theorem dX9_foretells_8 : decode cX9_foretells 8 = .ok (.getfield 22, 3) := dk_180 0 22 (dk_at dksX9_foretells_0 8 rfl rfl)
theorem dX9_foretells_11 : decode cX9_foretells 11 = .ok (.iload_n 1, 1) := dk_27 (dk_at dksX9_foretells_0 11 rfl rfl)
theorem dX9_foretells_12 : decode cX9_foretells 12 = .ok (.aload_n 0, 1) := dk_42 (dk_at dksX9_foretells_0 12 rfl rfl)
theorem dX9_foretells_13 : decode cX9_foretells 13 = .ok (.iload_n 1, 1) := dk_27 (dk_at dksX9_foretells_0 13 rfl rfl)
theorem dX9_foretells_14 : decode cX9_foretells 14 = .ok (.iconst 2, 1) := dk_5 (dk_at dksX9_foretells_0 14 rfl rfl)
theorem dX9_foretells_15 : decode cX9_foretells 15 = .ok (.invokevirtual 53, 3) := dk_182 0 53 (dk_at dksX9_foretells_0 15 rfl rfl)
theorem dX9_foretells_18 : decode cX9_foretells 18 = .ok (.iconst (-1), 1) := dk_2 (dk_at dksX9_foretells_0 18 rfl rfl)
theorem dX9_foretells_19 : decode cX9_foretells 19 = .ok (.if_icmp .ne 7, 3) := dk_160 0 7 (dk_at dksX9_foretells_0 19 rfl rfl)
theorem dX9_foretells_22 : decode cX9_foretells 22 = .ok (.iconst 1, 1) := dk_4 (dk_at dksX9_foretells_0 22 rfl rfl)
theorem dX9_foretells_23 : decode cX9_foretells 23 = .ok (.goto 4, 3) := dk_167 0 4 (dk_at dksX9_foretells_1 0 rfl rfl)
theorem dX9_foretells_26 : decode cX9_foretells 26 = .ok (.iconst 0, 1) := dk_3 (dk_at dksX9_foretells_1 3 rfl rfl)
theorem dX9_foretells_27 : decode cX9_foretells 27 = .ok (.iastore, 1) := dk_79 (dk_at dksX9_foretells_1 4 rfl rfl)
theorem dX9_foretells_28 : decode cX9_foretells 28 = .ok (.iinc 1 1, 3) := dk_132 1 1 (dk_at dksX9_foretells_1 5 rfl rfl)
theorem dX9_foretells_31 : decode cX9_foretells 31 = .ok (.goto (-29), 3) := dk_167 255 227 (dk_at dksX9_foretells_1 8 rfl rfl)
theorem dX9_foretells_34 : decode cX9_foretells 34 = .ok (.iconst 1, 1) := dk_4 (dk_at dksX9_foretells_1 11 rfl rfl)
theorem dX9_foretells_35 : decode cX9_foretells 35 = .ok (.istore_n 1, 1) := dk_60 (dk_at dksX9_foretells_1 12 rfl rfl)
theorem dX9_foretells_36 : decode cX9_foretells 36 = .ok (.iload_n 1, 1) := dk_27 (dk_at dksX9_foretells_1 13 rfl rfl)
theorem dX9_foretells_37 : decode cX9_foretells 37 = .ok (.ifCond .eq 100, 3) := dk_153 0 100 (dk_at dksX9_foretells_1 14 rfl rfl)
theorem dX9_foretells_40 : decode cX9_foretells 40 = .ok (.iconst 0, 1) := dk_3 (dk_at dksX9_foretells_1 17 rfl rfl)
theorem dX9_foretells_41 : decode cX9_foretells 41 = .ok (.istore_n 1, 1) := dk_60 (dk_at dksX9_foretells_1 18 rfl rfl)
theorem dX9_foretells_42 : decode cX9_foretells 42 = .ok (.iconst 0, 1) := dk_3 (dk_at dksX9_foretells_1 19 rfl rfl)
theorem dX9_foretells_43 : decode cX9_foretells 43 = .ok (.istore_n 2, 1) := dk_61 (dk_at dksX9_foretells_1 20 rfl rfl)
theorem dX9_foretells_44 : decode cX9_foretells 44 = .ok (.iload_n 2, 1) := dk_28 (dk_at dksX9_foretells_1 21 rfl rfl)
theorem dX9_foretells_45 : decode cX9_foretells 45 = .ok (.iconst 4, 1) := dk_7 (dk_at dksX9_foretells_1 22 rfl rfl)
theorem dX9_foretells_46 : decode cX9_foretells 46 = .ok (.if_icmp .ge 21, 3) := dk_162 0 21 (dk_at dksX9_foretells_2 0 rfl rfl)
theorem dX9_foretells_49 : decode cX9_foretells 49 = .ok (.aload_n 0, 1) := dk_42 (dk_at dksX9_foretells_2 3 rfl rfl)
theorem dX9_foretells_50 : decode cX9_foretells 50 = .ok (.getfield 25, 3) := dk_180 0 25 (dk_at dksX9_foretells_2 4 rfl rfl)
theorem dX9_foretells_53 : decode cX9_foretells 53 = .ok (.iload_n 2, 1) := dk_28 (dk_at dksX9_foretells_2 7 rfl rfl)
theorem dX9_foretells_54 : decode cX9_foretells 54 = .ok (.aload_n 0, 1) := dk_42 (dk_at dksX9_foretells_2 8 rfl rfl)
theorem dX9_foretells_55 : decode cX9_foretells 55 = .ok (.getfield 22, 3) := dk_180 0 22 (dk_at dksX9_foretells_2 9 rfl rfl)
theorem dX9_foretells_58 : decode cX9_foretells 58 = .ok (.iload_n 2, 1) := dk_28 (dk_at dksX9_foretells_2 12 rfl rfl)
theorem dX9_foretells_59 : decode cX9_foretells 59 = .ok (.iaload, 1) := dk_46 (dk_at dksX9_foretells_2 13 rfl rfl)
theorem dX9_foretells_60 : decode cX9_foretells 60 = .ok (.iastore, 1) := dk_79 (dk_at dksX9_foretells_2 14 rfl rfl)
theorem dX9_foretells_61 : decode cX9_foretells 61 = .ok (.iinc 2 1, 3) := dk_132 2 1 (dk_at dksX9_foretells_2 15 rfl rfl)
theorem dX9_foretells_64 : decode cX9_foretells 64 = .ok (.goto (-20), 3) := dk_167 255 236 (dk_at dksX9_foretells_2 18 rfl rfl)
theorem dX9_foretells_67 : decode cX9_foretells 67 = .ok (.iconst 0, 1) := dk_3 (dk_at dksX9_foretells_2 21 rfl rfl)
theorem dX9_foretells_68 : decode cX9_foretells 68 = .ok (.istore_n 2, 1) := dk_61 (dk_at dksX9_foretells_2 22 rfl rfl)
theorem dX9_foretells_69 : decode cX9_foretells 69 = .ok (.iload_n 2, 1) := dk_28 (dk_at dksX9_foretells_2 23 rfl rfl)
theorem dX9_foretells_70 : decode cX9_foretells 70 = .ok (.iconst 4, 1) := dk_7 (dk_at dksX9_foretells_3 0 rfl rfl)
theorem dX9_foretells_71 : decode cX9_foretells 71 = .ok (.if_icmp .ge 63, 3) := dk_162 0 63 (dk_at dksX9_foretells_3 1 rfl rfl)
theorem dX9_foretells_74 : decode cX9_foretells 74 = .ok (.aload_n 0, 1) := dk_42 (dk_at dksX9_foretells_3 4 rfl rfl)
theorem dX9_foretells_75 : decode cX9_foretells 75 = .ok (.getfield 22, 3) := dk_180 0 22 (dk_at dksX9_foretells_3 5 rfl rfl)
theorem dX9_foretells_78 : decode cX9_foretells 78 = .ok (.iload_n 2, 1) := dk_28 (dk_at dksX9_foretells_3 8 rfl rfl)
theorem dX9_foretells_79 : decode cX9_foretells 79 = .ok (.aload_n 0, 1) := dk_42 (dk_at dksX9_foretells_3 9 rfl rfl)
theorem dX9_foretells_80 : decode cX9_foretells 80 = .ok (.getfield 25, 3) := dk_180 0 25 (dk_at dksX9_foretells_3 10 rfl rfl)
theorem dX9_foretells_83 : decode cX9_foretells 83 = .ok (.iload_n 2, 1) := dk_28 (dk_at dksX9_foretells_3 13 rfl rfl)
theorem dX9_foretells_84 : decode cX9_foretells 84 = .ok (.iaload, 1) := dk_46 (dk_at dksX9_foretells_3 14 rfl rfl)
theorem dX9_foretells_85 : decode cX9_foretells 85 = .ok (.ifCond .ne 11, 3) := dk_154 0 11 (dk_at dksX9_foretells_3 15 rfl rfl)
theorem dX9_foretells_88 : decode cX9_foretells 88 = .ok (.aload_n 0, 1) := dk_42 (dk_at dksX9_foretells_3 18 rfl rfl)
theorem dX9_foretells_89 : decode cX9_foretells 89 = .ok (.iload_n 2, 1) := dk_28 (dk_at dksX9_foretells_3 19 rfl rfl)
theorem dX9_foretells_90 : decode cX9_foretells 90 = .ok (.invokevirtual 97, 3) := dk_182 0 97 (dk_at dksX9_foretells_3 20 rfl rfl)
theorem dX9_foretells_93 : decode cX9_foretells 93 = .ok (.goto 9, 3) := dk_167 0 9 (dk_at dksX9_foretells_4 0 rfl rfl)
theorem dX9_foretells_96 : decode cX9_foretells 96 = .ok (.aload_n 0, 1) := dk_42 (dk_at dksX9_foretells_4 3 rfl rfl)
theorem dX9_foretells_97 : decode cX9_foretells 97 = .ok (.getfield 25, 3) := dk_180 0 25 (dk_at dksX9_foretells_4 4 rfl rfl)
theorem dX9_foretells_100 : decode cX9_foretells 100 = .ok (.iload_n 2, 1) := dk_28 (dk_at dksX9_foretells_4 7 rfl rfl)
theorem dX9_foretells_101 : decode cX9_foretells 101 = .ok (.iaload, 1) := dk_46 (dk_at dksX9_foretells_4 8 rfl rfl)
theorem dX9_foretells_102 : decode cX9_foretells 102 = .ok (.iastore, 1) := dk_79 (dk_at dksX9_foretells_4 9 rfl rfl)
theorem dX9_foretells_103 : decode cX9_foretells 103 = .ok (.iload_n 1, 1) := dk_27 (dk_at dksX9_foretells_4 10 rfl rfl)
theorem dX9_foretells_104 : decode cX9_foretells 104 = .ok (.ifCond .ne 18, 3) := dk_154 0 18 (dk_at dksX9_foretells_4 11 rfl rfl)
theorem dX9_foretells_107 : decode cX9_foretells 107 = .ok (.aload_n 0, 1) := dk_42 (dk_at dksX9_foretells_4 14 rfl rfl)
theorem dX9_foretells_108 : decode cX9_foretells 108 = .ok (.getfield 22, 3) := dk_180 0 22 (dk_at dksX9_foretells_4 15 rfl rfl)
theorem dX9_foretells_111 : decode cX9_foretells 111 = .ok (.iload_n 2, 1) := dk_28 (dk_at dksX9_foretells_4 18 rfl rfl)
theorem dX9_foretells_112 : decode cX9_foretells 112 = .ok (.iaload, 1) := dk_46 (dk_at dksX9_foretells_4 19 rfl rfl)
theorem dX9_foretells_113 : decode cX9_foretells 113 = .ok (.aload_n 0, 1) := dk_42 (dk_at dksX9_foretells_4 20 rfl rfl)
theorem dX9_foretells_114 : decode cX9_foretells 114 = .ok (.getfield 25, 3) := dk_180 0 25 (dk_at dksX9_foretells_4 21 rfl rfl)
theorem dX9_foretells_117 : decode cX9_foretells 117 = .ok (.iload_n 2, 1) := dk_28 (dk_at dksX9_foretells_5 0 rfl rfl)
theorem dX9_foretells_118 : decode cX9_foretells 118 = .ok (.iaload, 1) := dk_46 (dk_at dksX9_foretells_5 1 rfl rfl)
theorem dX9_foretells_119 : decode cX9_foretells 119 = .ok (.if_icmp .eq 7, 3) := dk_159 0 7 (dk_at dksX9_foretells_5 2 rfl rfl)
theorem dX9_foretells_122 : decode cX9_foretells 122 = .ok (.iconst 1, 1) := dk_4 (dk_at dksX9_foretells_5 5 rfl rfl)
theorem dX9_foretells_123 : decode cX9_foretells 123 = .ok (.goto 4, 3) := dk_167 0 4 (dk_at dksX9_foretells_5 6 rfl rfl)
theorem dX9_foretells_126 : decode cX9_foretells 126 = .ok (.iconst 0, 1) := dk_3 (dk_at dksX9_foretells_5 9 rfl rfl)
theorem dX9_foretells_127 : decode cX9_foretells 127 = .ok (.istore_n 1, 1) := dk_60 (dk_at dksX9_foretells_5 10 rfl rfl)
theorem dX9_foretells_128 : decode cX9_foretells 128 = .ok (.iinc 2 1, 3) := dk_132 2 1 (dk_at dksX9_foretells_5 11 rfl rfl)
theorem dX9_foretells_131 : decode cX9_foretells 131 = .ok (.goto (-62), 3) := dk_167 255 194 (dk_at dksX9_foretells_5 14 rfl rfl)
theorem dX9_foretells_134 : decode cX9_foretells 134 = .ok (.goto (-98), 3) := dk_167 255 158 (dk_at dksX9_foretells_5 17 rfl rfl)
theorem dX9_foretells_137 : decode cX9_foretells 137 = .ok (.return_, 1) := dk_177 (dk_at dksX9_foretells_5 20 rfl rfl)
abbrev cX9_failing : ByteArray := prog_17_method_31_code
def yX9_failing : MethodName := ⟨RX9, "failing", "(I)I"⟩
def dkwX9_failing_11 : List UInt8 := [153, 0, 7, 8, 167, 0, 4, 3, 172]
abbrev dktX9_failing_11 : List UInt8 := dkwX9_failing_11 ++ []
def dkwX9_failing_10 : List UInt8 := [167, 0, 31, 21, 4, 153, 0, 7, 6, 167, 0, 22, 21, 5, 153, 0, 7, 7, 167, 0, 13, 21, 6]
abbrev dktX9_failing_10 : List UInt8 := dkwX9_failing_10 ++ dktX9_failing_11
def dkwX9_failing_9 : List UInt8 := [182, 0, 91, 160, 0, 7, 4, 167, 0, 4, 3, 54, 6, 132, 7, 1, 167, 255, 54, 29, 153, 0, 7, 5]
abbrev dktX9_failing_9 : List UInt8 := dkwX9_failing_9 ++ dktX9_failing_10
def dkwX9_failing_8 : List UInt8 := [154, 0, 29, 21, 7, 27, 159, 0, 27, 21, 8, 154, 0, 22, 42, 21, 7, 3, 182, 0, 53, 42, 28]
abbrev dktX9_failing_8 : List UInt8 := dkwX9_failing_8 ++ dktX9_failing_9
def dkwX9_failing_7 : List UInt8 := [21, 7, 182, 0, 94, 42, 27, 182, 0, 94, 160, 0, 7, 4, 167, 0, 4, 3, 54, 5, 21, 6]
abbrev dktX9_failing_7 : List UInt8 := dkwX9_failing_7 ++ dktX9_failing_8
def dkwX9_failing_6 : List UInt8 := [182, 0, 94, 164, 0, 7, 4, 167, 0, 4, 3, 54, 4, 21, 5, 154, 0, 22, 21, 9, 153, 0, 21, 42]
abbrev dktX9_failing_6 : List UInt8 := dkwX9_failing_6 ++ dktX9_failing_7
def dkwX9_failing_5 : List UInt8 := [167, 0, 4, 3, 54, 9, 21, 4, 154, 0, 22, 21, 9, 153, 0, 21, 42, 21, 7, 182, 0, 94, 42, 27]
abbrev dktX9_failing_5 : List UInt8 := dkwX9_failing_5 ++ dktX9_failing_6
def dkwX9_failing_4 : List UInt8 := [153, 0, 26, 42, 42, 21, 7, 5, 182, 0, 53, 182, 0, 91, 42, 28, 182, 0, 91, 160, 0, 7, 4]
abbrev dktX9_failing_4 : List UInt8 := dkwX9_failing_4 ++ dktX9_failing_5
def dkwX9_failing_3 : List UInt8 := [182, 0, 53, 182, 0, 77, 42, 28, 182, 0, 91, 160, 0, 7, 4, 167, 0, 4, 3, 62, 21, 8]
abbrev dktX9_failing_3 : List UInt8 := dkwX9_failing_3 ++ dktX9_failing_4
def dkwX9_failing_2 : List UInt8 := [21, 7, 5, 182, 0, 53, 182, 0, 91, 42, 28, 182, 0, 77, 160, 0, 26, 42, 42, 21, 7, 5]
abbrev dktX9_failing_2 : List UInt8 := dkwX9_failing_2 ++ dktX9_failing_3
def dkwX9_failing_1 : List UInt8 := [162, 0, 202, 42, 21, 7, 27, 182, 0, 87, 54, 8, 29, 154, 0, 46, 21, 8, 153, 0, 45, 42, 42]
abbrev dktX9_failing_1 : List UInt8 := dkwX9_failing_1 ++ dktX9_failing_2
def dkwX9_failing_0 : List UInt8 := [42, 27, 5, 182, 0, 53, 61, 3, 62, 3, 54, 4, 3, 54, 5, 3, 54, 6, 3, 54, 7, 21, 7, 7]
abbrev dktX9_failing_0 : List UInt8 := dkwX9_failing_0 ++ dktX9_failing_1
theorem dksX9_failing_0 : cX9_failing.data.toList.drop 0 = dktX9_failing_0 := by decide +kernel
theorem dksX9_failing_1 : cX9_failing.data.toList.drop 24 = dktX9_failing_1 := dk_seg dksX9_failing_0 24 rfl rfl
theorem dksX9_failing_2 : cX9_failing.data.toList.drop 47 = dktX9_failing_2 := dk_seg dksX9_failing_1 23 rfl rfl
theorem dksX9_failing_3 : cX9_failing.data.toList.drop 69 = dktX9_failing_3 := dk_seg dksX9_failing_2 22 rfl rfl
theorem dksX9_failing_4 : cX9_failing.data.toList.drop 91 = dktX9_failing_4 := dk_seg dksX9_failing_3 22 rfl rfl
theorem dksX9_failing_5 : cX9_failing.data.toList.drop 114 = dktX9_failing_5 := dk_seg dksX9_failing_4 23 rfl rfl
theorem dksX9_failing_6 : cX9_failing.data.toList.drop 138 = dktX9_failing_6 := dk_seg dksX9_failing_5 24 rfl rfl
theorem dksX9_failing_7 : cX9_failing.data.toList.drop 162 = dktX9_failing_7 := dk_seg dksX9_failing_6 24 rfl rfl
theorem dksX9_failing_8 : cX9_failing.data.toList.drop 184 = dktX9_failing_8 := dk_seg dksX9_failing_7 22 rfl rfl
theorem dksX9_failing_9 : cX9_failing.data.toList.drop 207 = dktX9_failing_9 := dk_seg dksX9_failing_8 23 rfl rfl
theorem dksX9_failing_10 : cX9_failing.data.toList.drop 231 = dktX9_failing_10 := dk_seg dksX9_failing_9 24 rfl rfl
theorem dksX9_failing_11 : cX9_failing.data.toList.drop 254 = dktX9_failing_11 := dk_seg dksX9_failing_10 23 rfl rfl
theorem dX9_failing_0 : decode cX9_failing 0 = .ok (.aload_n 0, 1) := dk_42 (dk_at dksX9_failing_0 0 rfl rfl)
theorem dX9_failing_1 : decode cX9_failing 1 = .ok (.iload_n 1, 1) := dk_27 (dk_at dksX9_failing_0 1 rfl rfl)
theorem dX9_failing_2 : decode cX9_failing 2 = .ok (.iconst 2, 1) := dk_5 (dk_at dksX9_failing_0 2 rfl rfl)
theorem dX9_failing_3 : decode cX9_failing 3 = .ok (.invokevirtual 53, 3) := dk_182 0 53 (dk_at dksX9_failing_0 3 rfl rfl)
theorem dX9_failing_6 : decode cX9_failing 6 = .ok (.istore_n 2, 1) := dk_61 (dk_at dksX9_failing_0 6 rfl rfl)
theorem dX9_failing_7 : decode cX9_failing 7 = .ok (.iconst 0, 1) := dk_3 (dk_at dksX9_failing_0 7 rfl rfl)
theorem dX9_failing_8 : decode cX9_failing 8 = .ok (.istore_n 3, 1) := dk_62 (dk_at dksX9_failing_0 8 rfl rfl)
theorem dX9_failing_9 : decode cX9_failing 9 = .ok (.iconst 0, 1) := dk_3 (dk_at dksX9_failing_0 9 rfl rfl)
theorem dX9_failing_10 : decode cX9_failing 10 = .ok (.istore 4, 2) := dk_54 4 (dk_at dksX9_failing_0 10 rfl rfl)
theorem dX9_failing_12 : decode cX9_failing 12 = .ok (.iconst 0, 1) := dk_3 (dk_at dksX9_failing_0 12 rfl rfl)
theorem dX9_failing_13 : decode cX9_failing 13 = .ok (.istore 5, 2) := dk_54 5 (dk_at dksX9_failing_0 13 rfl rfl)
theorem dX9_failing_15 : decode cX9_failing 15 = .ok (.iconst 0, 1) := dk_3 (dk_at dksX9_failing_0 15 rfl rfl)
theorem dX9_failing_16 : decode cX9_failing 16 = .ok (.istore 6, 2) := dk_54 6 (dk_at dksX9_failing_0 16 rfl rfl)
theorem dX9_failing_18 : decode cX9_failing 18 = .ok (.iconst 0, 1) := dk_3 (dk_at dksX9_failing_0 18 rfl rfl)
theorem dX9_failing_19 : decode cX9_failing 19 = .ok (.istore 7, 2) := dk_54 7 (dk_at dksX9_failing_0 19 rfl rfl)
theorem dX9_failing_21 : decode cX9_failing 21 = .ok (.iload 7, 2) := dk_21 7 (dk_at dksX9_failing_0 21 rfl rfl)
theorem dX9_failing_23 : decode cX9_failing 23 = .ok (.iconst 4, 1) := dk_7 (dk_at dksX9_failing_0 23 rfl rfl)
theorem dX9_failing_24 : decode cX9_failing 24 = .ok (.if_icmp .ge 202, 3) := dk_162 0 202 (dk_at dksX9_failing_1 0 rfl rfl)
theorem dX9_failing_27 : decode cX9_failing 27 = .ok (.aload_n 0, 1) := dk_42 (dk_at dksX9_failing_1 3 rfl rfl)
theorem dX9_failing_28 : decode cX9_failing 28 = .ok (.iload 7, 2) := dk_21 7 (dk_at dksX9_failing_1 4 rfl rfl)
theorem dX9_failing_30 : decode cX9_failing 30 = .ok (.iload_n 1, 1) := dk_27 (dk_at dksX9_failing_1 6 rfl rfl)
theorem dX9_failing_31 : decode cX9_failing 31 = .ok (.invokevirtual 87, 3) := dk_182 0 87 (dk_at dksX9_failing_1 7 rfl rfl)
theorem dX9_failing_34 : decode cX9_failing 34 = .ok (.istore 8, 2) := dk_54 8 (dk_at dksX9_failing_1 10 rfl rfl)
theorem dX9_failing_36 : decode cX9_failing 36 = .ok (.iload_n 3, 1) := dk_29 (dk_at dksX9_failing_1 12 rfl rfl)
theorem dX9_failing_37 : decode cX9_failing 37 = .ok (.ifCond .ne 46, 3) := dk_154 0 46 (dk_at dksX9_failing_1 13 rfl rfl)
theorem dX9_failing_40 : decode cX9_failing 40 = .ok (.iload 8, 2) := dk_21 8 (dk_at dksX9_failing_1 16 rfl rfl)
theorem dX9_failing_42 : decode cX9_failing 42 = .ok (.ifCond .eq 45, 3) := dk_153 0 45 (dk_at dksX9_failing_1 18 rfl rfl)
theorem dX9_failing_45 : decode cX9_failing 45 = .ok (.aload_n 0, 1) := dk_42 (dk_at dksX9_failing_1 21 rfl rfl)
theorem dX9_failing_46 : decode cX9_failing 46 = .ok (.aload_n 0, 1) := dk_42 (dk_at dksX9_failing_1 22 rfl rfl)
theorem dX9_failing_47 : decode cX9_failing 47 = .ok (.iload 7, 2) := dk_21 7 (dk_at dksX9_failing_2 0 rfl rfl)
theorem dX9_failing_49 : decode cX9_failing 49 = .ok (.iconst 2, 1) := dk_5 (dk_at dksX9_failing_2 2 rfl rfl)
theorem dX9_failing_50 : decode cX9_failing 50 = .ok (.invokevirtual 53, 3) := dk_182 0 53 (dk_at dksX9_failing_2 3 rfl rfl)
theorem dX9_failing_53 : decode cX9_failing 53 = .ok (.invokevirtual 91, 3) := dk_182 0 91 (dk_at dksX9_failing_2 6 rfl rfl)
theorem dX9_failing_56 : decode cX9_failing 56 = .ok (.aload_n 0, 1) := dk_42 (dk_at dksX9_failing_2 9 rfl rfl)
theorem dX9_failing_57 : decode cX9_failing 57 = .ok (.iload_n 2, 1) := dk_28 (dk_at dksX9_failing_2 10 rfl rfl)
theorem dX9_failing_58 : decode cX9_failing 58 = .ok (.invokevirtual 77, 3) := dk_182 0 77 (dk_at dksX9_failing_2 11 rfl rfl)
theorem dX9_failing_61 : decode cX9_failing 61 = .ok (.if_icmp .ne 26, 3) := dk_160 0 26 (dk_at dksX9_failing_2 14 rfl rfl)
theorem dX9_failing_64 : decode cX9_failing 64 = .ok (.aload_n 0, 1) := dk_42 (dk_at dksX9_failing_2 17 rfl rfl)
theorem dX9_failing_65 : decode cX9_failing 65 = .ok (.aload_n 0, 1) := dk_42 (dk_at dksX9_failing_2 18 rfl rfl)
theorem dX9_failing_66 : decode cX9_failing 66 = .ok (.iload 7, 2) := dk_21 7 (dk_at dksX9_failing_2 19 rfl rfl)
theorem dX9_failing_68 : decode cX9_failing 68 = .ok (.iconst 2, 1) := dk_5 (dk_at dksX9_failing_2 21 rfl rfl)
theorem dX9_failing_69 : decode cX9_failing 69 = .ok (.invokevirtual 53, 3) := dk_182 0 53 (dk_at dksX9_failing_3 0 rfl rfl)
theorem dX9_failing_72 : decode cX9_failing 72 = .ok (.invokevirtual 77, 3) := dk_182 0 77 (dk_at dksX9_failing_3 3 rfl rfl)
theorem dX9_failing_75 : decode cX9_failing 75 = .ok (.aload_n 0, 1) := dk_42 (dk_at dksX9_failing_3 6 rfl rfl)
theorem dX9_failing_76 : decode cX9_failing 76 = .ok (.iload_n 2, 1) := dk_28 (dk_at dksX9_failing_3 7 rfl rfl)
theorem dX9_failing_77 : decode cX9_failing 77 = .ok (.invokevirtual 91, 3) := dk_182 0 91 (dk_at dksX9_failing_3 8 rfl rfl)
theorem dX9_failing_80 : decode cX9_failing 80 = .ok (.if_icmp .ne 7, 3) := dk_160 0 7 (dk_at dksX9_failing_3 11 rfl rfl)
theorem dX9_failing_83 : decode cX9_failing 83 = .ok (.iconst 1, 1) := dk_4 (dk_at dksX9_failing_3 14 rfl rfl)
theorem dX9_failing_84 : decode cX9_failing 84 = .ok (.goto 4, 3) := dk_167 0 4 (dk_at dksX9_failing_3 15 rfl rfl)
theorem dX9_failing_87 : decode cX9_failing 87 = .ok (.iconst 0, 1) := dk_3 (dk_at dksX9_failing_3 18 rfl rfl)
theorem dX9_failing_88 : decode cX9_failing 88 = .ok (.istore_n 3, 1) := dk_62 (dk_at dksX9_failing_3 19 rfl rfl)
theorem dX9_failing_89 : decode cX9_failing 89 = .ok (.iload 8, 2) := dk_21 8 (dk_at dksX9_failing_3 20 rfl rfl)
theorem dX9_failing_91 : decode cX9_failing 91 = .ok (.ifCond .eq 26, 3) := dk_153 0 26 (dk_at dksX9_failing_4 0 rfl rfl)
theorem dX9_failing_94 : decode cX9_failing 94 = .ok (.aload_n 0, 1) := dk_42 (dk_at dksX9_failing_4 3 rfl rfl)
theorem dX9_failing_95 : decode cX9_failing 95 = .ok (.aload_n 0, 1) := dk_42 (dk_at dksX9_failing_4 4 rfl rfl)
theorem dX9_failing_96 : decode cX9_failing 96 = .ok (.iload 7, 2) := dk_21 7 (dk_at dksX9_failing_4 5 rfl rfl)
theorem dX9_failing_98 : decode cX9_failing 98 = .ok (.iconst 2, 1) := dk_5 (dk_at dksX9_failing_4 7 rfl rfl)
theorem dX9_failing_99 : decode cX9_failing 99 = .ok (.invokevirtual 53, 3) := dk_182 0 53 (dk_at dksX9_failing_4 8 rfl rfl)
theorem dX9_failing_102 : decode cX9_failing 102 = .ok (.invokevirtual 91, 3) := dk_182 0 91 (dk_at dksX9_failing_4 11 rfl rfl)
theorem dX9_failing_105 : decode cX9_failing 105 = .ok (.aload_n 0, 1) := dk_42 (dk_at dksX9_failing_4 14 rfl rfl)
theorem dX9_failing_106 : decode cX9_failing 106 = .ok (.iload_n 2, 1) := dk_28 (dk_at dksX9_failing_4 15 rfl rfl)
theorem dX9_failing_107 : decode cX9_failing 107 = .ok (.invokevirtual 91, 3) := dk_182 0 91 (dk_at dksX9_failing_4 16 rfl rfl)
theorem dX9_failing_110 : decode cX9_failing 110 = .ok (.if_icmp .ne 7, 3) := dk_160 0 7 (dk_at dksX9_failing_4 19 rfl rfl)
theorem dX9_failing_113 : decode cX9_failing 113 = .ok (.iconst 1, 1) := dk_4 (dk_at dksX9_failing_4 22 rfl rfl)
theorem dX9_failing_114 : decode cX9_failing 114 = .ok (.goto 4, 3) := dk_167 0 4 (dk_at dksX9_failing_5 0 rfl rfl)
theorem dX9_failing_117 : decode cX9_failing 117 = .ok (.iconst 0, 1) := dk_3 (dk_at dksX9_failing_5 3 rfl rfl)
theorem dX9_failing_118 : decode cX9_failing 118 = .ok (.istore 9, 2) := dk_54 9 (dk_at dksX9_failing_5 4 rfl rfl)
theorem dX9_failing_120 : decode cX9_failing 120 = .ok (.iload 4, 2) := dk_21 4 (dk_at dksX9_failing_5 6 rfl rfl)
theorem dX9_failing_122 : decode cX9_failing 122 = .ok (.ifCond .ne 22, 3) := dk_154 0 22 (dk_at dksX9_failing_5 8 rfl rfl)
theorem dX9_failing_125 : decode cX9_failing 125 = .ok (.iload 9, 2) := dk_21 9 (dk_at dksX9_failing_5 11 rfl rfl)
theorem dX9_failing_127 : decode cX9_failing 127 = .ok (.ifCond .eq 21, 3) := dk_153 0 21 (dk_at dksX9_failing_5 13 rfl rfl)
theorem dX9_failing_130 : decode cX9_failing 130 = .ok (.aload_n 0, 1) := dk_42 (dk_at dksX9_failing_5 16 rfl rfl)
theorem dX9_failing_131 : decode cX9_failing 131 = .ok (.iload 7, 2) := dk_21 7 (dk_at dksX9_failing_5 17 rfl rfl)
theorem dX9_failing_133 : decode cX9_failing 133 = .ok (.invokevirtual 94, 3) := dk_182 0 94 (dk_at dksX9_failing_5 19 rfl rfl)
theorem dX9_failing_136 : decode cX9_failing 136 = .ok (.aload_n 0, 1) := dk_42 (dk_at dksX9_failing_5 22 rfl rfl)
theorem dX9_failing_137 : decode cX9_failing 137 = .ok (.iload_n 1, 1) := dk_27 (dk_at dksX9_failing_5 23 rfl rfl)
theorem dX9_failing_138 : decode cX9_failing 138 = .ok (.invokevirtual 94, 3) := dk_182 0 94 (dk_at dksX9_failing_6 0 rfl rfl)
theorem dX9_failing_141 : decode cX9_failing 141 = .ok (.if_icmp .le 7, 3) := dk_164 0 7 (dk_at dksX9_failing_6 3 rfl rfl)
theorem dX9_failing_144 : decode cX9_failing 144 = .ok (.iconst 1, 1) := dk_4 (dk_at dksX9_failing_6 6 rfl rfl)
theorem dX9_failing_145 : decode cX9_failing 145 = .ok (.goto 4, 3) := dk_167 0 4 (dk_at dksX9_failing_6 7 rfl rfl)
theorem dX9_failing_148 : decode cX9_failing 148 = .ok (.iconst 0, 1) := dk_3 (dk_at dksX9_failing_6 10 rfl rfl)
theorem dX9_failing_149 : decode cX9_failing 149 = .ok (.istore 4, 2) := dk_54 4 (dk_at dksX9_failing_6 11 rfl rfl)
theorem dX9_failing_151 : decode cX9_failing 151 = .ok (.iload 5, 2) := dk_21 5 (dk_at dksX9_failing_6 13 rfl rfl)
theorem dX9_failing_153 : decode cX9_failing 153 = .ok (.ifCond .ne 22, 3) := dk_154 0 22 (dk_at dksX9_failing_6 15 rfl rfl)
theorem dX9_failing_156 : decode cX9_failing 156 = .ok (.iload 9, 2) := dk_21 9 (dk_at dksX9_failing_6 18 rfl rfl)
theorem dX9_failing_158 : decode cX9_failing 158 = .ok (.ifCond .eq 21, 3) := dk_153 0 21 (dk_at dksX9_failing_6 20 rfl rfl)
theorem dX9_failing_161 : decode cX9_failing 161 = .ok (.aload_n 0, 1) := dk_42 (dk_at dksX9_failing_6 23 rfl rfl)
theorem dX9_failing_162 : decode cX9_failing 162 = .ok (.iload 7, 2) := dk_21 7 (dk_at dksX9_failing_7 0 rfl rfl)
theorem dX9_failing_164 : decode cX9_failing 164 = .ok (.invokevirtual 94, 3) := dk_182 0 94 (dk_at dksX9_failing_7 2 rfl rfl)
theorem dX9_failing_167 : decode cX9_failing 167 = .ok (.aload_n 0, 1) := dk_42 (dk_at dksX9_failing_7 5 rfl rfl)
theorem dX9_failing_168 : decode cX9_failing 168 = .ok (.iload_n 1, 1) := dk_27 (dk_at dksX9_failing_7 6 rfl rfl)
theorem dX9_failing_169 : decode cX9_failing 169 = .ok (.invokevirtual 94, 3) := dk_182 0 94 (dk_at dksX9_failing_7 7 rfl rfl)
theorem dX9_failing_172 : decode cX9_failing 172 = .ok (.if_icmp .ne 7, 3) := dk_160 0 7 (dk_at dksX9_failing_7 10 rfl rfl)
theorem dX9_failing_175 : decode cX9_failing 175 = .ok (.iconst 1, 1) := dk_4 (dk_at dksX9_failing_7 13 rfl rfl)
theorem dX9_failing_176 : decode cX9_failing 176 = .ok (.goto 4, 3) := dk_167 0 4 (dk_at dksX9_failing_7 14 rfl rfl)
theorem dX9_failing_179 : decode cX9_failing 179 = .ok (.iconst 0, 1) := dk_3 (dk_at dksX9_failing_7 17 rfl rfl)
theorem dX9_failing_180 : decode cX9_failing 180 = .ok (.istore 5, 2) := dk_54 5 (dk_at dksX9_failing_7 18 rfl rfl)
theorem dX9_failing_182 : decode cX9_failing 182 = .ok (.iload 6, 2) := dk_21 6 (dk_at dksX9_failing_7 20 rfl rfl)
theorem dX9_failing_184 : decode cX9_failing 184 = .ok (.ifCond .ne 29, 3) := dk_154 0 29 (dk_at dksX9_failing_8 0 rfl rfl)
theorem dX9_failing_187 : decode cX9_failing 187 = .ok (.iload 7, 2) := dk_21 7 (dk_at dksX9_failing_8 3 rfl rfl)
theorem dX9_failing_189 : decode cX9_failing 189 = .ok (.iload_n 1, 1) := dk_27 (dk_at dksX9_failing_8 5 rfl rfl)
theorem dX9_failing_190 : decode cX9_failing 190 = .ok (.if_icmp .eq 27, 3) := dk_159 0 27 (dk_at dksX9_failing_8 6 rfl rfl)
theorem dX9_failing_193 : decode cX9_failing 193 = .ok (.iload 8, 2) := dk_21 8 (dk_at dksX9_failing_8 9 rfl rfl)
theorem dX9_failing_195 : decode cX9_failing 195 = .ok (.ifCond .ne 22, 3) := dk_154 0 22 (dk_at dksX9_failing_8 11 rfl rfl)
theorem dX9_failing_198 : decode cX9_failing 198 = .ok (.aload_n 0, 1) := dk_42 (dk_at dksX9_failing_8 14 rfl rfl)
theorem dX9_failing_199 : decode cX9_failing 199 = .ok (.iload 7, 2) := dk_21 7 (dk_at dksX9_failing_8 15 rfl rfl)
theorem dX9_failing_201 : decode cX9_failing 201 = .ok (.iconst 0, 1) := dk_3 (dk_at dksX9_failing_8 17 rfl rfl)
theorem dX9_failing_202 : decode cX9_failing 202 = .ok (.invokevirtual 53, 3) := dk_182 0 53 (dk_at dksX9_failing_8 18 rfl rfl)
theorem dX9_failing_205 : decode cX9_failing 205 = .ok (.aload_n 0, 1) := dk_42 (dk_at dksX9_failing_8 21 rfl rfl)
theorem dX9_failing_206 : decode cX9_failing 206 = .ok (.iload_n 2, 1) := dk_28 (dk_at dksX9_failing_8 22 rfl rfl)
theorem dX9_failing_207 : decode cX9_failing 207 = .ok (.invokevirtual 91, 3) := dk_182 0 91 (dk_at dksX9_failing_9 0 rfl rfl)
theorem dX9_failing_210 : decode cX9_failing 210 = .ok (.if_icmp .ne 7, 3) := dk_160 0 7 (dk_at dksX9_failing_9 3 rfl rfl)
theorem dX9_failing_213 : decode cX9_failing 213 = .ok (.iconst 1, 1) := dk_4 (dk_at dksX9_failing_9 6 rfl rfl)
theorem dX9_failing_214 : decode cX9_failing 214 = .ok (.goto 4, 3) := dk_167 0 4 (dk_at dksX9_failing_9 7 rfl rfl)
theorem dX9_failing_217 : decode cX9_failing 217 = .ok (.iconst 0, 1) := dk_3 (dk_at dksX9_failing_9 10 rfl rfl)
theorem dX9_failing_218 : decode cX9_failing 218 = .ok (.istore 6, 2) := dk_54 6 (dk_at dksX9_failing_9 11 rfl rfl)
theorem dX9_failing_220 : decode cX9_failing 220 = .ok (.iinc 7 1, 3) := dk_132 7 1 (dk_at dksX9_failing_9 13 rfl rfl)
theorem dX9_failing_223 : decode cX9_failing 223 = .ok (.goto (-202), 3) := dk_167 255 54 (dk_at dksX9_failing_9 16 rfl rfl)
theorem dX9_failing_226 : decode cX9_failing 226 = .ok (.iload_n 3, 1) := dk_29 (dk_at dksX9_failing_9 19 rfl rfl)
theorem dX9_failing_227 : decode cX9_failing 227 = .ok (.ifCond .eq 7, 3) := dk_153 0 7 (dk_at dksX9_failing_9 20 rfl rfl)
theorem dX9_failing_230 : decode cX9_failing 230 = .ok (.iconst 2, 1) := dk_5 (dk_at dksX9_failing_9 23 rfl rfl)
theorem dX9_failing_231 : decode cX9_failing 231 = .ok (.goto 31, 3) := dk_167 0 31 (dk_at dksX9_failing_10 0 rfl rfl)
theorem dX9_failing_234 : decode cX9_failing 234 = .ok (.iload 4, 2) := dk_21 4 (dk_at dksX9_failing_10 3 rfl rfl)
theorem dX9_failing_236 : decode cX9_failing 236 = .ok (.ifCond .eq 7, 3) := dk_153 0 7 (dk_at dksX9_failing_10 5 rfl rfl)
theorem dX9_failing_239 : decode cX9_failing 239 = .ok (.iconst 3, 1) := dk_6 (dk_at dksX9_failing_10 8 rfl rfl)
theorem dX9_failing_240 : decode cX9_failing 240 = .ok (.goto 22, 3) := dk_167 0 22 (dk_at dksX9_failing_10 9 rfl rfl)
theorem dX9_failing_243 : decode cX9_failing 243 = .ok (.iload 5, 2) := dk_21 5 (dk_at dksX9_failing_10 12 rfl rfl)
theorem dX9_failing_245 : decode cX9_failing 245 = .ok (.ifCond .eq 7, 3) := dk_153 0 7 (dk_at dksX9_failing_10 14 rfl rfl)
theorem dX9_failing_248 : decode cX9_failing 248 = .ok (.iconst 4, 1) := dk_7 (dk_at dksX9_failing_10 17 rfl rfl)
theorem dX9_failing_249 : decode cX9_failing 249 = .ok (.goto 13, 3) := dk_167 0 13 (dk_at dksX9_failing_10 18 rfl rfl)
theorem dX9_failing_252 : decode cX9_failing 252 = .ok (.iload 6, 2) := dk_21 6 (dk_at dksX9_failing_10 21 rfl rfl)
theorem dX9_failing_254 : decode cX9_failing 254 = .ok (.ifCond .eq 7, 3) := dk_153 0 7 (dk_at dksX9_failing_11 0 rfl rfl)
theorem dX9_failing_257 : decode cX9_failing 257 = .ok (.iconst 5, 1) := dk_8 (dk_at dksX9_failing_11 3 rfl rfl)
theorem dX9_failing_258 : decode cX9_failing 258 = .ok (.goto 4, 3) := dk_167 0 4 (dk_at dksX9_failing_11 4 rfl rfl)
theorem dX9_failing_261 : decode cX9_failing 261 = .ok (.iconst 0, 1) := dk_3 (dk_at dksX9_failing_11 7 rfl rfl)
theorem dX9_failing_262 : decode cX9_failing 262 = .ok (.ireturn, 1) := dk_172 (dk_at dksX9_failing_11 8 rfl rfl)
abbrev cX9_isMoving : ByteArray := prog_17_method_30_code
def yX9_isMoving : MethodName := ⟨RX9, "isMoving", "(II)Z"⟩
def dkwX9_isMoving_0 : List UInt8 := [27, 28, 159, 0, 16, 42, 180, 0, 25, 27, 46, 154, 0, 7, 4, 167, 0, 4, 3, 172]
abbrev dktX9_isMoving_0 : List UInt8 := dkwX9_isMoving_0 ++ []
theorem dksX9_isMoving_0 : cX9_isMoving.data.toList.drop 0 = dktX9_isMoving_0 := by decide +kernel
theorem dX9_isMoving_0 : decode cX9_isMoving 0 = .ok (.iload_n 1, 1) := dk_27 (dk_at dksX9_isMoving_0 0 rfl rfl)
theorem dX9_isMoving_1 : decode cX9_isMoving 1 = .ok (.iload_n 2, 1) := dk_28 (dk_at dksX9_isMoving_0 1 rfl rfl)
theorem dX9_isMoving_2 : decode cX9_isMoving 2 = .ok (.if_icmp .eq 16, 3) := dk_159 0 16 (dk_at dksX9_isMoving_0 2 rfl rfl)
theorem dX9_isMoving_5 : decode cX9_isMoving 5 = .ok (.aload_n 0, 1) := dk_42 (dk_at dksX9_isMoving_0 5 rfl rfl)
theorem dX9_isMoving_6 : decode cX9_isMoving 6 = .ok (.getfield 25, 3) := dk_180 0 25 (dk_at dksX9_isMoving_0 6 rfl rfl)
theorem dX9_isMoving_9 : decode cX9_isMoving 9 = .ok (.iload_n 1, 1) := dk_27 (dk_at dksX9_isMoving_0 9 rfl rfl)
theorem dX9_isMoving_10 : decode cX9_isMoving 10 = .ok (.iaload, 1) := dk_46 (dk_at dksX9_isMoving_0 10 rfl rfl)
theorem dX9_isMoving_11 : decode cX9_isMoving 11 = .ok (.ifCond .ne 7, 3) := dk_154 0 7 (dk_at dksX9_isMoving_0 11 rfl rfl)
theorem dX9_isMoving_14 : decode cX9_isMoving 14 = .ok (.iconst 1, 1) := dk_4 (dk_at dksX9_isMoving_0 14 rfl rfl)
theorem dX9_isMoving_15 : decode cX9_isMoving 15 = .ok (.goto 4, 3) := dk_167 0 4 (dk_at dksX9_isMoving_0 15 rfl rfl)
theorem dX9_isMoving_18 : decode cX9_isMoving 18 = .ok (.iconst 0, 1) := dk_3 (dk_at dksX9_isMoving_0 18 rfl rfl)
theorem dX9_isMoving_19 : decode cX9_isMoving 19 = .ok (.ireturn, 1) := dk_172 (dk_at dksX9_isMoving_0 19 rfl rfl)
abbrev cX9_serves : ByteArray := prog_17_method_35_code
def yX9_serves : MethodName := ⟨RX9, "serves", "(I)V"⟩
def dkwX9_serves_6 : List UInt8 := [167, 255, 206, 177]
abbrev dktX9_serves_6 : List UInt8 := dkwX9_serves_6 ++ []
def dkwX9_serves_5 : List UInt8 := [27, 182, 0, 109, 163, 0, 17, 42, 29, 7, 4, 182, 0, 103, 42, 29, 8, 27, 182, 0, 103, 21, 4, 62]
abbrev dktX9_serves_5 : List UInt8 := dkwX9_serves_5 ++ dktX9_serves_6
def dkwX9_serves_4 : List UInt8 := [159, 0, 51, 42, 28, 29, 182, 0, 106, 54, 4, 42, 27, 182, 0, 94, 42, 29, 5, 182, 0, 49, 96, 42]
abbrev dktX9_serves_4 : List UInt8 := dkwX9_serves_4 ++ dktX9_serves_5
def dkwX9_serves_3 : List UInt8 := [29, 6, 182, 0, 49, 96, 79, 132, 3, 1, 167, 255, 184, 42, 28, 2, 182, 0, 106, 62, 29, 2]
abbrev dktX9_serves_3 : List UInt8 := dkwX9_serves_3 ++ dktX9_serves_4
def dkwX9_serves_2 : List UInt8 := [160, 0, 31, 42, 29, 7, 5, 182, 0, 103, 42, 180, 0, 7, 17, 0, 170, 27, 5, 108, 96, 92, 46, 42]
abbrev dktX9_serves_2 : List UInt8 := dkwX9_serves_2 ++ dktX9_serves_3
def dkwX9_serves_1 : List UInt8 := [182, 0, 49, 4, 160, 0, 51, 42, 29, 8, 182, 0, 49, 27, 160, 0, 41, 42, 29, 4, 182, 0, 49, 28]
abbrev dktX9_serves_1 : List UInt8 := dkwX9_serves_1 ++ dktX9_serves_2
def dkwX9_serves_0 : List UInt8 := [42, 27, 3, 182, 0, 53, 61, 3, 62, 29, 42, 180, 0, 7, 16, 117, 46, 162, 0, 67, 42, 29, 7]
abbrev dktX9_serves_0 : List UInt8 := dkwX9_serves_0 ++ dktX9_serves_1
theorem dksX9_serves_0 : cX9_serves.data.toList.drop 0 = dktX9_serves_0 := by decide +kernel
theorem dksX9_serves_1 : cX9_serves.data.toList.drop 23 = dktX9_serves_1 := dk_seg dksX9_serves_0 23 rfl rfl
theorem dksX9_serves_2 : cX9_serves.data.toList.drop 47 = dktX9_serves_2 := dk_seg dksX9_serves_1 24 rfl rfl
theorem dksX9_serves_3 : cX9_serves.data.toList.drop 71 = dktX9_serves_3 := dk_seg dksX9_serves_2 24 rfl rfl
theorem dksX9_serves_4 : cX9_serves.data.toList.drop 93 = dktX9_serves_4 := dk_seg dksX9_serves_3 22 rfl rfl
theorem dksX9_serves_5 : cX9_serves.data.toList.drop 117 = dktX9_serves_5 := dk_seg dksX9_serves_4 24 rfl rfl
theorem dksX9_serves_6 : cX9_serves.data.toList.drop 141 = dktX9_serves_6 := dk_seg dksX9_serves_5 24 rfl rfl
theorem dX9_serves_0 : decode cX9_serves 0 = .ok (.aload_n 0, 1) := dk_42 (dk_at dksX9_serves_0 0 rfl rfl)
theorem dX9_serves_1 : decode cX9_serves 1 = .ok (.iload_n 1, 1) := dk_27 (dk_at dksX9_serves_0 1 rfl rfl)
theorem dX9_serves_2 : decode cX9_serves 2 = .ok (.iconst 0, 1) := dk_3 (dk_at dksX9_serves_0 2 rfl rfl)
theorem dX9_serves_3 : decode cX9_serves 3 = .ok (.invokevirtual 53, 3) := dk_182 0 53 (dk_at dksX9_serves_0 3 rfl rfl)
theorem dX9_serves_6 : decode cX9_serves 6 = .ok (.istore_n 2, 1) := dk_61 (dk_at dksX9_serves_0 6 rfl rfl)
theorem dX9_serves_7 : decode cX9_serves 7 = .ok (.iconst 0, 1) := dk_3 (dk_at dksX9_serves_0 7 rfl rfl)
theorem dX9_serves_8 : decode cX9_serves 8 = .ok (.istore_n 3, 1) := dk_62 (dk_at dksX9_serves_0 8 rfl rfl)
theorem dX9_serves_9 : decode cX9_serves 9 = .ok (.iload_n 3, 1) := dk_29 (dk_at dksX9_serves_0 9 rfl rfl)
theorem dX9_serves_10 : decode cX9_serves 10 = .ok (.aload_n 0, 1) := dk_42 (dk_at dksX9_serves_0 10 rfl rfl)
theorem dX9_serves_11 : decode cX9_serves 11 = .ok (.getfield 7, 3) := dk_180 0 7 (dk_at dksX9_serves_0 11 rfl rfl)
theorem dX9_serves_14 : decode cX9_serves 14 = .ok (.bipush 117, 2) := dk_16 117 (dk_at dksX9_serves_0 14 rfl rfl)
theorem dX9_serves_16 : decode cX9_serves 16 = .ok (.iaload, 1) := dk_46 (dk_at dksX9_serves_0 16 rfl rfl)
theorem dX9_serves_17 : decode cX9_serves 17 = .ok (.if_icmp .ge 67, 3) := dk_162 0 67 (dk_at dksX9_serves_0 17 rfl rfl)
theorem dX9_serves_20 : decode cX9_serves 20 = .ok (.aload_n 0, 1) := dk_42 (dk_at dksX9_serves_0 20 rfl rfl)
theorem dX9_serves_21 : decode cX9_serves 21 = .ok (.iload_n 3, 1) := dk_29 (dk_at dksX9_serves_0 21 rfl rfl)
theorem dX9_serves_22 : decode cX9_serves 22 = .ok (.iconst 4, 1) := dk_7 (dk_at dksX9_serves_0 22 rfl rfl)
theorem dX9_serves_23 : decode cX9_serves 23 = .ok (.invokevirtual 49, 3) := dk_182 0 49 (dk_at dksX9_serves_1 0 rfl rfl)
theorem dX9_serves_26 : decode cX9_serves 26 = .ok (.iconst 1, 1) := dk_4 (dk_at dksX9_serves_1 3 rfl rfl)
theorem dX9_serves_27 : decode cX9_serves 27 = .ok (.if_icmp .ne 51, 3) := dk_160 0 51 (dk_at dksX9_serves_1 4 rfl rfl)
theorem dX9_serves_30 : decode cX9_serves 30 = .ok (.aload_n 0, 1) := dk_42 (dk_at dksX9_serves_1 7 rfl rfl)
theorem dX9_serves_31 : decode cX9_serves 31 = .ok (.iload_n 3, 1) := dk_29 (dk_at dksX9_serves_1 8 rfl rfl)
theorem dX9_serves_32 : decode cX9_serves 32 = .ok (.iconst 5, 1) := dk_8 (dk_at dksX9_serves_1 9 rfl rfl)
theorem dX9_serves_33 : decode cX9_serves 33 = .ok (.invokevirtual 49, 3) := dk_182 0 49 (dk_at dksX9_serves_1 10 rfl rfl)
theorem dX9_serves_36 : decode cX9_serves 36 = .ok (.iload_n 1, 1) := dk_27 (dk_at dksX9_serves_1 13 rfl rfl)
theorem dX9_serves_37 : decode cX9_serves 37 = .ok (.if_icmp .ne 41, 3) := dk_160 0 41 (dk_at dksX9_serves_1 14 rfl rfl)
theorem dX9_serves_40 : decode cX9_serves 40 = .ok (.aload_n 0, 1) := dk_42 (dk_at dksX9_serves_1 17 rfl rfl)
theorem dX9_serves_41 : decode cX9_serves 41 = .ok (.iload_n 3, 1) := dk_29 (dk_at dksX9_serves_1 18 rfl rfl)
theorem dX9_serves_42 : decode cX9_serves 42 = .ok (.iconst 1, 1) := dk_4 (dk_at dksX9_serves_1 19 rfl rfl)
theorem dX9_serves_43 : decode cX9_serves 43 = .ok (.invokevirtual 49, 3) := dk_182 0 49 (dk_at dksX9_serves_1 20 rfl rfl)
theorem dX9_serves_46 : decode cX9_serves 46 = .ok (.iload_n 2, 1) := dk_28 (dk_at dksX9_serves_1 23 rfl rfl)
theorem dX9_serves_47 : decode cX9_serves 47 = .ok (.if_icmp .ne 31, 3) := dk_160 0 31 (dk_at dksX9_serves_2 0 rfl rfl)
theorem dX9_serves_50 : decode cX9_serves 50 = .ok (.aload_n 0, 1) := dk_42 (dk_at dksX9_serves_2 3 rfl rfl)
theorem dX9_serves_51 : decode cX9_serves 51 = .ok (.iload_n 3, 1) := dk_29 (dk_at dksX9_serves_2 4 rfl rfl)
theorem dX9_serves_52 : decode cX9_serves 52 = .ok (.iconst 4, 1) := dk_7 (dk_at dksX9_serves_2 5 rfl rfl)
theorem dX9_serves_53 : decode cX9_serves 53 = .ok (.iconst 2, 1) := dk_5 (dk_at dksX9_serves_2 6 rfl rfl)
theorem dX9_serves_54 : decode cX9_serves 54 = .ok (.invokevirtual 103, 3) := dk_182 0 103 (dk_at dksX9_serves_2 7 rfl rfl)
theorem dX9_serves_57 : decode cX9_serves 57 = .ok (.aload_n 0, 1) := dk_42 (dk_at dksX9_serves_2 10 rfl rfl)
theorem dX9_serves_58 : decode cX9_serves 58 = .ok (.getfield 7, 3) := dk_180 0 7 (dk_at dksX9_serves_2 11 rfl rfl)
theorem dX9_serves_61 : decode cX9_serves 61 = .ok (.sipush 170, 3) := dk_17 0 170 (dk_at dksX9_serves_2 14 rfl rfl)
theorem dX9_serves_64 : decode cX9_serves 64 = .ok (.iload_n 1, 1) := dk_27 (dk_at dksX9_serves_2 17 rfl rfl)
theorem dX9_serves_65 : decode cX9_serves 65 = .ok (.iconst 2, 1) := dk_5 (dk_at dksX9_serves_2 18 rfl rfl)
theorem dX9_serves_66 : decode cX9_serves 66 = .ok (.idiv, 1) := dk_108 (dk_at dksX9_serves_2 19 rfl rfl)
theorem dX9_serves_67 : decode cX9_serves 67 = .ok (.iadd, 1) := dk_96 (dk_at dksX9_serves_2 20 rfl rfl)
theorem dX9_serves_68 : decode cX9_serves 68 = .ok (.dup2, 1) := dk_92 (dk_at dksX9_serves_2 21 rfl rfl)
theorem dX9_serves_69 : decode cX9_serves 69 = .ok (.iaload, 1) := dk_46 (dk_at dksX9_serves_2 22 rfl rfl)
theorem dX9_serves_70 : decode cX9_serves 70 = .ok (.aload_n 0, 1) := dk_42 (dk_at dksX9_serves_2 23 rfl rfl)
theorem dX9_serves_71 : decode cX9_serves 71 = .ok (.iload_n 3, 1) := dk_29 (dk_at dksX9_serves_3 0 rfl rfl)
theorem dX9_serves_72 : decode cX9_serves 72 = .ok (.iconst 3, 1) := dk_6 (dk_at dksX9_serves_3 1 rfl rfl)
theorem dX9_serves_73 : decode cX9_serves 73 = .ok (.invokevirtual 49, 3) := dk_182 0 49 (dk_at dksX9_serves_3 2 rfl rfl)
theorem dX9_serves_76 : decode cX9_serves 76 = .ok (.iadd, 1) := dk_96 (dk_at dksX9_serves_3 5 rfl rfl)
theorem dX9_serves_77 : decode cX9_serves 77 = .ok (.iastore, 1) := dk_79 (dk_at dksX9_serves_3 6 rfl rfl)
theorem dX9_serves_78 : decode cX9_serves 78 = .ok (.iinc 3 1, 3) := dk_132 3 1 (dk_at dksX9_serves_3 7 rfl rfl)
theorem dX9_serves_81 : decode cX9_serves 81 = .ok (.goto (-72), 3) := dk_167 255 184 (dk_at dksX9_serves_3 10 rfl rfl)
theorem dX9_serves_84 : decode cX9_serves 84 = .ok (.aload_n 0, 1) := dk_42 (dk_at dksX9_serves_3 13 rfl rfl)
theorem dX9_serves_85 : decode cX9_serves 85 = .ok (.iload_n 2, 1) := dk_28 (dk_at dksX9_serves_3 14 rfl rfl)
theorem dX9_serves_86 : decode cX9_serves 86 = .ok (.iconst (-1), 1) := dk_2 (dk_at dksX9_serves_3 15 rfl rfl)
theorem dX9_serves_87 : decode cX9_serves 87 = .ok (.invokevirtual 106, 3) := dk_182 0 106 (dk_at dksX9_serves_3 16 rfl rfl)
theorem dX9_serves_90 : decode cX9_serves 90 = .ok (.istore_n 3, 1) := dk_62 (dk_at dksX9_serves_3 19 rfl rfl)
theorem dX9_serves_91 : decode cX9_serves 91 = .ok (.iload_n 3, 1) := dk_29 (dk_at dksX9_serves_3 20 rfl rfl)
theorem dX9_serves_92 : decode cX9_serves 92 = .ok (.iconst (-1), 1) := dk_2 (dk_at dksX9_serves_3 21 rfl rfl)
theorem dX9_serves_93 : decode cX9_serves 93 = .ok (.if_icmp .eq 51, 3) := dk_159 0 51 (dk_at dksX9_serves_4 0 rfl rfl)
theorem dX9_serves_96 : decode cX9_serves 96 = .ok (.aload_n 0, 1) := dk_42 (dk_at dksX9_serves_4 3 rfl rfl)
theorem dX9_serves_97 : decode cX9_serves 97 = .ok (.iload_n 2, 1) := dk_28 (dk_at dksX9_serves_4 4 rfl rfl)
theorem dX9_serves_98 : decode cX9_serves 98 = .ok (.iload_n 3, 1) := dk_29 (dk_at dksX9_serves_4 5 rfl rfl)
theorem dX9_serves_99 : decode cX9_serves 99 = .ok (.invokevirtual 106, 3) := dk_182 0 106 (dk_at dksX9_serves_4 6 rfl rfl)
theorem dX9_serves_102 : decode cX9_serves 102 = .ok (.istore 4, 2) := dk_54 4 (dk_at dksX9_serves_4 9 rfl rfl)
theorem dX9_serves_104 : decode cX9_serves 104 = .ok (.aload_n 0, 1) := dk_42 (dk_at dksX9_serves_4 11 rfl rfl)
theorem dX9_serves_105 : decode cX9_serves 105 = .ok (.iload_n 1, 1) := dk_27 (dk_at dksX9_serves_4 12 rfl rfl)
theorem dX9_serves_106 : decode cX9_serves 106 = .ok (.invokevirtual 94, 3) := dk_182 0 94 (dk_at dksX9_serves_4 13 rfl rfl)
theorem dX9_serves_109 : decode cX9_serves 109 = .ok (.aload_n 0, 1) := dk_42 (dk_at dksX9_serves_4 16 rfl rfl)
theorem dX9_serves_110 : decode cX9_serves 110 = .ok (.iload_n 3, 1) := dk_29 (dk_at dksX9_serves_4 17 rfl rfl)
theorem dX9_serves_111 : decode cX9_serves 111 = .ok (.iconst 2, 1) := dk_5 (dk_at dksX9_serves_4 18 rfl rfl)
theorem dX9_serves_112 : decode cX9_serves 112 = .ok (.invokevirtual 49, 3) := dk_182 0 49 (dk_at dksX9_serves_4 19 rfl rfl)
theorem dX9_serves_115 : decode cX9_serves 115 = .ok (.iadd, 1) := dk_96 (dk_at dksX9_serves_4 22 rfl rfl)
theorem dX9_serves_116 : decode cX9_serves 116 = .ok (.aload_n 0, 1) := dk_42 (dk_at dksX9_serves_4 23 rfl rfl)
theorem dX9_serves_117 : decode cX9_serves 117 = .ok (.iload_n 1, 1) := dk_27 (dk_at dksX9_serves_5 0 rfl rfl)
theorem dX9_serves_118 : decode cX9_serves 118 = .ok (.invokevirtual 109, 3) := dk_182 0 109 (dk_at dksX9_serves_5 1 rfl rfl)
theorem dX9_serves_121 : decode cX9_serves 121 = .ok (.if_icmp .gt 17, 3) := dk_163 0 17 (dk_at dksX9_serves_5 4 rfl rfl)
theorem dX9_serves_124 : decode cX9_serves 124 = .ok (.aload_n 0, 1) := dk_42 (dk_at dksX9_serves_5 7 rfl rfl)
theorem dX9_serves_125 : decode cX9_serves 125 = .ok (.iload_n 3, 1) := dk_29 (dk_at dksX9_serves_5 8 rfl rfl)
theorem dX9_serves_126 : decode cX9_serves 126 = .ok (.iconst 4, 1) := dk_7 (dk_at dksX9_serves_5 9 rfl rfl)
theorem dX9_serves_127 : decode cX9_serves 127 = .ok (.iconst 1, 1) := dk_4 (dk_at dksX9_serves_5 10 rfl rfl)
theorem dX9_serves_128 : decode cX9_serves 128 = .ok (.invokevirtual 103, 3) := dk_182 0 103 (dk_at dksX9_serves_5 11 rfl rfl)
theorem dX9_serves_131 : decode cX9_serves 131 = .ok (.aload_n 0, 1) := dk_42 (dk_at dksX9_serves_5 14 rfl rfl)
theorem dX9_serves_132 : decode cX9_serves 132 = .ok (.iload_n 3, 1) := dk_29 (dk_at dksX9_serves_5 15 rfl rfl)
theorem dX9_serves_133 : decode cX9_serves 133 = .ok (.iconst 5, 1) := dk_8 (dk_at dksX9_serves_5 16 rfl rfl)
theorem dX9_serves_134 : decode cX9_serves 134 = .ok (.iload_n 1, 1) := dk_27 (dk_at dksX9_serves_5 17 rfl rfl)
theorem dX9_serves_135 : decode cX9_serves 135 = .ok (.invokevirtual 103, 3) := dk_182 0 103 (dk_at dksX9_serves_5 18 rfl rfl)
theorem dX9_serves_138 : decode cX9_serves 138 = .ok (.iload 4, 2) := dk_21 4 (dk_at dksX9_serves_5 21 rfl rfl)
theorem dX9_serves_140 : decode cX9_serves 140 = .ok (.istore_n 3, 1) := dk_62 (dk_at dksX9_serves_5 23 rfl rfl)
theorem dX9_serves_141 : decode cX9_serves 141 = .ok (.goto (-50), 3) := dk_167 255 206 (dk_at dksX9_serves_6 0 rfl rfl)
theorem dX9_serves_144 : decode cX9_serves 144 = .ok (.return_, 1) := dk_177 (dk_at dksX9_serves_6 3 rfl rfl)
abbrev cX9_nextParcel : ByteArray := prog_17_method_33_code
def yX9_nextParcel : MethodName := ⟨RX9, "nextParcel", "(II)I"⟩
def dkwX9_nextParcel_3 : List UInt8 := [21, 4, 29, 182, 0, 100, 153, 0, 8, 21, 4, 167, 0, 4, 29, 62, 132, 4, 1, 167, 255, 171, 29, 172]
abbrev dktX9_nextParcel_3 : List UInt8 := dkwX9_nextParcel_3 ++ []
def dkwX9_nextParcel_2 : List UInt8 := [182, 0, 100, 153, 0, 7, 4, 167, 0, 4, 3, 54, 5, 21, 5, 153, 0, 23, 29, 2, 159, 0, 13, 42]
abbrev dktX9_nextParcel_2 : List UInt8 := dkwX9_nextParcel_2 ++ dktX9_nextParcel_3
def dkwX9_nextParcel_1 : List UInt8 := [154, 0, 33, 42, 21, 4, 3, 182, 0, 49, 27, 160, 0, 22, 28, 2, 159, 0, 13, 42, 28, 21, 4]
abbrev dktX9_nextParcel_1 : List UInt8 := dkwX9_nextParcel_1 ++ dktX9_nextParcel_2
def dkwX9_nextParcel_0 : List UInt8 := [2, 62, 3, 54, 4, 21, 4, 42, 180, 0, 7, 16, 117, 46, 162, 0, 79, 42, 21, 4, 7, 182, 0, 49]
abbrev dktX9_nextParcel_0 : List UInt8 := dkwX9_nextParcel_0 ++ dktX9_nextParcel_1
theorem dksX9_nextParcel_0 : cX9_nextParcel.data.toList.drop 0 = dktX9_nextParcel_0 := by decide +kernel
theorem dksX9_nextParcel_1 : cX9_nextParcel.data.toList.drop 24 = dktX9_nextParcel_1 := dk_seg dksX9_nextParcel_0 24 rfl rfl
theorem dksX9_nextParcel_2 : cX9_nextParcel.data.toList.drop 47 = dktX9_nextParcel_2 := dk_seg dksX9_nextParcel_1 23 rfl rfl
theorem dksX9_nextParcel_3 : cX9_nextParcel.data.toList.drop 71 = dktX9_nextParcel_3 := dk_seg dksX9_nextParcel_2 24 rfl rfl
theorem dX9_nextParcel_0 : decode cX9_nextParcel 0 = .ok (.iconst (-1), 1) := dk_2 (dk_at dksX9_nextParcel_0 0 rfl rfl)
theorem dX9_nextParcel_1 : decode cX9_nextParcel 1 = .ok (.istore_n 3, 1) := dk_62 (dk_at dksX9_nextParcel_0 1 rfl rfl)
theorem dX9_nextParcel_2 : decode cX9_nextParcel 2 = .ok (.iconst 0, 1) := dk_3 (dk_at dksX9_nextParcel_0 2 rfl rfl)
theorem dX9_nextParcel_3 : decode cX9_nextParcel 3 = .ok (.istore 4, 2) := dk_54 4 (dk_at dksX9_nextParcel_0 3 rfl rfl)
theorem dX9_nextParcel_5 : decode cX9_nextParcel 5 = .ok (.iload 4, 2) := dk_21 4 (dk_at dksX9_nextParcel_0 5 rfl rfl)
theorem dX9_nextParcel_7 : decode cX9_nextParcel 7 = .ok (.aload_n 0, 1) := dk_42 (dk_at dksX9_nextParcel_0 7 rfl rfl)
theorem dX9_nextParcel_8 : decode cX9_nextParcel 8 = .ok (.getfield 7, 3) := dk_180 0 7 (dk_at dksX9_nextParcel_0 8 rfl rfl)
theorem dX9_nextParcel_11 : decode cX9_nextParcel 11 = .ok (.bipush 117, 2) := dk_16 117 (dk_at dksX9_nextParcel_0 11 rfl rfl)
theorem dX9_nextParcel_13 : decode cX9_nextParcel 13 = .ok (.iaload, 1) := dk_46 (dk_at dksX9_nextParcel_0 13 rfl rfl)
theorem dX9_nextParcel_14 : decode cX9_nextParcel 14 = .ok (.if_icmp .ge 79, 3) := dk_162 0 79 (dk_at dksX9_nextParcel_0 14 rfl rfl)
theorem dX9_nextParcel_17 : decode cX9_nextParcel 17 = .ok (.aload_n 0, 1) := dk_42 (dk_at dksX9_nextParcel_0 17 rfl rfl)
theorem dX9_nextParcel_18 : decode cX9_nextParcel 18 = .ok (.iload 4, 2) := dk_21 4 (dk_at dksX9_nextParcel_0 18 rfl rfl)
theorem dX9_nextParcel_20 : decode cX9_nextParcel 20 = .ok (.iconst 4, 1) := dk_7 (dk_at dksX9_nextParcel_0 20 rfl rfl)
theorem dX9_nextParcel_21 : decode cX9_nextParcel 21 = .ok (.invokevirtual 49, 3) := dk_182 0 49 (dk_at dksX9_nextParcel_0 21 rfl rfl)
theorem dX9_nextParcel_24 : decode cX9_nextParcel 24 = .ok (.ifCond .ne 33, 3) := dk_154 0 33 (dk_at dksX9_nextParcel_1 0 rfl rfl)
theorem dX9_nextParcel_27 : decode cX9_nextParcel 27 = .ok (.aload_n 0, 1) := dk_42 (dk_at dksX9_nextParcel_1 3 rfl rfl)
theorem dX9_nextParcel_28 : decode cX9_nextParcel 28 = .ok (.iload 4, 2) := dk_21 4 (dk_at dksX9_nextParcel_1 4 rfl rfl)
theorem dX9_nextParcel_30 : decode cX9_nextParcel 30 = .ok (.iconst 0, 1) := dk_3 (dk_at dksX9_nextParcel_1 6 rfl rfl)
theorem dX9_nextParcel_31 : decode cX9_nextParcel 31 = .ok (.invokevirtual 49, 3) := dk_182 0 49 (dk_at dksX9_nextParcel_1 7 rfl rfl)
theorem dX9_nextParcel_34 : decode cX9_nextParcel 34 = .ok (.iload_n 1, 1) := dk_27 (dk_at dksX9_nextParcel_1 10 rfl rfl)
theorem dX9_nextParcel_35 : decode cX9_nextParcel 35 = .ok (.if_icmp .ne 22, 3) := dk_160 0 22 (dk_at dksX9_nextParcel_1 11 rfl rfl)
theorem dX9_nextParcel_38 : decode cX9_nextParcel 38 = .ok (.iload_n 2, 1) := dk_28 (dk_at dksX9_nextParcel_1 14 rfl rfl)
theorem dX9_nextParcel_39 : decode cX9_nextParcel 39 = .ok (.iconst (-1), 1) := dk_2 (dk_at dksX9_nextParcel_1 15 rfl rfl)
theorem dX9_nextParcel_40 : decode cX9_nextParcel 40 = .ok (.if_icmp .eq 13, 3) := dk_159 0 13 (dk_at dksX9_nextParcel_1 16 rfl rfl)
theorem dX9_nextParcel_43 : decode cX9_nextParcel 43 = .ok (.aload_n 0, 1) := dk_42 (dk_at dksX9_nextParcel_1 19 rfl rfl)
theorem dX9_nextParcel_44 : decode cX9_nextParcel 44 = .ok (.iload_n 2, 1) := dk_28 (dk_at dksX9_nextParcel_1 20 rfl rfl)
theorem dX9_nextParcel_45 : decode cX9_nextParcel 45 = .ok (.iload 4, 2) := dk_21 4 (dk_at dksX9_nextParcel_1 21 rfl rfl)
theorem dX9_nextParcel_47 : decode cX9_nextParcel 47 = .ok (.invokevirtual 100, 3) := dk_182 0 100 (dk_at dksX9_nextParcel_2 0 rfl rfl)
theorem dX9_nextParcel_50 : decode cX9_nextParcel 50 = .ok (.ifCond .eq 7, 3) := dk_153 0 7 (dk_at dksX9_nextParcel_2 3 rfl rfl)
theorem dX9_nextParcel_53 : decode cX9_nextParcel 53 = .ok (.iconst 1, 1) := dk_4 (dk_at dksX9_nextParcel_2 6 rfl rfl)
theorem dX9_nextParcel_54 : decode cX9_nextParcel 54 = .ok (.goto 4, 3) := dk_167 0 4 (dk_at dksX9_nextParcel_2 7 rfl rfl)
theorem dX9_nextParcel_57 : decode cX9_nextParcel 57 = .ok (.iconst 0, 1) := dk_3 (dk_at dksX9_nextParcel_2 10 rfl rfl)
theorem dX9_nextParcel_58 : decode cX9_nextParcel 58 = .ok (.istore 5, 2) := dk_54 5 (dk_at dksX9_nextParcel_2 11 rfl rfl)
theorem dX9_nextParcel_60 : decode cX9_nextParcel 60 = .ok (.iload 5, 2) := dk_21 5 (dk_at dksX9_nextParcel_2 13 rfl rfl)
theorem dX9_nextParcel_62 : decode cX9_nextParcel 62 = .ok (.ifCond .eq 23, 3) := dk_153 0 23 (dk_at dksX9_nextParcel_2 15 rfl rfl)
theorem dX9_nextParcel_65 : decode cX9_nextParcel 65 = .ok (.iload_n 3, 1) := dk_29 (dk_at dksX9_nextParcel_2 18 rfl rfl)
theorem dX9_nextParcel_66 : decode cX9_nextParcel 66 = .ok (.iconst (-1), 1) := dk_2 (dk_at dksX9_nextParcel_2 19 rfl rfl)
theorem dX9_nextParcel_67 : decode cX9_nextParcel 67 = .ok (.if_icmp .eq 13, 3) := dk_159 0 13 (dk_at dksX9_nextParcel_2 20 rfl rfl)
theorem dX9_nextParcel_70 : decode cX9_nextParcel 70 = .ok (.aload_n 0, 1) := dk_42 (dk_at dksX9_nextParcel_2 23 rfl rfl)
theorem dX9_nextParcel_71 : decode cX9_nextParcel 71 = .ok (.iload 4, 2) := dk_21 4 (dk_at dksX9_nextParcel_3 0 rfl rfl)
theorem dX9_nextParcel_73 : decode cX9_nextParcel 73 = .ok (.iload_n 3, 1) := dk_29 (dk_at dksX9_nextParcel_3 2 rfl rfl)
theorem dX9_nextParcel_74 : decode cX9_nextParcel 74 = .ok (.invokevirtual 100, 3) := dk_182 0 100 (dk_at dksX9_nextParcel_3 3 rfl rfl)
theorem dX9_nextParcel_77 : decode cX9_nextParcel 77 = .ok (.ifCond .eq 8, 3) := dk_153 0 8 (dk_at dksX9_nextParcel_3 6 rfl rfl)
theorem dX9_nextParcel_80 : decode cX9_nextParcel 80 = .ok (.iload 4, 2) := dk_21 4 (dk_at dksX9_nextParcel_3 9 rfl rfl)
theorem dX9_nextParcel_82 : decode cX9_nextParcel 82 = .ok (.goto 4, 3) := dk_167 0 4 (dk_at dksX9_nextParcel_3 11 rfl rfl)
theorem dX9_nextParcel_85 : decode cX9_nextParcel 85 = .ok (.iload_n 3, 1) := dk_29 (dk_at dksX9_nextParcel_3 14 rfl rfl)
theorem dX9_nextParcel_86 : decode cX9_nextParcel 86 = .ok (.istore_n 3, 1) := dk_62 (dk_at dksX9_nextParcel_3 15 rfl rfl)
theorem dX9_nextParcel_87 : decode cX9_nextParcel 87 = .ok (.iinc 4 1, 3) := dk_132 4 1 (dk_at dksX9_nextParcel_3 16 rfl rfl)
theorem dX9_nextParcel_90 : decode cX9_nextParcel 90 = .ok (.goto (-85), 3) := dk_167 255 171 (dk_at dksX9_nextParcel_3 19 rfl rfl)
theorem dX9_nextParcel_93 : decode cX9_nextParcel 93 = .ok (.iload_n 3, 1) := dk_29 (dk_at dksX9_nextParcel_3 22 rfl rfl)
theorem dX9_nextParcel_94 : decode cX9_nextParcel 94 = .ok (.ireturn, 1) := dk_172 (dk_at dksX9_nextParcel_3 23 rfl rfl)
abbrev cX9_isAhead : ByteArray := prog_17_method_34_code
def yX9_isAhead : MethodName := ⟨RX9, "isAhead", "(II)Z"⟩
def dkwX9_isAhead_2 : List UInt8 := [162, 0, 7, 4, 167, 0, 4, 3, 172]
abbrev dktX9_isAhead_2 : List UInt8 := dkwX9_isAhead_2 ++ []
def dkwX9_isAhead_1 : List UInt8 := [42, 27, 5, 182, 0, 49, 100, 167, 0, 4, 29, 62, 29, 157, 0, 12, 29, 154, 0, 12, 27, 28]
abbrev dktX9_isAhead_1 : List UInt8 := dkwX9_isAhead_1 ++ dktX9_isAhead_2
def dkwX9_isAhead_0 : List UInt8 := [42, 27, 6, 182, 0, 49, 42, 28, 6, 182, 0, 49, 100, 62, 29, 154, 0, 19, 42, 28, 5, 182, 0, 49]
abbrev dktX9_isAhead_0 : List UInt8 := dkwX9_isAhead_0 ++ dktX9_isAhead_1
theorem dksX9_isAhead_0 : cX9_isAhead.data.toList.drop 0 = dktX9_isAhead_0 := by decide +kernel
theorem dksX9_isAhead_1 : cX9_isAhead.data.toList.drop 24 = dktX9_isAhead_1 := dk_seg dksX9_isAhead_0 24 rfl rfl
theorem dksX9_isAhead_2 : cX9_isAhead.data.toList.drop 46 = dktX9_isAhead_2 := dk_seg dksX9_isAhead_1 22 rfl rfl
theorem dX9_isAhead_0 : decode cX9_isAhead 0 = .ok (.aload_n 0, 1) := dk_42 (dk_at dksX9_isAhead_0 0 rfl rfl)
theorem dX9_isAhead_1 : decode cX9_isAhead 1 = .ok (.iload_n 1, 1) := dk_27 (dk_at dksX9_isAhead_0 1 rfl rfl)
theorem dX9_isAhead_2 : decode cX9_isAhead 2 = .ok (.iconst 3, 1) := dk_6 (dk_at dksX9_isAhead_0 2 rfl rfl)
theorem dX9_isAhead_3 : decode cX9_isAhead 3 = .ok (.invokevirtual 49, 3) := dk_182 0 49 (dk_at dksX9_isAhead_0 3 rfl rfl)
theorem dX9_isAhead_6 : decode cX9_isAhead 6 = .ok (.aload_n 0, 1) := dk_42 (dk_at dksX9_isAhead_0 6 rfl rfl)
theorem dX9_isAhead_7 : decode cX9_isAhead 7 = .ok (.iload_n 2, 1) := dk_28 (dk_at dksX9_isAhead_0 7 rfl rfl)
theorem dX9_isAhead_8 : decode cX9_isAhead 8 = .ok (.iconst 3, 1) := dk_6 (dk_at dksX9_isAhead_0 8 rfl rfl)
theorem dX9_isAhead_9 : decode cX9_isAhead 9 = .ok (.invokevirtual 49, 3) := dk_182 0 49 (dk_at dksX9_isAhead_0 9 rfl rfl)
theorem dX9_isAhead_12 : decode cX9_isAhead 12 = .ok (.isub, 1) := dk_100 (dk_at dksX9_isAhead_0 12 rfl rfl)
theorem dX9_isAhead_13 : decode cX9_isAhead 13 = .ok (.istore_n 3, 1) := dk_62 (dk_at dksX9_isAhead_0 13 rfl rfl)
theorem dX9_isAhead_14 : decode cX9_isAhead 14 = .ok (.iload_n 3, 1) := dk_29 (dk_at dksX9_isAhead_0 14 rfl rfl)
theorem dX9_isAhead_15 : decode cX9_isAhead 15 = .ok (.ifCond .ne 19, 3) := dk_154 0 19 (dk_at dksX9_isAhead_0 15 rfl rfl)
theorem dX9_isAhead_18 : decode cX9_isAhead 18 = .ok (.aload_n 0, 1) := dk_42 (dk_at dksX9_isAhead_0 18 rfl rfl)
theorem dX9_isAhead_19 : decode cX9_isAhead 19 = .ok (.iload_n 2, 1) := dk_28 (dk_at dksX9_isAhead_0 19 rfl rfl)
theorem dX9_isAhead_20 : decode cX9_isAhead 20 = .ok (.iconst 2, 1) := dk_5 (dk_at dksX9_isAhead_0 20 rfl rfl)
theorem dX9_isAhead_21 : decode cX9_isAhead 21 = .ok (.invokevirtual 49, 3) := dk_182 0 49 (dk_at dksX9_isAhead_0 21 rfl rfl)
theorem dX9_isAhead_24 : decode cX9_isAhead 24 = .ok (.aload_n 0, 1) := dk_42 (dk_at dksX9_isAhead_1 0 rfl rfl)
theorem dX9_isAhead_25 : decode cX9_isAhead 25 = .ok (.iload_n 1, 1) := dk_27 (dk_at dksX9_isAhead_1 1 rfl rfl)
theorem dX9_isAhead_26 : decode cX9_isAhead 26 = .ok (.iconst 2, 1) := dk_5 (dk_at dksX9_isAhead_1 2 rfl rfl)
theorem dX9_isAhead_27 : decode cX9_isAhead 27 = .ok (.invokevirtual 49, 3) := dk_182 0 49 (dk_at dksX9_isAhead_1 3 rfl rfl)
theorem dX9_isAhead_30 : decode cX9_isAhead 30 = .ok (.isub, 1) := dk_100 (dk_at dksX9_isAhead_1 6 rfl rfl)
theorem dX9_isAhead_31 : decode cX9_isAhead 31 = .ok (.goto 4, 3) := dk_167 0 4 (dk_at dksX9_isAhead_1 7 rfl rfl)
theorem dX9_isAhead_34 : decode cX9_isAhead 34 = .ok (.iload_n 3, 1) := dk_29 (dk_at dksX9_isAhead_1 10 rfl rfl)
theorem dX9_isAhead_35 : decode cX9_isAhead 35 = .ok (.istore_n 3, 1) := dk_62 (dk_at dksX9_isAhead_1 11 rfl rfl)
theorem dX9_isAhead_36 : decode cX9_isAhead 36 = .ok (.iload_n 3, 1) := dk_29 (dk_at dksX9_isAhead_1 12 rfl rfl)
theorem dX9_isAhead_37 : decode cX9_isAhead 37 = .ok (.ifCond .gt 12, 3) := dk_157 0 12 (dk_at dksX9_isAhead_1 13 rfl rfl)
theorem dX9_isAhead_40 : decode cX9_isAhead 40 = .ok (.iload_n 3, 1) := dk_29 (dk_at dksX9_isAhead_1 16 rfl rfl)
theorem dX9_isAhead_41 : decode cX9_isAhead 41 = .ok (.ifCond .ne 12, 3) := dk_154 0 12 (dk_at dksX9_isAhead_1 17 rfl rfl)
theorem dX9_isAhead_44 : decode cX9_isAhead 44 = .ok (.iload_n 1, 1) := dk_27 (dk_at dksX9_isAhead_1 20 rfl rfl)
theorem dX9_isAhead_45 : decode cX9_isAhead 45 = .ok (.iload_n 2, 1) := dk_28 (dk_at dksX9_isAhead_1 21 rfl rfl)
theorem dX9_isAhead_46 : decode cX9_isAhead 46 = .ok (.if_icmp .ge 7, 3) := dk_162 0 7 (dk_at dksX9_isAhead_2 0 rfl rfl)
theorem dX9_isAhead_49 : decode cX9_isAhead 49 = .ok (.iconst 1, 1) := dk_4 (dk_at dksX9_isAhead_2 3 rfl rfl)
theorem dX9_isAhead_50 : decode cX9_isAhead 50 = .ok (.goto 4, 3) := dk_167 0 4 (dk_at dksX9_isAhead_2 4 rfl rfl)
theorem dX9_isAhead_53 : decode cX9_isAhead 53 = .ok (.iconst 0, 1) := dk_3 (dk_at dksX9_isAhead_2 7 rfl rfl)
theorem dX9_isAhead_54 : decode cX9_isAhead 54 = .ok (.ireturn, 1) := dk_172 (dk_at dksX9_isAhead_2 8 rfl rfl)
abbrev cX9_carries : ByteArray := prog_17_method_20_code
def yX9_carries : MethodName := ⟨RX9, "carries", "(I)I"⟩
def dkwX9_carries_0 : List UInt8 := [42, 27, 42, 27, 4, 182, 0, 53, 42, 180, 0, 7, 17, 0, 166, 46, 182, 0, 56, 172]
abbrev dktX9_carries_0 : List UInt8 := dkwX9_carries_0 ++ []
theorem dksX9_carries_0 : cX9_carries.data.toList.drop 0 = dktX9_carries_0 := by decide +kernel
theorem dX9_carries_0 : decode cX9_carries 0 = .ok (.aload_n 0, 1) := dk_42 (dk_at dksX9_carries_0 0 rfl rfl)
theorem dX9_carries_1 : decode cX9_carries 1 = .ok (.iload_n 1, 1) := dk_27 (dk_at dksX9_carries_0 1 rfl rfl)
theorem dX9_carries_2 : decode cX9_carries 2 = .ok (.aload_n 0, 1) := dk_42 (dk_at dksX9_carries_0 2 rfl rfl)
theorem dX9_carries_3 : decode cX9_carries 3 = .ok (.iload_n 1, 1) := dk_27 (dk_at dksX9_carries_0 3 rfl rfl)
theorem dX9_carries_4 : decode cX9_carries 4 = .ok (.iconst 1, 1) := dk_4 (dk_at dksX9_carries_0 4 rfl rfl)
theorem dX9_carries_5 : decode cX9_carries 5 = .ok (.invokevirtual 53, 3) := dk_182 0 53 (dk_at dksX9_carries_0 5 rfl rfl)
theorem dX9_carries_8 : decode cX9_carries 8 = .ok (.aload_n 0, 1) := dk_42 (dk_at dksX9_carries_0 8 rfl rfl)
theorem dX9_carries_9 : decode cX9_carries 9 = .ok (.getfield 7, 3) := dk_180 0 7 (dk_at dksX9_carries_0 9 rfl rfl)
theorem dX9_carries_12 : decode cX9_carries 12 = .ok (.sipush 166, 3) := dk_17 0 166 (dk_at dksX9_carries_0 12 rfl rfl)
theorem dX9_carries_15 : decode cX9_carries 15 = .ok (.iaload, 1) := dk_46 (dk_at dksX9_carries_0 15 rfl rfl)
theorem dX9_carries_16 : decode cX9_carries 16 = .ok (.invokevirtual 56, 3) := dk_182 0 56 (dk_at dksX9_carries_0 16 rfl rfl)
theorem dX9_carries_19 : decode cX9_carries 19 = .ok (.ireturn, 1) := dk_172 (dk_at dksX9_carries_0 19 rfl rfl)
abbrev cX9_append : ByteArray := prog_17_method_48_code
def yX9_append : MethodName := ⟨RX9, "append", "(I)I"⟩
def dkwX9_append_2 : List UInt8 := [42, 89, 180, 0, 146, 4, 96, 181, 0, 146, 42, 180, 0, 146, 172]
abbrev dktX9_append_2 : List UInt8 := dkwX9_append_2 ++ []
def dkwX9_append_1 : List UInt8 := [180, 0, 146, 16, 60, 160, 0, 9, 42, 5, 182, 0, 122, 172, 42, 180, 0, 19, 42, 180, 0, 146, 27, 79]
abbrev dktX9_append_1 : List UInt8 := dkwX9_append_1 ++ dktX9_append_2
def dkwX9_append_0 : List UInt8 := [42, 3, 181, 0, 38, 27, 16, 33, 16, 126, 184, 0, 42, 154, 0, 9, 42, 4, 182, 0, 122, 172, 42]
abbrev dktX9_append_0 : List UInt8 := dkwX9_append_0 ++ dktX9_append_1
theorem dksX9_append_0 : cX9_append.data.toList.drop 0 = dktX9_append_0 := by decide +kernel
theorem dksX9_append_1 : cX9_append.data.toList.drop 23 = dktX9_append_1 := dk_seg dksX9_append_0 23 rfl rfl
theorem dksX9_append_2 : cX9_append.data.toList.drop 47 = dktX9_append_2 := dk_seg dksX9_append_1 24 rfl rfl
theorem dX9_append_0 : decode cX9_append 0 = .ok (.aload_n 0, 1) := dk_42 (dk_at dksX9_append_0 0 rfl rfl)
theorem dX9_append_1 : decode cX9_append 1 = .ok (.iconst 0, 1) := dk_3 (dk_at dksX9_append_0 1 rfl rfl)
theorem dX9_append_2 : decode cX9_append 2 = .ok (.putfield 38, 3) := dk_181 0 38 (dk_at dksX9_append_0 2 rfl rfl)
theorem dX9_append_5 : decode cX9_append 5 = .ok (.iload_n 1, 1) := dk_27 (dk_at dksX9_append_0 5 rfl rfl)
theorem dX9_append_6 : decode cX9_append 6 = .ok (.bipush 33, 2) := dk_16 33 (dk_at dksX9_append_0 6 rfl rfl)
theorem dX9_append_8 : decode cX9_append 8 = .ok (.bipush 126, 2) := dk_16 126 (dk_at dksX9_append_0 8 rfl rfl)
theorem dX9_append_10 : decode cX9_append 10 = .ok (.invokestatic 42, 3) := dk_184 0 42 (dk_at dksX9_append_0 10 rfl rfl)
theorem dX9_append_13 : decode cX9_append 13 = .ok (.ifCond .ne 9, 3) := dk_154 0 9 (dk_at dksX9_append_0 13 rfl rfl)
theorem dX9_append_16 : decode cX9_append 16 = .ok (.aload_n 0, 1) := dk_42 (dk_at dksX9_append_0 16 rfl rfl)
theorem dX9_append_17 : decode cX9_append 17 = .ok (.iconst 1, 1) := dk_4 (dk_at dksX9_append_0 17 rfl rfl)
theorem dX9_append_18 : decode cX9_append 18 = .ok (.invokevirtual 122, 3) := dk_182 0 122 (dk_at dksX9_append_0 18 rfl rfl)
theorem dX9_append_21 : decode cX9_append 21 = .ok (.ireturn, 1) := dk_172 (dk_at dksX9_append_0 21 rfl rfl)
theorem dX9_append_22 : decode cX9_append 22 = .ok (.aload_n 0, 1) := dk_42 (dk_at dksX9_append_0 22 rfl rfl)
theorem dX9_append_23 : decode cX9_append 23 = .ok (.getfield 146, 3) := dk_180 0 146 (dk_at dksX9_append_1 0 rfl rfl)
theorem dX9_append_26 : decode cX9_append 26 = .ok (.bipush 60, 2) := dk_16 60 (dk_at dksX9_append_1 3 rfl rfl)
theorem dX9_append_28 : decode cX9_append 28 = .ok (.if_icmp .ne 9, 3) := dk_160 0 9 (dk_at dksX9_append_1 5 rfl rfl)
theorem dX9_append_31 : decode cX9_append 31 = .ok (.aload_n 0, 1) := dk_42 (dk_at dksX9_append_1 8 rfl rfl)
theorem dX9_append_32 : decode cX9_append 32 = .ok (.iconst 2, 1) := dk_5 (dk_at dksX9_append_1 9 rfl rfl)
theorem dX9_append_33 : decode cX9_append 33 = .ok (.invokevirtual 122, 3) := dk_182 0 122 (dk_at dksX9_append_1 10 rfl rfl)
theorem dX9_append_36 : decode cX9_append 36 = .ok (.ireturn, 1) := dk_172 (dk_at dksX9_append_1 13 rfl rfl)
theorem dX9_append_37 : decode cX9_append 37 = .ok (.aload_n 0, 1) := dk_42 (dk_at dksX9_append_1 14 rfl rfl)
theorem dX9_append_38 : decode cX9_append 38 = .ok (.getfield 19, 3) := dk_180 0 19 (dk_at dksX9_append_1 15 rfl rfl)
theorem dX9_append_41 : decode cX9_append 41 = .ok (.aload_n 0, 1) := dk_42 (dk_at dksX9_append_1 18 rfl rfl)
theorem dX9_append_42 : decode cX9_append 42 = .ok (.getfield 146, 3) := dk_180 0 146 (dk_at dksX9_append_1 19 rfl rfl)
theorem dX9_append_45 : decode cX9_append 45 = .ok (.iload_n 1, 1) := dk_27 (dk_at dksX9_append_1 22 rfl rfl)
theorem dX9_append_46 : decode cX9_append 46 = .ok (.iastore, 1) := dk_79 (dk_at dksX9_append_1 23 rfl rfl)
theorem dX9_append_47 : decode cX9_append 47 = .ok (.aload_n 0, 1) := dk_42 (dk_at dksX9_append_2 0 rfl rfl)
theorem dX9_append_48 : decode cX9_append 48 = .ok (.dup, 1) := dk_89 (dk_at dksX9_append_2 1 rfl rfl)
theorem dX9_append_49 : decode cX9_append 49 = .ok (.getfield 146, 3) := dk_180 0 146 (dk_at dksX9_append_2 2 rfl rfl)
theorem dX9_append_52 : decode cX9_append 52 = .ok (.iconst 1, 1) := dk_4 (dk_at dksX9_append_2 5 rfl rfl)
theorem dX9_append_53 : decode cX9_append 53 = .ok (.iadd, 1) := dk_96 (dk_at dksX9_append_2 6 rfl rfl)
theorem dX9_append_54 : decode cX9_append 54 = .ok (.putfield 146, 3) := dk_181 0 146 (dk_at dksX9_append_2 7 rfl rfl)
theorem dX9_append_57 : decode cX9_append 57 = .ok (.aload_n 0, 1) := dk_42 (dk_at dksX9_append_2 10 rfl rfl)
theorem dX9_append_58 : decode cX9_append 58 = .ok (.getfield 146, 3) := dk_180 0 146 (dk_at dksX9_append_2 11 rfl rfl)
theorem dX9_append_61 : decode cX9_append 61 = .ok (.ireturn, 1) := dk_172 (dk_at dksX9_append_2 14 rfl rfl)
abbrev cX9_clearBuffer : ByteArray := prog_17_method_49_code
def yX9_clearBuffer : MethodName := ⟨RX9, "clearBuffer", "()I"⟩
def dkwX9_clearBuffer_0 : List UInt8 := [42, 3, 181, 0, 38, 42, 180, 0, 146, 60, 42, 3, 181, 0, 146, 27, 172]
abbrev dktX9_clearBuffer_0 : List UInt8 := dkwX9_clearBuffer_0 ++ []
theorem dksX9_clearBuffer_0 : cX9_clearBuffer.data.toList.drop 0 = dktX9_clearBuffer_0 := by decide +kernel
theorem dX9_clearBuffer_0 : decode cX9_clearBuffer 0 = .ok (.aload_n 0, 1) := dk_42 (dk_at dksX9_clearBuffer_0 0 rfl rfl)
theorem dX9_clearBuffer_1 : decode cX9_clearBuffer 1 = .ok (.iconst 0, 1) := dk_3 (dk_at dksX9_clearBuffer_0 1 rfl rfl)
theorem dX9_clearBuffer_2 : decode cX9_clearBuffer 2 = .ok (.putfield 38, 3) := dk_181 0 38 (dk_at dksX9_clearBuffer_0 2 rfl rfl)
theorem dX9_clearBuffer_5 : decode cX9_clearBuffer 5 = .ok (.aload_n 0, 1) := dk_42 (dk_at dksX9_clearBuffer_0 5 rfl rfl)
theorem dX9_clearBuffer_6 : decode cX9_clearBuffer 6 = .ok (.getfield 146, 3) := dk_180 0 146 (dk_at dksX9_clearBuffer_0 6 rfl rfl)
theorem dX9_clearBuffer_9 : decode cX9_clearBuffer 9 = .ok (.istore_n 1, 1) := dk_60 (dk_at dksX9_clearBuffer_0 9 rfl rfl)
theorem dX9_clearBuffer_10 : decode cX9_clearBuffer 10 = .ok (.aload_n 0, 1) := dk_42 (dk_at dksX9_clearBuffer_0 10 rfl rfl)
theorem dX9_clearBuffer_11 : decode cX9_clearBuffer 11 = .ok (.iconst 0, 1) := dk_3 (dk_at dksX9_clearBuffer_0 11 rfl rfl)
theorem dX9_clearBuffer_12 : decode cX9_clearBuffer 12 = .ok (.putfield 146, 3) := dk_181 0 146 (dk_at dksX9_clearBuffer_0 12 rfl rfl)
theorem dX9_clearBuffer_15 : decode cX9_clearBuffer 15 = .ok (.iload_n 1, 1) := dk_27 (dk_at dksX9_clearBuffer_0 15 rfl rfl)
theorem dX9_clearBuffer_16 : decode cX9_clearBuffer 16 = .ok (.ireturn, 1) := dk_172 (dk_at dksX9_clearBuffer_0 16 rfl rfl)
abbrev cX9_firstError : ByteArray := prog_17_method_54_code
def yX9_firstError : MethodName := ⟨RX9, "firstError", "()I"⟩
def dkwX9_firstError_1 : List UInt8 := [167, 0, 7, 42, 180, 0, 146, 172]
abbrev dktX9_firstError_1 : List UInt8 := dkwX9_firstError_1 ++ []
def dkwX9_firstError_0 : List UInt8 := [42, 3, 181, 0, 38, 42, 3, 182, 0, 166, 60, 42, 180, 0, 152, 153, 0, 10, 42, 180, 0, 149]
abbrev dktX9_firstError_0 : List UInt8 := dkwX9_firstError_0 ++ dktX9_firstError_1
theorem dksX9_firstError_0 : cX9_firstError.data.toList.drop 0 = dktX9_firstError_0 := by decide +kernel
theorem dksX9_firstError_1 : cX9_firstError.data.toList.drop 22 = dktX9_firstError_1 := dk_seg dksX9_firstError_0 22 rfl rfl
theorem dX9_firstError_0 : decode cX9_firstError 0 = .ok (.aload_n 0, 1) := dk_42 (dk_at dksX9_firstError_0 0 rfl rfl)
theorem dX9_firstError_1 : decode cX9_firstError 1 = .ok (.iconst 0, 1) := dk_3 (dk_at dksX9_firstError_0 1 rfl rfl)
theorem dX9_firstError_2 : decode cX9_firstError 2 = .ok (.putfield 38, 3) := dk_181 0 38 (dk_at dksX9_firstError_0 2 rfl rfl)
theorem dX9_firstError_5 : decode cX9_firstError 5 = .ok (.aload_n 0, 1) := dk_42 (dk_at dksX9_firstError_0 5 rfl rfl)
theorem dX9_firstError_6 : decode cX9_firstError 6 = .ok (.iconst 0, 1) := dk_3 (dk_at dksX9_firstError_0 6 rfl rfl)
theorem dX9_firstError_7 : decode cX9_firstError 7 = .ok (.invokevirtual 166, 3) := dk_182 0 166 (dk_at dksX9_firstError_0 7 rfl rfl)
theorem dX9_firstError_10 : decode cX9_firstError 10 = .ok (.istore_n 1, 1) := dk_60 (dk_at dksX9_firstError_0 10 rfl rfl)
theorem dX9_firstError_11 : decode cX9_firstError 11 = .ok (.aload_n 0, 1) := dk_42 (dk_at dksX9_firstError_0 11 rfl rfl)
theorem dX9_firstError_12 : decode cX9_firstError 12 = .ok (.getfield 152, 3) := dk_180 0 152 (dk_at dksX9_firstError_0 12 rfl rfl)
theorem dX9_firstError_15 : decode cX9_firstError 15 = .ok (.ifCond .eq 10, 3) := dk_153 0 10 (dk_at dksX9_firstError_0 15 rfl rfl)
theorem dX9_firstError_18 : decode cX9_firstError 18 = .ok (.aload_n 0, 1) := dk_42 (dk_at dksX9_firstError_0 18 rfl rfl)
theorem dX9_firstError_19 : decode cX9_firstError 19 = .ok (.getfield 149, 3) := dk_180 0 149 (dk_at dksX9_firstError_0 19 rfl rfl)
theorem dX9_firstError_22 : decode cX9_firstError 22 = .ok (.goto 7, 3) := dk_167 0 7 (dk_at dksX9_firstError_1 0 rfl rfl)
theorem dX9_firstError_25 : decode cX9_firstError 25 = .ok (.aload_n 0, 1) := dk_42 (dk_at dksX9_firstError_1 3 rfl rfl)
theorem dX9_firstError_26 : decode cX9_firstError 26 = .ok (.getfield 146, 3) := dk_180 0 146 (dk_at dksX9_firstError_1 4 rfl rfl)
theorem dX9_firstError_29 : decode cX9_firstError 29 = .ok (.ireturn, 1) := dk_172 (dk_at dksX9_firstError_1 7 rfl rfl)
abbrev cX9_go : ByteArray := prog_17_method_53_code
def yX9_go : MethodName := ⟨RX9, "go", "(Z)I"⟩
def dkwX9_go_4 : List UInt8 := [154, 0, 7, 4, 167, 0, 4, 3, 62, 167, 255, 170, 28, 172]
abbrev dktX9_go_4 : List UInt8 := dkwX9_go_4 ++ []
def dkwX9_go_3 : List UInt8 := [167, 0, 4, 3, 62, 29, 153, 255, 196, 42, 16, 59, 16, 59, 182, 0, 156, 54, 4, 42, 180, 0, 152]
abbrev dktX9_go_3 : List UInt8 := dkwX9_go_3 ++ dktX9_go_4
def dkwX9_go_2 : List UInt8 := [132, 2, 1, 42, 180, 0, 152, 154, 0, 18, 42, 180, 0, 149, 42, 180, 0, 146, 162, 0, 7, 4]
abbrev dktX9_go_2 : List UInt8 := dkwX9_go_2 ++ dktX9_go_3
def dkwX9_go_1 : List UInt8 := [154, 0, 23, 42, 180, 0, 7, 17, 0, 172, 4, 79, 42, 180, 0, 7, 17, 0, 173, 28, 79, 28, 172]
abbrev dktX9_go_1 : List UInt8 := dkwX9_go_1 ++ dktX9_go_2
def dkwX9_go_0 : List UInt8 := [42, 3, 181, 0, 149, 42, 3, 181, 0, 152, 3, 61, 4, 62, 29, 153, 0, 88, 42, 27, 182, 0, 162]
abbrev dktX9_go_0 : List UInt8 := dkwX9_go_0 ++ dktX9_go_1
theorem dksX9_go_0 : cX9_go.data.toList.drop 0 = dktX9_go_0 := by decide +kernel
theorem dksX9_go_1 : cX9_go.data.toList.drop 23 = dktX9_go_1 := dk_seg dksX9_go_0 23 rfl rfl
theorem dksX9_go_2 : cX9_go.data.toList.drop 46 = dktX9_go_2 := dk_seg dksX9_go_1 23 rfl rfl
theorem dksX9_go_3 : cX9_go.data.toList.drop 68 = dktX9_go_3 := dk_seg dksX9_go_2 22 rfl rfl
theorem dksX9_go_4 : cX9_go.data.toList.drop 91 = dktX9_go_4 := dk_seg dksX9_go_3 23 rfl rfl
theorem dX9_go_0 : decode cX9_go 0 = .ok (.aload_n 0, 1) := dk_42 (dk_at dksX9_go_0 0 rfl rfl)
theorem dX9_go_1 : decode cX9_go 1 = .ok (.iconst 0, 1) := dk_3 (dk_at dksX9_go_0 1 rfl rfl)
theorem dX9_go_2 : decode cX9_go 2 = .ok (.putfield 149, 3) := dk_181 0 149 (dk_at dksX9_go_0 2 rfl rfl)
theorem dX9_go_5 : decode cX9_go 5 = .ok (.aload_n 0, 1) := dk_42 (dk_at dksX9_go_0 5 rfl rfl)
theorem dX9_go_6 : decode cX9_go 6 = .ok (.iconst 0, 1) := dk_3 (dk_at dksX9_go_0 6 rfl rfl)
theorem dX9_go_7 : decode cX9_go 7 = .ok (.putfield 152, 3) := dk_181 0 152 (dk_at dksX9_go_0 7 rfl rfl)
theorem dX9_go_10 : decode cX9_go 10 = .ok (.iconst 0, 1) := dk_3 (dk_at dksX9_go_0 10 rfl rfl)
theorem dX9_go_11 : decode cX9_go 11 = .ok (.istore_n 2, 1) := dk_61 (dk_at dksX9_go_0 11 rfl rfl)
theorem dX9_go_12 : decode cX9_go 12 = .ok (.iconst 1, 1) := dk_4 (dk_at dksX9_go_0 12 rfl rfl)
theorem dX9_go_13 : decode cX9_go 13 = .ok (.istore_n 3, 1) := dk_62 (dk_at dksX9_go_0 13 rfl rfl)
theorem dX9_go_14 : decode cX9_go 14 = .ok (.iload_n 3, 1) := dk_29 (dk_at dksX9_go_0 14 rfl rfl)
theorem dX9_go_15 : decode cX9_go 15 = .ok (.ifCond .eq 88, 3) := dk_153 0 88 (dk_at dksX9_go_0 15 rfl rfl)
theorem dX9_go_18 : decode cX9_go 18 = .ok (.aload_n 0, 1) := dk_42 (dk_at dksX9_go_0 18 rfl rfl)
theorem dX9_go_19 : decode cX9_go 19 = .ok (.iload_n 1, 1) := dk_27 (dk_at dksX9_go_0 19 rfl rfl)
theorem dX9_go_20 : decode cX9_go 20 = .ok (.invokevirtual 162, 3) := dk_182 0 162 (dk_at dksX9_go_0 20 rfl rfl)
theorem dX9_go_23 : decode cX9_go 23 = .ok (.ifCond .ne 23, 3) := dk_154 0 23 (dk_at dksX9_go_1 0 rfl rfl)
theorem dX9_go_26 : decode cX9_go 26 = .ok (.aload_n 0, 1) := dk_42 (dk_at dksX9_go_1 3 rfl rfl)
theorem dX9_go_27 : decode cX9_go 27 = .ok (.getfield 7, 3) := dk_180 0 7 (dk_at dksX9_go_1 4 rfl rfl)
theorem dX9_go_30 : decode cX9_go 30 = .ok (.sipush 172, 3) := dk_17 0 172 (dk_at dksX9_go_1 7 rfl rfl)
theorem dX9_go_33 : decode cX9_go 33 = .ok (.iconst 1, 1) := dk_4 (dk_at dksX9_go_1 10 rfl rfl)
theorem dX9_go_34 : decode cX9_go 34 = .ok (.iastore, 1) := dk_79 (dk_at dksX9_go_1 11 rfl rfl)
theorem dX9_go_35 : decode cX9_go 35 = .ok (.aload_n 0, 1) := dk_42 (dk_at dksX9_go_1 12 rfl rfl)
theorem dX9_go_36 : decode cX9_go 36 = .ok (.getfield 7, 3) := dk_180 0 7 (dk_at dksX9_go_1 13 rfl rfl)
theorem dX9_go_39 : decode cX9_go 39 = .ok (.sipush 173, 3) := dk_17 0 173 (dk_at dksX9_go_1 16 rfl rfl)
theorem dX9_go_42 : decode cX9_go 42 = .ok (.iload_n 2, 1) := dk_28 (dk_at dksX9_go_1 19 rfl rfl)
theorem dX9_go_43 : decode cX9_go 43 = .ok (.iastore, 1) := dk_79 (dk_at dksX9_go_1 20 rfl rfl)
theorem dX9_go_44 : decode cX9_go 44 = .ok (.iload_n 2, 1) := dk_28 (dk_at dksX9_go_1 21 rfl rfl)
theorem dX9_go_45 : decode cX9_go 45 = .ok (.ireturn, 1) := dk_172 (dk_at dksX9_go_1 22 rfl rfl)
theorem dX9_go_46 : decode cX9_go 46 = .ok (.iinc 2 1, 3) := dk_132 2 1 (dk_at dksX9_go_2 0 rfl rfl)
theorem dX9_go_49 : decode cX9_go 49 = .ok (.aload_n 0, 1) := dk_42 (dk_at dksX9_go_2 3 rfl rfl)
theorem dX9_go_50 : decode cX9_go 50 = .ok (.getfield 152, 3) := dk_180 0 152 (dk_at dksX9_go_2 4 rfl rfl)
theorem dX9_go_53 : decode cX9_go 53 = .ok (.ifCond .ne 18, 3) := dk_154 0 18 (dk_at dksX9_go_2 7 rfl rfl)
theorem dX9_go_56 : decode cX9_go 56 = .ok (.aload_n 0, 1) := dk_42 (dk_at dksX9_go_2 10 rfl rfl)
theorem dX9_go_57 : decode cX9_go 57 = .ok (.getfield 149, 3) := dk_180 0 149 (dk_at dksX9_go_2 11 rfl rfl)
theorem dX9_go_60 : decode cX9_go 60 = .ok (.aload_n 0, 1) := dk_42 (dk_at dksX9_go_2 14 rfl rfl)
theorem dX9_go_61 : decode cX9_go 61 = .ok (.getfield 146, 3) := dk_180 0 146 (dk_at dksX9_go_2 15 rfl rfl)
theorem dX9_go_64 : decode cX9_go 64 = .ok (.if_icmp .ge 7, 3) := dk_162 0 7 (dk_at dksX9_go_2 18 rfl rfl)
theorem dX9_go_67 : decode cX9_go 67 = .ok (.iconst 1, 1) := dk_4 (dk_at dksX9_go_2 21 rfl rfl)
theorem dX9_go_68 : decode cX9_go 68 = .ok (.goto 4, 3) := dk_167 0 4 (dk_at dksX9_go_3 0 rfl rfl)
theorem dX9_go_71 : decode cX9_go 71 = .ok (.iconst 0, 1) := dk_3 (dk_at dksX9_go_3 3 rfl rfl)
theorem dX9_go_72 : decode cX9_go 72 = .ok (.istore_n 3, 1) := dk_62 (dk_at dksX9_go_3 4 rfl rfl)
theorem dX9_go_73 : decode cX9_go 73 = .ok (.iload_n 3, 1) := dk_29 (dk_at dksX9_go_3 5 rfl rfl)
theorem dX9_go_74 : decode cX9_go 74 = .ok (.ifCond .eq (-60), 3) := dk_153 255 196 (dk_at dksX9_go_3 6 rfl rfl)
theorem dX9_go_77 : decode cX9_go 77 = .ok (.aload_n 0, 1) := dk_42 (dk_at dksX9_go_3 9 rfl rfl)
theorem dX9_go_78 : decode cX9_go 78 = .ok (.bipush 59, 2) := dk_16 59 (dk_at dksX9_go_3 10 rfl rfl)
theorem dX9_go_80 : decode cX9_go 80 = .ok (.bipush 59, 2) := dk_16 59 (dk_at dksX9_go_3 12 rfl rfl)
theorem dX9_go_82 : decode cX9_go 82 = .ok (.invokevirtual 156, 3) := dk_182 0 156 (dk_at dksX9_go_3 14 rfl rfl)
theorem dX9_go_85 : decode cX9_go 85 = .ok (.istore 4, 2) := dk_54 4 (dk_at dksX9_go_3 17 rfl rfl)
theorem dX9_go_87 : decode cX9_go 87 = .ok (.aload_n 0, 1) := dk_42 (dk_at dksX9_go_3 19 rfl rfl)
theorem dX9_go_88 : decode cX9_go 88 = .ok (.getfield 152, 3) := dk_180 0 152 (dk_at dksX9_go_3 20 rfl rfl)
theorem dX9_go_91 : decode cX9_go 91 = .ok (.ifCond .ne 7, 3) := dk_154 0 7 (dk_at dksX9_go_4 0 rfl rfl)
theorem dX9_go_94 : decode cX9_go 94 = .ok (.iconst 1, 1) := dk_4 (dk_at dksX9_go_4 3 rfl rfl)
theorem dX9_go_95 : decode cX9_go 95 = .ok (.goto 4, 3) := dk_167 0 4 (dk_at dksX9_go_4 4 rfl rfl)
theorem dX9_go_98 : decode cX9_go 98 = .ok (.iconst 0, 1) := dk_3 (dk_at dksX9_go_4 7 rfl rfl)
theorem dX9_go_99 : decode cX9_go 99 = .ok (.istore_n 3, 1) := dk_62 (dk_at dksX9_go_4 8 rfl rfl)
theorem dX9_go_100 : decode cX9_go 100 = .ok (.goto (-86), 3) := dk_167 255 170 (dk_at dksX9_go_4 9 rfl rfl)
theorem dX9_go_103 : decode cX9_go 103 = .ok (.iload_n 2, 1) := dk_28 (dk_at dksX9_go_4 12 rfl rfl)
theorem dX9_go_104 : decode cX9_go 104 = .ok (.ireturn, 1) := dk_172 (dk_at dksX9_go_4 13 rfl rfl)
abbrev cX9_part : ByteArray := prog_17_method_52_code
def yX9_part : MethodName := ⟨RX9, "part", "(Z)Z"⟩
def dkwX9_part_12 : List UInt8 := [160, 0, 21, 42, 29, 5, 28, 16, 111, 160, 0, 8, 21, 5, 167, 0, 4, 2, 182, 0, 31, 21, 6, 172]
abbrev dktX9_part_12 : List UInt8 := dkwX9_part_12 ++ []
def dkwX9_part_11 : List UInt8 := [160, 0, 10, 42, 182, 0, 143, 167, 0, 4, 3, 54, 8, 28, 16, 111, 159, 0, 9, 28, 16, 115]
abbrev dktX9_part_11 : List UInt8 := dkwX9_part_11 ++ dktX9_part_12
def dkwX9_part_10 : List UInt8 := [160, 0, 16, 42, 21, 5, 182, 0, 131, 153, 0, 7, 4, 167, 0, 4, 3, 54, 7, 28, 16, 114]
abbrev dktX9_part_10 : List UInt8 := dkwX9_part_10 ++ dktX9_part_11
def dkwX9_part_9 : List UInt8 := [21, 5, 182, 0, 140, 154, 0, 7, 4, 167, 0, 4, 3, 54, 6, 21, 6, 153, 0, 71, 28, 16, 116]
abbrev dktX9_part_9 : List UInt8 := dkwX9_part_9 ++ dktX9_part_10
def dkwX9_part_8 : List UInt8 := [154, 0, 35, 167, 0, 28, 42, 21, 5, 182, 0, 128, 153, 0, 23, 28, 16, 116, 159, 0, 13, 42, 29]
abbrev dktX9_part_8 : List UInt8 := dkwX9_part_8 ++ dktX9_part_9
def dkwX9_part_7 : List UInt8 := [27, 154, 0, 5, 4, 172, 28, 16, 115, 159, 0, 44, 28, 16, 114, 160, 0, 13, 42, 182, 0, 74]
abbrev dktX9_part_7 : List UInt8 := dkwX9_part_7 ++ dktX9_part_8
def dkwX9_part_6 : List UInt8 := [54, 4, 28, 16, 111, 159, 0, 9, 28, 16, 116, 160, 0, 10, 42, 182, 0, 159, 167, 0, 4, 3, 54, 5]
abbrev dktX9_part_6 : List UInt8 := dkwX9_part_6 ++ dktX9_part_7
def dkwX9_part_5 : List UInt8 := [167, 0, 4, 3, 62, 28, 16, 111, 160, 0, 14, 42, 16, 62, 16, 62, 182, 0, 156, 167, 0, 4, 3]
abbrev dktX9_part_5 : List UInt8 := dkwX9_part_5 ++ dktX9_part_6
def dkwX9_part_4 : List UInt8 := [28, 16, 111, 159, 0, 9, 28, 16, 115, 160, 0, 17, 42, 16, 48, 16, 51, 182, 0, 156, 16, 48, 100]
abbrev dktX9_part_4 : List UInt8 := dkwX9_part_4 ++ dktX9_part_5
def dkwX9_part_3 : List UInt8 := [180, 0, 152, 153, 0, 7, 3, 167, 0, 4, 4, 96, 181, 0, 149, 42, 180, 0, 152, 153, 0, 5, 4, 172]
abbrev dktX9_part_3 : List UInt8 := dkwX9_part_3 ++ dktX9_part_4
def dkwX9_part_2 : List UInt8 := [159, 0, 13, 28, 16, 114, 159, 0, 7, 4, 167, 0, 4, 3, 181, 0, 152, 42, 89, 180, 0, 149, 42]
abbrev dktX9_part_2 : List UInt8 := dkwX9_part_2 ++ dktX9_part_3
def dkwX9_part_1 : List UInt8 := [61, 42, 42, 180, 0, 152, 154, 0, 27, 28, 16, 111, 159, 0, 25, 28, 16, 115, 159, 0, 19, 28, 16, 116]
abbrev dktX9_part_1 : List UInt8 := dkwX9_part_1 ++ dktX9_part_2
def dkwX9_part_0 : List UInt8 := [42, 180, 0, 149, 42, 180, 0, 146, 162, 0, 15, 42, 180, 0, 19, 42, 180, 0, 149, 46, 167, 0, 4, 3]
abbrev dktX9_part_0 : List UInt8 := dkwX9_part_0 ++ dktX9_part_1
theorem dksX9_part_0 : cX9_part.data.toList.drop 0 = dktX9_part_0 := by decide +kernel
theorem dksX9_part_1 : cX9_part.data.toList.drop 24 = dktX9_part_1 := dk_seg dksX9_part_0 24 rfl rfl
theorem dksX9_part_2 : cX9_part.data.toList.drop 48 = dktX9_part_2 := dk_seg dksX9_part_1 24 rfl rfl
theorem dksX9_part_3 : cX9_part.data.toList.drop 71 = dktX9_part_3 := dk_seg dksX9_part_2 23 rfl rfl
theorem dksX9_part_4 : cX9_part.data.toList.drop 95 = dktX9_part_4 := dk_seg dksX9_part_3 24 rfl rfl
theorem dksX9_part_5 : cX9_part.data.toList.drop 118 = dktX9_part_5 := dk_seg dksX9_part_4 23 rfl rfl
theorem dksX9_part_6 : cX9_part.data.toList.drop 141 = dktX9_part_6 := dk_seg dksX9_part_5 23 rfl rfl
theorem dksX9_part_7 : cX9_part.data.toList.drop 165 = dktX9_part_7 := dk_seg dksX9_part_6 24 rfl rfl
theorem dksX9_part_8 : cX9_part.data.toList.drop 187 = dktX9_part_8 := dk_seg dksX9_part_7 22 rfl rfl
theorem dksX9_part_9 : cX9_part.data.toList.drop 210 = dktX9_part_9 := dk_seg dksX9_part_8 23 rfl rfl
theorem dksX9_part_10 : cX9_part.data.toList.drop 233 = dktX9_part_10 := dk_seg dksX9_part_9 23 rfl rfl
theorem dksX9_part_11 : cX9_part.data.toList.drop 255 = dktX9_part_11 := dk_seg dksX9_part_10 22 rfl rfl
theorem dksX9_part_12 : cX9_part.data.toList.drop 277 = dktX9_part_12 := dk_seg dksX9_part_11 22 rfl rfl
theorem dX9_part_0 : decode cX9_part 0 = .ok (.aload_n 0, 1) := dk_42 (dk_at dksX9_part_0 0 rfl rfl)
theorem dX9_part_1 : decode cX9_part 1 = .ok (.getfield 149, 3) := dk_180 0 149 (dk_at dksX9_part_0 1 rfl rfl)
theorem dX9_part_4 : decode cX9_part 4 = .ok (.aload_n 0, 1) := dk_42 (dk_at dksX9_part_0 4 rfl rfl)
theorem dX9_part_5 : decode cX9_part 5 = .ok (.getfield 146, 3) := dk_180 0 146 (dk_at dksX9_part_0 5 rfl rfl)
theorem dX9_part_8 : decode cX9_part 8 = .ok (.if_icmp .ge 15, 3) := dk_162 0 15 (dk_at dksX9_part_0 8 rfl rfl)
theorem dX9_part_11 : decode cX9_part 11 = .ok (.aload_n 0, 1) := dk_42 (dk_at dksX9_part_0 11 rfl rfl)
theorem dX9_part_12 : decode cX9_part 12 = .ok (.getfield 19, 3) := dk_180 0 19 (dk_at dksX9_part_0 12 rfl rfl)
theorem dX9_part_15 : decode cX9_part 15 = .ok (.aload_n 0, 1) := dk_42 (dk_at dksX9_part_0 15 rfl rfl)
theorem dX9_part_16 : decode cX9_part 16 = .ok (.getfield 149, 3) := dk_180 0 149 (dk_at dksX9_part_0 16 rfl rfl)
theorem dX9_part_19 : decode cX9_part 19 = .ok (.iaload, 1) := dk_46 (dk_at dksX9_part_0 19 rfl rfl)
theorem dX9_part_20 : decode cX9_part 20 = .ok (.goto 4, 3) := dk_167 0 4 (dk_at dksX9_part_0 20 rfl rfl)
theorem dX9_part_23 : decode cX9_part 23 = .ok (.iconst 0, 1) := dk_3 (dk_at dksX9_part_0 23 rfl rfl)
theorem dX9_part_24 : decode cX9_part 24 = .ok (.istore_n 2, 1) := dk_61 (dk_at dksX9_part_1 0 rfl rfl)
theorem dX9_part_25 : decode cX9_part 25 = .ok (.aload_n 0, 1) := dk_42 (dk_at dksX9_part_1 1 rfl rfl)
theorem dX9_part_26 : decode cX9_part 26 = .ok (.aload_n 0, 1) := dk_42 (dk_at dksX9_part_1 2 rfl rfl)
theorem dX9_part_27 : decode cX9_part 27 = .ok (.getfield 152, 3) := dk_180 0 152 (dk_at dksX9_part_1 3 rfl rfl)
theorem dX9_part_30 : decode cX9_part 30 = .ok (.ifCond .ne 27, 3) := dk_154 0 27 (dk_at dksX9_part_1 6 rfl rfl)
theorem dX9_part_33 : decode cX9_part 33 = .ok (.iload_n 2, 1) := dk_28 (dk_at dksX9_part_1 9 rfl rfl)
theorem dX9_part_34 : decode cX9_part 34 = .ok (.bipush 111, 2) := dk_16 111 (dk_at dksX9_part_1 10 rfl rfl)
theorem dX9_part_36 : decode cX9_part 36 = .ok (.if_icmp .eq 25, 3) := dk_159 0 25 (dk_at dksX9_part_1 12 rfl rfl)
theorem dX9_part_39 : decode cX9_part 39 = .ok (.iload_n 2, 1) := dk_28 (dk_at dksX9_part_1 15 rfl rfl)
theorem dX9_part_40 : decode cX9_part 40 = .ok (.bipush 115, 2) := dk_16 115 (dk_at dksX9_part_1 16 rfl rfl)
theorem dX9_part_42 : decode cX9_part 42 = .ok (.if_icmp .eq 19, 3) := dk_159 0 19 (dk_at dksX9_part_1 18 rfl rfl)
theorem dX9_part_45 : decode cX9_part 45 = .ok (.iload_n 2, 1) := dk_28 (dk_at dksX9_part_1 21 rfl rfl)
theorem dX9_part_46 : decode cX9_part 46 = .ok (.bipush 116, 2) := dk_16 116 (dk_at dksX9_part_1 22 rfl rfl)
theorem dX9_part_48 : decode cX9_part 48 = .ok (.if_icmp .eq 13, 3) := dk_159 0 13 (dk_at dksX9_part_2 0 rfl rfl)
theorem dX9_part_51 : decode cX9_part 51 = .ok (.iload_n 2, 1) := dk_28 (dk_at dksX9_part_2 3 rfl rfl)
theorem dX9_part_52 : decode cX9_part 52 = .ok (.bipush 114, 2) := dk_16 114 (dk_at dksX9_part_2 4 rfl rfl)
theorem dX9_part_54 : decode cX9_part 54 = .ok (.if_icmp .eq 7, 3) := dk_159 0 7 (dk_at dksX9_part_2 6 rfl rfl)
theorem dX9_part_57 : decode cX9_part 57 = .ok (.iconst 1, 1) := dk_4 (dk_at dksX9_part_2 9 rfl rfl)
theorem dX9_part_58 : decode cX9_part 58 = .ok (.goto 4, 3) := dk_167 0 4 (dk_at dksX9_part_2 10 rfl rfl)
theorem dX9_part_61 : decode cX9_part 61 = .ok (.iconst 0, 1) := dk_3 (dk_at dksX9_part_2 13 rfl rfl)
theorem dX9_part_62 : decode cX9_part 62 = .ok (.putfield 152, 3) := dk_181 0 152 (dk_at dksX9_part_2 14 rfl rfl)
theorem dX9_part_65 : decode cX9_part 65 = .ok (.aload_n 0, 1) := dk_42 (dk_at dksX9_part_2 17 rfl rfl)
theorem dX9_part_66 : decode cX9_part 66 = .ok (.dup, 1) := dk_89 (dk_at dksX9_part_2 18 rfl rfl)
theorem dX9_part_67 : decode cX9_part 67 = .ok (.getfield 149, 3) := dk_180 0 149 (dk_at dksX9_part_2 19 rfl rfl)
theorem dX9_part_70 : decode cX9_part 70 = .ok (.aload_n 0, 1) := dk_42 (dk_at dksX9_part_2 22 rfl rfl)
theorem dX9_part_71 : decode cX9_part 71 = .ok (.getfield 152, 3) := dk_180 0 152 (dk_at dksX9_part_3 0 rfl rfl)
theorem dX9_part_74 : decode cX9_part 74 = .ok (.ifCond .eq 7, 3) := dk_153 0 7 (dk_at dksX9_part_3 3 rfl rfl)
theorem dX9_part_77 : decode cX9_part 77 = .ok (.iconst 0, 1) := dk_3 (dk_at dksX9_part_3 6 rfl rfl)
theorem dX9_part_78 : decode cX9_part 78 = .ok (.goto 4, 3) := dk_167 0 4 (dk_at dksX9_part_3 7 rfl rfl)
theorem dX9_part_81 : decode cX9_part 81 = .ok (.iconst 1, 1) := dk_4 (dk_at dksX9_part_3 10 rfl rfl)
theorem dX9_part_82 : decode cX9_part 82 = .ok (.iadd, 1) := dk_96 (dk_at dksX9_part_3 11 rfl rfl)
theorem dX9_part_83 : decode cX9_part 83 = .ok (.putfield 149, 3) := dk_181 0 149 (dk_at dksX9_part_3 12 rfl rfl)
theorem dX9_part_86 : decode cX9_part 86 = .ok (.aload_n 0, 1) := dk_42 (dk_at dksX9_part_3 15 rfl rfl)
theorem dX9_part_87 : decode cX9_part 87 = .ok (.getfield 152, 3) := dk_180 0 152 (dk_at dksX9_part_3 16 rfl rfl)
theorem dX9_part_90 : decode cX9_part 90 = .ok (.ifCond .eq 5, 3) := dk_153 0 5 (dk_at dksX9_part_3 19 rfl rfl)
theorem dX9_part_93 : decode cX9_part 93 = .ok (.iconst 1, 1) := dk_4 (dk_at dksX9_part_3 22 rfl rfl)
theorem dX9_part_94 : decode cX9_part 94 = .ok (.ireturn, 1) := dk_172 (dk_at dksX9_part_3 23 rfl rfl)
theorem dX9_part_95 : decode cX9_part 95 = .ok (.iload_n 2, 1) := dk_28 (dk_at dksX9_part_4 0 rfl rfl)
theorem dX9_part_96 : decode cX9_part 96 = .ok (.bipush 111, 2) := dk_16 111 (dk_at dksX9_part_4 1 rfl rfl)
theorem dX9_part_98 : decode cX9_part 98 = .ok (.if_icmp .eq 9, 3) := dk_159 0 9 (dk_at dksX9_part_4 3 rfl rfl)
theorem dX9_part_101 : decode cX9_part 101 = .ok (.iload_n 2, 1) := dk_28 (dk_at dksX9_part_4 6 rfl rfl)
theorem dX9_part_102 : decode cX9_part 102 = .ok (.bipush 115, 2) := dk_16 115 (dk_at dksX9_part_4 7 rfl rfl)
theorem dX9_part_104 : decode cX9_part 104 = .ok (.if_icmp .ne 17, 3) := dk_160 0 17 (dk_at dksX9_part_4 9 rfl rfl)
theorem dX9_part_107 : decode cX9_part 107 = .ok (.aload_n 0, 1) := dk_42 (dk_at dksX9_part_4 12 rfl rfl)
theorem dX9_part_108 : decode cX9_part 108 = .ok (.bipush 48, 2) := dk_16 48 (dk_at dksX9_part_4 13 rfl rfl)
theorem dX9_part_110 : decode cX9_part 110 = .ok (.bipush 51, 2) := dk_16 51 (dk_at dksX9_part_4 15 rfl rfl)
theorem dX9_part_112 : decode cX9_part 112 = .ok (.invokevirtual 156, 3) := dk_182 0 156 (dk_at dksX9_part_4 17 rfl rfl)
theorem dX9_part_115 : decode cX9_part 115 = .ok (.bipush 48, 2) := dk_16 48 (dk_at dksX9_part_4 20 rfl rfl)
theorem dX9_part_117 : decode cX9_part 117 = .ok (.isub, 1) := dk_100 (dk_at dksX9_part_4 22 rfl rfl)
theorem dX9_part_118 : decode cX9_part 118 = .ok (.goto 4, 3) := dk_167 0 4 (dk_at dksX9_part_5 0 rfl rfl)
theorem dX9_part_121 : decode cX9_part 121 = .ok (.iconst 0, 1) := dk_3 (dk_at dksX9_part_5 3 rfl rfl)
theorem dX9_part_122 : decode cX9_part 122 = .ok (.istore_n 3, 1) := dk_62 (dk_at dksX9_part_5 4 rfl rfl)
theorem dX9_part_123 : decode cX9_part 123 = .ok (.iload_n 2, 1) := dk_28 (dk_at dksX9_part_5 5 rfl rfl)
theorem dX9_part_124 : decode cX9_part 124 = .ok (.bipush 111, 2) := dk_16 111 (dk_at dksX9_part_5 6 rfl rfl)
theorem dX9_part_126 : decode cX9_part 126 = .ok (.if_icmp .ne 14, 3) := dk_160 0 14 (dk_at dksX9_part_5 8 rfl rfl)
theorem dX9_part_129 : decode cX9_part 129 = .ok (.aload_n 0, 1) := dk_42 (dk_at dksX9_part_5 11 rfl rfl)
theorem dX9_part_130 : decode cX9_part 130 = .ok (.bipush 62, 2) := dk_16 62 (dk_at dksX9_part_5 12 rfl rfl)
theorem dX9_part_132 : decode cX9_part 132 = .ok (.bipush 62, 2) := dk_16 62 (dk_at dksX9_part_5 14 rfl rfl)
theorem dX9_part_134 : decode cX9_part 134 = .ok (.invokevirtual 156, 3) := dk_182 0 156 (dk_at dksX9_part_5 16 rfl rfl)
theorem dX9_part_137 : decode cX9_part 137 = .ok (.goto 4, 3) := dk_167 0 4 (dk_at dksX9_part_5 19 rfl rfl)
theorem dX9_part_140 : decode cX9_part 140 = .ok (.iconst 0, 1) := dk_3 (dk_at dksX9_part_5 22 rfl rfl)
theorem dX9_part_141 : decode cX9_part 141 = .ok (.istore 4, 2) := dk_54 4 (dk_at dksX9_part_6 0 rfl rfl)
theorem dX9_part_143 : decode cX9_part 143 = .ok (.iload_n 2, 1) := dk_28 (dk_at dksX9_part_6 2 rfl rfl)
theorem dX9_part_144 : decode cX9_part 144 = .ok (.bipush 111, 2) := dk_16 111 (dk_at dksX9_part_6 3 rfl rfl)
theorem dX9_part_146 : decode cX9_part 146 = .ok (.if_icmp .eq 9, 3) := dk_159 0 9 (dk_at dksX9_part_6 5 rfl rfl)
theorem dX9_part_149 : decode cX9_part 149 = .ok (.iload_n 2, 1) := dk_28 (dk_at dksX9_part_6 8 rfl rfl)
theorem dX9_part_150 : decode cX9_part 150 = .ok (.bipush 116, 2) := dk_16 116 (dk_at dksX9_part_6 9 rfl rfl)
theorem dX9_part_152 : decode cX9_part 152 = .ok (.if_icmp .ne 10, 3) := dk_160 0 10 (dk_at dksX9_part_6 11 rfl rfl)
theorem dX9_part_155 : decode cX9_part 155 = .ok (.aload_n 0, 1) := dk_42 (dk_at dksX9_part_6 14 rfl rfl)
theorem dX9_part_156 : decode cX9_part 156 = .ok (.invokevirtual 159, 3) := dk_182 0 159 (dk_at dksX9_part_6 15 rfl rfl)
theorem dX9_part_159 : decode cX9_part 159 = .ok (.goto 4, 3) := dk_167 0 4 (dk_at dksX9_part_6 18 rfl rfl)
theorem dX9_part_162 : decode cX9_part 162 = .ok (.iconst 0, 1) := dk_3 (dk_at dksX9_part_6 21 rfl rfl)
theorem dX9_part_163 : decode cX9_part 163 = .ok (.istore 5, 2) := dk_54 5 (dk_at dksX9_part_6 22 rfl rfl)
theorem dX9_part_165 : decode cX9_part 165 = .ok (.iload_n 1, 1) := dk_27 (dk_at dksX9_part_7 0 rfl rfl)
theorem dX9_part_166 : decode cX9_part 166 = .ok (.ifCond .ne 5, 3) := dk_154 0 5 (dk_at dksX9_part_7 1 rfl rfl)
theorem dX9_part_169 : decode cX9_part 169 = .ok (.iconst 1, 1) := dk_4 (dk_at dksX9_part_7 4 rfl rfl)
theorem dX9_part_170 : decode cX9_part 170 = .ok (.ireturn, 1) := dk_172 (dk_at dksX9_part_7 5 rfl rfl)
theorem dX9_part_171 : decode cX9_part 171 = .ok (.iload_n 2, 1) := dk_28 (dk_at dksX9_part_7 6 rfl rfl)
theorem dX9_part_172 : decode cX9_part 172 = .ok (.bipush 115, 2) := dk_16 115 (dk_at dksX9_part_7 7 rfl rfl)
theorem dX9_part_174 : decode cX9_part 174 = .ok (.if_icmp .eq 44, 3) := dk_159 0 44 (dk_at dksX9_part_7 9 rfl rfl)
theorem dX9_part_177 : decode cX9_part 177 = .ok (.iload_n 2, 1) := dk_28 (dk_at dksX9_part_7 12 rfl rfl)
theorem dX9_part_178 : decode cX9_part 178 = .ok (.bipush 114, 2) := dk_16 114 (dk_at dksX9_part_7 13 rfl rfl)
theorem dX9_part_180 : decode cX9_part 180 = .ok (.if_icmp .ne 13, 3) := dk_160 0 13 (dk_at dksX9_part_7 15 rfl rfl)
theorem dX9_part_183 : decode cX9_part 183 = .ok (.aload_n 0, 1) := dk_42 (dk_at dksX9_part_7 18 rfl rfl)
theorem dX9_part_184 : decode cX9_part 184 = .ok (.invokevirtual 74, 3) := dk_182 0 74 (dk_at dksX9_part_7 19 rfl rfl)
theorem dX9_part_187 : decode cX9_part 187 = .ok (.ifCond .ne 35, 3) := dk_154 0 35 (dk_at dksX9_part_8 0 rfl rfl)
theorem dX9_part_190 : decode cX9_part 190 = .ok (.goto 28, 3) := dk_167 0 28 (dk_at dksX9_part_8 3 rfl rfl)
theorem dX9_part_193 : decode cX9_part 193 = .ok (.aload_n 0, 1) := dk_42 (dk_at dksX9_part_8 6 rfl rfl)
theorem dX9_part_194 : decode cX9_part 194 = .ok (.iload 5, 2) := dk_21 5 (dk_at dksX9_part_8 7 rfl rfl)
theorem dX9_part_196 : decode cX9_part 196 = .ok (.invokevirtual 128, 3) := dk_182 0 128 (dk_at dksX9_part_8 9 rfl rfl)
theorem dX9_part_199 : decode cX9_part 199 = .ok (.ifCond .eq 23, 3) := dk_153 0 23 (dk_at dksX9_part_8 12 rfl rfl)
theorem dX9_part_202 : decode cX9_part 202 = .ok (.iload_n 2, 1) := dk_28 (dk_at dksX9_part_8 15 rfl rfl)
theorem dX9_part_203 : decode cX9_part 203 = .ok (.bipush 116, 2) := dk_16 116 (dk_at dksX9_part_8 16 rfl rfl)
theorem dX9_part_205 : decode cX9_part 205 = .ok (.if_icmp .eq 13, 3) := dk_159 0 13 (dk_at dksX9_part_8 18 rfl rfl)
theorem dX9_part_208 : decode cX9_part 208 = .ok (.aload_n 0, 1) := dk_42 (dk_at dksX9_part_8 21 rfl rfl)
theorem dX9_part_209 : decode cX9_part 209 = .ok (.iload_n 3, 1) := dk_29 (dk_at dksX9_part_8 22 rfl rfl)
theorem dX9_part_210 : decode cX9_part 210 = .ok (.iload 5, 2) := dk_21 5 (dk_at dksX9_part_9 0 rfl rfl)
theorem dX9_part_212 : decode cX9_part 212 = .ok (.invokevirtual 140, 3) := dk_182 0 140 (dk_at dksX9_part_9 2 rfl rfl)
theorem dX9_part_215 : decode cX9_part 215 = .ok (.ifCond .ne 7, 3) := dk_154 0 7 (dk_at dksX9_part_9 5 rfl rfl)
theorem dX9_part_218 : decode cX9_part 218 = .ok (.iconst 1, 1) := dk_4 (dk_at dksX9_part_9 8 rfl rfl)
theorem dX9_part_219 : decode cX9_part 219 = .ok (.goto 4, 3) := dk_167 0 4 (dk_at dksX9_part_9 9 rfl rfl)
theorem dX9_part_222 : decode cX9_part 222 = .ok (.iconst 0, 1) := dk_3 (dk_at dksX9_part_9 12 rfl rfl)
theorem dX9_part_223 : decode cX9_part 223 = .ok (.istore 6, 2) := dk_54 6 (dk_at dksX9_part_9 13 rfl rfl)
theorem dX9_part_225 : decode cX9_part 225 = .ok (.iload 6, 2) := dk_21 6 (dk_at dksX9_part_9 15 rfl rfl)
theorem dX9_part_227 : decode cX9_part 227 = .ok (.ifCond .eq 71, 3) := dk_153 0 71 (dk_at dksX9_part_9 17 rfl rfl)
theorem dX9_part_230 : decode cX9_part 230 = .ok (.iload_n 2, 1) := dk_28 (dk_at dksX9_part_9 20 rfl rfl)
theorem dX9_part_231 : decode cX9_part 231 = .ok (.bipush 116, 2) := dk_16 116 (dk_at dksX9_part_9 21 rfl rfl)
theorem dX9_part_233 : decode cX9_part 233 = .ok (.if_icmp .ne 16, 3) := dk_160 0 16 (dk_at dksX9_part_10 0 rfl rfl)
theorem dX9_part_236 : decode cX9_part 236 = .ok (.aload_n 0, 1) := dk_42 (dk_at dksX9_part_10 3 rfl rfl)
theorem dX9_part_237 : decode cX9_part 237 = .ok (.iload 5, 2) := dk_21 5 (dk_at dksX9_part_10 4 rfl rfl)
theorem dX9_part_239 : decode cX9_part 239 = .ok (.invokevirtual 131, 3) := dk_182 0 131 (dk_at dksX9_part_10 6 rfl rfl)
theorem dX9_part_242 : decode cX9_part 242 = .ok (.ifCond .eq 7, 3) := dk_153 0 7 (dk_at dksX9_part_10 9 rfl rfl)
theorem dX9_part_245 : decode cX9_part 245 = .ok (.iconst 1, 1) := dk_4 (dk_at dksX9_part_10 12 rfl rfl)
theorem dX9_part_246 : decode cX9_part 246 = .ok (.goto 4, 3) := dk_167 0 4 (dk_at dksX9_part_10 13 rfl rfl)
theorem dX9_part_249 : decode cX9_part 249 = .ok (.iconst 0, 1) := dk_3 (dk_at dksX9_part_10 16 rfl rfl)
theorem dX9_part_250 : decode cX9_part 250 = .ok (.istore 7, 2) := dk_54 7 (dk_at dksX9_part_10 17 rfl rfl)
theorem dX9_part_252 : decode cX9_part 252 = .ok (.iload_n 2, 1) := dk_28 (dk_at dksX9_part_10 19 rfl rfl)
theorem dX9_part_253 : decode cX9_part 253 = .ok (.bipush 114, 2) := dk_16 114 (dk_at dksX9_part_10 20 rfl rfl)
theorem dX9_part_255 : decode cX9_part 255 = .ok (.if_icmp .ne 10, 3) := dk_160 0 10 (dk_at dksX9_part_11 0 rfl rfl)
theorem dX9_part_258 : decode cX9_part 258 = .ok (.aload_n 0, 1) := dk_42 (dk_at dksX9_part_11 3 rfl rfl)
theorem dX9_part_259 : decode cX9_part 259 = .ok (.invokevirtual 143, 3) := dk_182 0 143 (dk_at dksX9_part_11 4 rfl rfl)
theorem dX9_part_262 : decode cX9_part 262 = .ok (.goto 4, 3) := dk_167 0 4 (dk_at dksX9_part_11 7 rfl rfl)
theorem dX9_part_265 : decode cX9_part 265 = .ok (.iconst 0, 1) := dk_3 (dk_at dksX9_part_11 10 rfl rfl)
theorem dX9_part_266 : decode cX9_part 266 = .ok (.istore 8, 2) := dk_54 8 (dk_at dksX9_part_11 11 rfl rfl)
theorem dX9_part_268 : decode cX9_part 268 = .ok (.iload_n 2, 1) := dk_28 (dk_at dksX9_part_11 13 rfl rfl)
theorem dX9_part_269 : decode cX9_part 269 = .ok (.bipush 111, 2) := dk_16 111 (dk_at dksX9_part_11 14 rfl rfl)
theorem dX9_part_271 : decode cX9_part 271 = .ok (.if_icmp .eq 9, 3) := dk_159 0 9 (dk_at dksX9_part_11 16 rfl rfl)
theorem dX9_part_274 : decode cX9_part 274 = .ok (.iload_n 2, 1) := dk_28 (dk_at dksX9_part_11 19 rfl rfl)
theorem dX9_part_275 : decode cX9_part 275 = .ok (.bipush 115, 2) := dk_16 115 (dk_at dksX9_part_11 20 rfl rfl)
theorem dX9_part_277 : decode cX9_part 277 = .ok (.if_icmp .ne 21, 3) := dk_160 0 21 (dk_at dksX9_part_12 0 rfl rfl)
theorem dX9_part_280 : decode cX9_part 280 = .ok (.aload_n 0, 1) := dk_42 (dk_at dksX9_part_12 3 rfl rfl)
theorem dX9_part_281 : decode cX9_part 281 = .ok (.iload_n 3, 1) := dk_29 (dk_at dksX9_part_12 4 rfl rfl)
theorem dX9_part_282 : decode cX9_part 282 = .ok (.iconst 2, 1) := dk_5 (dk_at dksX9_part_12 5 rfl rfl)
theorem dX9_part_283 : decode cX9_part 283 = .ok (.iload_n 2, 1) := dk_28 (dk_at dksX9_part_12 6 rfl rfl)
theorem dX9_part_284 : decode cX9_part 284 = .ok (.bipush 111, 2) := dk_16 111 (dk_at dksX9_part_12 7 rfl rfl)
theorem dX9_part_286 : decode cX9_part 286 = .ok (.if_icmp .ne 8, 3) := dk_160 0 8 (dk_at dksX9_part_12 9 rfl rfl)
theorem dX9_part_289 : decode cX9_part 289 = .ok (.iload 5, 2) := dk_21 5 (dk_at dksX9_part_12 12 rfl rfl)
theorem dX9_part_291 : decode cX9_part 291 = .ok (.goto 4, 3) := dk_167 0 4 (dk_at dksX9_part_12 14 rfl rfl)
theorem dX9_part_294 : decode cX9_part 294 = .ok (.iconst (-1), 1) := dk_2 (dk_at dksX9_part_12 17 rfl rfl)
theorem dX9_part_295 : decode cX9_part 295 = .ok (.invokevirtual 31, 3) := dk_182 0 31 (dk_at dksX9_part_12 18 rfl rfl)
theorem dX9_part_298 : decode cX9_part 298 = .ok (.iload 6, 2) := dk_21 6 (dk_at dksX9_part_12 21 rfl rfl)
theorem dX9_part_300 : decode cX9_part 300 = .ok (.ireturn, 1) := dk_172 (dk_at dksX9_part_12 23 rfl rfl)
abbrev cX9_sign : ByteArray := prog_17_method_50_code
def yX9_sign : MethodName := ⟨RX9, "sign", "(II)I"⟩
def dkwX9_sign_3 : List UInt8 := [167, 0, 4, 4, 96, 181, 0, 149, 29, 172]
abbrev dktX9_sign_3 : List UInt8 := dkwX9_sign_3 ++ []
def dkwX9_sign_2 : List UInt8 := [154, 0, 7, 4, 167, 0, 4, 3, 181, 0, 152, 42, 89, 180, 0, 149, 42, 180, 0, 152, 153, 0, 7, 3]
abbrev dktX9_sign_2 : List UInt8 := dkwX9_sign_2 ++ dktX9_sign_3
def dkwX9_sign_1 : List UInt8 := [180, 0, 149, 46, 167, 0, 4, 3, 62, 42, 42, 180, 0, 152, 154, 0, 12, 29, 27, 28, 184, 0, 42]
abbrev dktX9_sign_1 : List UInt8 := dkwX9_sign_1 ++ dktX9_sign_2
def dkwX9_sign_0 : List UInt8 := [42, 180, 0, 149, 42, 180, 0, 146, 162, 0, 22, 42, 180, 0, 152, 154, 0, 15, 42, 180, 0, 19, 42]
abbrev dktX9_sign_0 : List UInt8 := dkwX9_sign_0 ++ dktX9_sign_1
theorem dksX9_sign_0 : cX9_sign.data.toList.drop 0 = dktX9_sign_0 := by decide +kernel
theorem dksX9_sign_1 : cX9_sign.data.toList.drop 23 = dktX9_sign_1 := dk_seg dksX9_sign_0 23 rfl rfl
theorem dksX9_sign_2 : cX9_sign.data.toList.drop 46 = dktX9_sign_2 := dk_seg dksX9_sign_1 23 rfl rfl
theorem dksX9_sign_3 : cX9_sign.data.toList.drop 70 = dktX9_sign_3 := dk_seg dksX9_sign_2 24 rfl rfl
theorem dX9_sign_0 : decode cX9_sign 0 = .ok (.aload_n 0, 1) := dk_42 (dk_at dksX9_sign_0 0 rfl rfl)
theorem dX9_sign_1 : decode cX9_sign 1 = .ok (.getfield 149, 3) := dk_180 0 149 (dk_at dksX9_sign_0 1 rfl rfl)
theorem dX9_sign_4 : decode cX9_sign 4 = .ok (.aload_n 0, 1) := dk_42 (dk_at dksX9_sign_0 4 rfl rfl)
theorem dX9_sign_5 : decode cX9_sign 5 = .ok (.getfield 146, 3) := dk_180 0 146 (dk_at dksX9_sign_0 5 rfl rfl)
theorem dX9_sign_8 : decode cX9_sign 8 = .ok (.if_icmp .ge 22, 3) := dk_162 0 22 (dk_at dksX9_sign_0 8 rfl rfl)
theorem dX9_sign_11 : decode cX9_sign 11 = .ok (.aload_n 0, 1) := dk_42 (dk_at dksX9_sign_0 11 rfl rfl)
theorem dX9_sign_12 : decode cX9_sign 12 = .ok (.getfield 152, 3) := dk_180 0 152 (dk_at dksX9_sign_0 12 rfl rfl)
theorem dX9_sign_15 : decode cX9_sign 15 = .ok (.ifCond .ne 15, 3) := dk_154 0 15 (dk_at dksX9_sign_0 15 rfl rfl)
theorem dX9_sign_18 : decode cX9_sign 18 = .ok (.aload_n 0, 1) := dk_42 (dk_at dksX9_sign_0 18 rfl rfl)
theorem dX9_sign_19 : decode cX9_sign 19 = .ok (.getfield 19, 3) := dk_180 0 19 (dk_at dksX9_sign_0 19 rfl rfl)
theorem dX9_sign_22 : decode cX9_sign 22 = .ok (.aload_n 0, 1) := dk_42 (dk_at dksX9_sign_0 22 rfl rfl)
theorem dX9_sign_23 : decode cX9_sign 23 = .ok (.getfield 149, 3) := dk_180 0 149 (dk_at dksX9_sign_1 0 rfl rfl)
theorem dX9_sign_26 : decode cX9_sign 26 = .ok (.iaload, 1) := dk_46 (dk_at dksX9_sign_1 3 rfl rfl)
theorem dX9_sign_27 : decode cX9_sign 27 = .ok (.goto 4, 3) := dk_167 0 4 (dk_at dksX9_sign_1 4 rfl rfl)
theorem dX9_sign_30 : decode cX9_sign 30 = .ok (.iconst 0, 1) := dk_3 (dk_at dksX9_sign_1 7 rfl rfl)
theorem dX9_sign_31 : decode cX9_sign 31 = .ok (.istore_n 3, 1) := dk_62 (dk_at dksX9_sign_1 8 rfl rfl)
theorem dX9_sign_32 : decode cX9_sign 32 = .ok (.aload_n 0, 1) := dk_42 (dk_at dksX9_sign_1 9 rfl rfl)
theorem dX9_sign_33 : decode cX9_sign 33 = .ok (.aload_n 0, 1) := dk_42 (dk_at dksX9_sign_1 10 rfl rfl)
theorem dX9_sign_34 : decode cX9_sign 34 = .ok (.getfield 152, 3) := dk_180 0 152 (dk_at dksX9_sign_1 11 rfl rfl)
theorem dX9_sign_37 : decode cX9_sign 37 = .ok (.ifCond .ne 12, 3) := dk_154 0 12 (dk_at dksX9_sign_1 14 rfl rfl)
theorem dX9_sign_40 : decode cX9_sign 40 = .ok (.iload_n 3, 1) := dk_29 (dk_at dksX9_sign_1 17 rfl rfl)
theorem dX9_sign_41 : decode cX9_sign 41 = .ok (.iload_n 1, 1) := dk_27 (dk_at dksX9_sign_1 18 rfl rfl)
theorem dX9_sign_42 : decode cX9_sign 42 = .ok (.iload_n 2, 1) := dk_28 (dk_at dksX9_sign_1 19 rfl rfl)
theorem dX9_sign_43 : decode cX9_sign 43 = .ok (.invokestatic 42, 3) := dk_184 0 42 (dk_at dksX9_sign_1 20 rfl rfl)
theorem dX9_sign_46 : decode cX9_sign 46 = .ok (.ifCond .ne 7, 3) := dk_154 0 7 (dk_at dksX9_sign_2 0 rfl rfl)
theorem dX9_sign_49 : decode cX9_sign 49 = .ok (.iconst 1, 1) := dk_4 (dk_at dksX9_sign_2 3 rfl rfl)
theorem dX9_sign_50 : decode cX9_sign 50 = .ok (.goto 4, 3) := dk_167 0 4 (dk_at dksX9_sign_2 4 rfl rfl)
theorem dX9_sign_53 : decode cX9_sign 53 = .ok (.iconst 0, 1) := dk_3 (dk_at dksX9_sign_2 7 rfl rfl)
theorem dX9_sign_54 : decode cX9_sign 54 = .ok (.putfield 152, 3) := dk_181 0 152 (dk_at dksX9_sign_2 8 rfl rfl)
theorem dX9_sign_57 : decode cX9_sign 57 = .ok (.aload_n 0, 1) := dk_42 (dk_at dksX9_sign_2 11 rfl rfl)
theorem dX9_sign_58 : decode cX9_sign 58 = .ok (.dup, 1) := dk_89 (dk_at dksX9_sign_2 12 rfl rfl)
theorem dX9_sign_59 : decode cX9_sign 59 = .ok (.getfield 149, 3) := dk_180 0 149 (dk_at dksX9_sign_2 13 rfl rfl)
theorem dX9_sign_62 : decode cX9_sign 62 = .ok (.aload_n 0, 1) := dk_42 (dk_at dksX9_sign_2 16 rfl rfl)
theorem dX9_sign_63 : decode cX9_sign 63 = .ok (.getfield 152, 3) := dk_180 0 152 (dk_at dksX9_sign_2 17 rfl rfl)
theorem dX9_sign_66 : decode cX9_sign 66 = .ok (.ifCond .eq 7, 3) := dk_153 0 7 (dk_at dksX9_sign_2 20 rfl rfl)
theorem dX9_sign_69 : decode cX9_sign 69 = .ok (.iconst 0, 1) := dk_3 (dk_at dksX9_sign_2 23 rfl rfl)
theorem dX9_sign_70 : decode cX9_sign 70 = .ok (.goto 4, 3) := dk_167 0 4 (dk_at dksX9_sign_3 0 rfl rfl)
theorem dX9_sign_73 : decode cX9_sign 73 = .ok (.iconst 1, 1) := dk_4 (dk_at dksX9_sign_3 3 rfl rfl)
theorem dX9_sign_74 : decode cX9_sign 74 = .ok (.iadd, 1) := dk_96 (dk_at dksX9_sign_3 4 rfl rfl)
theorem dX9_sign_75 : decode cX9_sign 75 = .ok (.putfield 149, 3) := dk_181 0 149 (dk_at dksX9_sign_3 5 rfl rfl)
theorem dX9_sign_78 : decode cX9_sign 78 = .ok (.iload_n 3, 1) := dk_29 (dk_at dksX9_sign_3 8 rfl rfl)
theorem dX9_sign_79 : decode cX9_sign 79 = .ok (.ireturn, 1) := dk_172 (dk_at dksX9_sign_3 9 rfl rfl)
abbrev cX9_number : ByteArray := prog_17_method_51_code
def yX9_number : MethodName := ⟨RX9, "number", "()I"⟩
def dkwX9_number_4 : List UInt8 := [182, 0, 156, 96, 16, 48, 100, 167, 0, 4, 27, 172]
abbrev dktX9_number_4 : List UInt8 := dkwX9_number_4 ++ []
def dkwX9_number_3 : List UInt8 := [16, 24, 162, 0, 7, 4, 167, 0, 4, 3, 61, 28, 153, 0, 22, 16, 10, 27, 104, 42, 16, 48, 16, 57]
abbrev dktX9_number_3 : List UInt8 := dkwX9_number_3 ++ dktX9_number_4
def dkwX9_number_2 : List UInt8 := [184, 0, 42, 153, 0, 29, 16, 10, 27, 104, 42, 180, 0, 19, 42, 180, 0, 149, 46, 96, 16, 48, 100]
abbrev dktX9_number_2 : List UInt8 := dkwX9_number_2 ++ dktX9_number_3
def dkwX9_number_1 : List UInt8 := [180, 0, 149, 42, 180, 0, 146, 162, 0, 48, 42, 180, 0, 19, 42, 180, 0, 149, 46, 16, 48, 16, 57]
abbrev dktX9_number_1 : List UInt8 := dkwX9_number_1 ++ dktX9_number_2
def dkwX9_number_0 : List UInt8 := [42, 16, 48, 16, 57, 182, 0, 156, 16, 48, 100, 60, 42, 180, 0, 152, 154, 0, 63, 27, 158, 0, 59, 42]
abbrev dktX9_number_0 : List UInt8 := dkwX9_number_0 ++ dktX9_number_1
theorem dksX9_number_0 : cX9_number.data.toList.drop 0 = dktX9_number_0 := by decide +kernel
theorem dksX9_number_1 : cX9_number.data.toList.drop 24 = dktX9_number_1 := dk_seg dksX9_number_0 24 rfl rfl
theorem dksX9_number_2 : cX9_number.data.toList.drop 47 = dktX9_number_2 := dk_seg dksX9_number_1 23 rfl rfl
theorem dksX9_number_3 : cX9_number.data.toList.drop 70 = dktX9_number_3 := dk_seg dksX9_number_2 23 rfl rfl
theorem dksX9_number_4 : cX9_number.data.toList.drop 94 = dktX9_number_4 := dk_seg dksX9_number_3 24 rfl rfl
theorem dX9_number_0 : decode cX9_number 0 = .ok (.aload_n 0, 1) := dk_42 (dk_at dksX9_number_0 0 rfl rfl)
theorem dX9_number_1 : decode cX9_number 1 = .ok (.bipush 48, 2) := dk_16 48 (dk_at dksX9_number_0 1 rfl rfl)
theorem dX9_number_3 : decode cX9_number 3 = .ok (.bipush 57, 2) := dk_16 57 (dk_at dksX9_number_0 3 rfl rfl)
theorem dX9_number_5 : decode cX9_number 5 = .ok (.invokevirtual 156, 3) := dk_182 0 156 (dk_at dksX9_number_0 5 rfl rfl)
theorem dX9_number_8 : decode cX9_number 8 = .ok (.bipush 48, 2) := dk_16 48 (dk_at dksX9_number_0 8 rfl rfl)
theorem dX9_number_10 : decode cX9_number 10 = .ok (.isub, 1) := dk_100 (dk_at dksX9_number_0 10 rfl rfl)
theorem dX9_number_11 : decode cX9_number 11 = .ok (.istore_n 1, 1) := dk_60 (dk_at dksX9_number_0 11 rfl rfl)
theorem dX9_number_12 : decode cX9_number 12 = .ok (.aload_n 0, 1) := dk_42 (dk_at dksX9_number_0 12 rfl rfl)
theorem dX9_number_13 : decode cX9_number 13 = .ok (.getfield 152, 3) := dk_180 0 152 (dk_at dksX9_number_0 13 rfl rfl)
theorem dX9_number_16 : decode cX9_number 16 = .ok (.ifCond .ne 63, 3) := dk_154 0 63 (dk_at dksX9_number_0 16 rfl rfl)
theorem dX9_number_19 : decode cX9_number 19 = .ok (.iload_n 1, 1) := dk_27 (dk_at dksX9_number_0 19 rfl rfl)
theorem dX9_number_20 : decode cX9_number 20 = .ok (.ifCond .le 59, 3) := dk_158 0 59 (dk_at dksX9_number_0 20 rfl rfl)
theorem dX9_number_23 : decode cX9_number 23 = .ok (.aload_n 0, 1) := dk_42 (dk_at dksX9_number_0 23 rfl rfl)
theorem dX9_number_24 : decode cX9_number 24 = .ok (.getfield 149, 3) := dk_180 0 149 (dk_at dksX9_number_1 0 rfl rfl)
theorem dX9_number_27 : decode cX9_number 27 = .ok (.aload_n 0, 1) := dk_42 (dk_at dksX9_number_1 3 rfl rfl)
theorem dX9_number_28 : decode cX9_number 28 = .ok (.getfield 146, 3) := dk_180 0 146 (dk_at dksX9_number_1 4 rfl rfl)
theorem dX9_number_31 : decode cX9_number 31 = .ok (.if_icmp .ge 48, 3) := dk_162 0 48 (dk_at dksX9_number_1 7 rfl rfl)
theorem dX9_number_34 : decode cX9_number 34 = .ok (.aload_n 0, 1) := dk_42 (dk_at dksX9_number_1 10 rfl rfl)
theorem dX9_number_35 : decode cX9_number 35 = .ok (.getfield 19, 3) := dk_180 0 19 (dk_at dksX9_number_1 11 rfl rfl)
theorem dX9_number_38 : decode cX9_number 38 = .ok (.aload_n 0, 1) := dk_42 (dk_at dksX9_number_1 14 rfl rfl)
theorem dX9_number_39 : decode cX9_number 39 = .ok (.getfield 149, 3) := dk_180 0 149 (dk_at dksX9_number_1 15 rfl rfl)
theorem dX9_number_42 : decode cX9_number 42 = .ok (.iaload, 1) := dk_46 (dk_at dksX9_number_1 18 rfl rfl)
theorem dX9_number_43 : decode cX9_number 43 = .ok (.bipush 48, 2) := dk_16 48 (dk_at dksX9_number_1 19 rfl rfl)
theorem dX9_number_45 : decode cX9_number 45 = .ok (.bipush 57, 2) := dk_16 57 (dk_at dksX9_number_1 21 rfl rfl)
theorem dX9_number_47 : decode cX9_number 47 = .ok (.invokestatic 42, 3) := dk_184 0 42 (dk_at dksX9_number_2 0 rfl rfl)
theorem dX9_number_50 : decode cX9_number 50 = .ok (.ifCond .eq 29, 3) := dk_153 0 29 (dk_at dksX9_number_2 3 rfl rfl)
theorem dX9_number_53 : decode cX9_number 53 = .ok (.bipush 10, 2) := dk_16 10 (dk_at dksX9_number_2 6 rfl rfl)
theorem dX9_number_55 : decode cX9_number 55 = .ok (.iload_n 1, 1) := dk_27 (dk_at dksX9_number_2 8 rfl rfl)
theorem dX9_number_56 : decode cX9_number 56 = .ok (.imul, 1) := dk_104 (dk_at dksX9_number_2 9 rfl rfl)
theorem dX9_number_57 : decode cX9_number 57 = .ok (.aload_n 0, 1) := dk_42 (dk_at dksX9_number_2 10 rfl rfl)
theorem dX9_number_58 : decode cX9_number 58 = .ok (.getfield 19, 3) := dk_180 0 19 (dk_at dksX9_number_2 11 rfl rfl)
theorem dX9_number_61 : decode cX9_number 61 = .ok (.aload_n 0, 1) := dk_42 (dk_at dksX9_number_2 14 rfl rfl)
theorem dX9_number_62 : decode cX9_number 62 = .ok (.getfield 149, 3) := dk_180 0 149 (dk_at dksX9_number_2 15 rfl rfl)
theorem dX9_number_65 : decode cX9_number 65 = .ok (.iaload, 1) := dk_46 (dk_at dksX9_number_2 18 rfl rfl)
theorem dX9_number_66 : decode cX9_number 66 = .ok (.iadd, 1) := dk_96 (dk_at dksX9_number_2 19 rfl rfl)
theorem dX9_number_67 : decode cX9_number 67 = .ok (.bipush 48, 2) := dk_16 48 (dk_at dksX9_number_2 20 rfl rfl)
theorem dX9_number_69 : decode cX9_number 69 = .ok (.isub, 1) := dk_100 (dk_at dksX9_number_2 22 rfl rfl)
theorem dX9_number_70 : decode cX9_number 70 = .ok (.bipush 24, 2) := dk_16 24 (dk_at dksX9_number_3 0 rfl rfl)
theorem dX9_number_72 : decode cX9_number 72 = .ok (.if_icmp .ge 7, 3) := dk_162 0 7 (dk_at dksX9_number_3 2 rfl rfl)
theorem dX9_number_75 : decode cX9_number 75 = .ok (.iconst 1, 1) := dk_4 (dk_at dksX9_number_3 5 rfl rfl)
theorem dX9_number_76 : decode cX9_number 76 = .ok (.goto 4, 3) := dk_167 0 4 (dk_at dksX9_number_3 6 rfl rfl)
theorem dX9_number_79 : decode cX9_number 79 = .ok (.iconst 0, 1) := dk_3 (dk_at dksX9_number_3 9 rfl rfl)
theorem dX9_number_80 : decode cX9_number 80 = .ok (.istore_n 2, 1) := dk_61 (dk_at dksX9_number_3 10 rfl rfl)
theorem dX9_number_81 : decode cX9_number 81 = .ok (.iload_n 2, 1) := dk_28 (dk_at dksX9_number_3 11 rfl rfl)
theorem dX9_number_82 : decode cX9_number 82 = .ok (.ifCond .eq 22, 3) := dk_153 0 22 (dk_at dksX9_number_3 12 rfl rfl)
theorem dX9_number_85 : decode cX9_number 85 = .ok (.bipush 10, 2) := dk_16 10 (dk_at dksX9_number_3 15 rfl rfl)
theorem dX9_number_87 : decode cX9_number 87 = .ok (.iload_n 1, 1) := dk_27 (dk_at dksX9_number_3 17 rfl rfl)
theorem dX9_number_88 : decode cX9_number 88 = .ok (.imul, 1) := dk_104 (dk_at dksX9_number_3 18 rfl rfl)
theorem dX9_number_89 : decode cX9_number 89 = .ok (.aload_n 0, 1) := dk_42 (dk_at dksX9_number_3 19 rfl rfl)
theorem dX9_number_90 : decode cX9_number 90 = .ok (.bipush 48, 2) := dk_16 48 (dk_at dksX9_number_3 20 rfl rfl)
theorem dX9_number_92 : decode cX9_number 92 = .ok (.bipush 57, 2) := dk_16 57 (dk_at dksX9_number_3 22 rfl rfl)
theorem dX9_number_94 : decode cX9_number 94 = .ok (.invokevirtual 156, 3) := dk_182 0 156 (dk_at dksX9_number_4 0 rfl rfl)
theorem dX9_number_97 : decode cX9_number 97 = .ok (.iadd, 1) := dk_96 (dk_at dksX9_number_4 3 rfl rfl)
theorem dX9_number_98 : decode cX9_number 98 = .ok (.bipush 48, 2) := dk_16 48 (dk_at dksX9_number_4 4 rfl rfl)
theorem dX9_number_100 : decode cX9_number 100 = .ok (.isub, 1) := dk_100 (dk_at dksX9_number_4 6 rfl rfl)
theorem dX9_number_101 : decode cX9_number 101 = .ok (.goto 4, 3) := dk_167 0 4 (dk_at dksX9_number_4 7 rfl rfl)
theorem dX9_number_104 : decode cX9_number 104 = .ok (.iload_n 1, 1) := dk_27 (dk_at dksX9_number_4 10 rfl rfl)
theorem dX9_number_105 : decode cX9_number 105 = .ok (.ireturn, 1) := dk_172 (dk_at dksX9_number_4 11 rfl rfl)
abbrev cX9_play : ByteArray := prog_17_method_55_code
def yX9_play : MethodName := ⟨RX9, "play", "()I"⟩
def dkwX9_play_2 : List UInt8 := [28, 172]
abbrev dktX9_play_2 : List UInt8 := dkwX9_play_2 ++ []
def dkwX9_play_1 : List UInt8 := [42, 182, 0, 125, 42, 180, 0, 7, 17, 0, 172, 3, 79, 42, 4, 182, 0, 166, 61, 42, 3, 181, 0, 146]
abbrev dktX9_play_1 : List UInt8 := dkwX9_play_1 ++ dktX9_play_2
def dkwX9_play_0 : List UInt8 := [42, 3, 181, 0, 38, 42, 3, 182, 0, 166, 60, 42, 180, 0, 152, 153, 0, 9, 42, 4, 182, 0, 122, 172]
abbrev dktX9_play_0 : List UInt8 := dkwX9_play_0 ++ dktX9_play_1
theorem dksX9_play_0 : cX9_play.data.toList.drop 0 = dktX9_play_0 := by decide +kernel
theorem dksX9_play_1 : cX9_play.data.toList.drop 24 = dktX9_play_1 := dk_seg dksX9_play_0 24 rfl rfl
theorem dksX9_play_2 : cX9_play.data.toList.drop 48 = dktX9_play_2 := dk_seg dksX9_play_1 24 rfl rfl
theorem dX9_play_0 : decode cX9_play 0 = .ok (.aload_n 0, 1) := dk_42 (dk_at dksX9_play_0 0 rfl rfl)
theorem dX9_play_1 : decode cX9_play 1 = .ok (.iconst 0, 1) := dk_3 (dk_at dksX9_play_0 1 rfl rfl)
theorem dX9_play_2 : decode cX9_play 2 = .ok (.putfield 38, 3) := dk_181 0 38 (dk_at dksX9_play_0 2 rfl rfl)
theorem dX9_play_5 : decode cX9_play 5 = .ok (.aload_n 0, 1) := dk_42 (dk_at dksX9_play_0 5 rfl rfl)
theorem dX9_play_6 : decode cX9_play 6 = .ok (.iconst 0, 1) := dk_3 (dk_at dksX9_play_0 6 rfl rfl)
theorem dX9_play_7 : decode cX9_play 7 = .ok (.invokevirtual 166, 3) := dk_182 0 166 (dk_at dksX9_play_0 7 rfl rfl)
theorem dX9_play_10 : decode cX9_play 10 = .ok (.istore_n 1, 1) := dk_60 (dk_at dksX9_play_0 10 rfl rfl)
theorem dX9_play_11 : decode cX9_play 11 = .ok (.aload_n 0, 1) := dk_42 (dk_at dksX9_play_0 11 rfl rfl)
theorem dX9_play_12 : decode cX9_play 12 = .ok (.getfield 152, 3) := dk_180 0 152 (dk_at dksX9_play_0 12 rfl rfl)
theorem dX9_play_15 : decode cX9_play 15 = .ok (.ifCond .eq 9, 3) := dk_153 0 9 (dk_at dksX9_play_0 15 rfl rfl)
theorem dX9_play_18 : decode cX9_play 18 = .ok (.aload_n 0, 1) := dk_42 (dk_at dksX9_play_0 18 rfl rfl)
theorem dX9_play_19 : decode cX9_play 19 = .ok (.iconst 1, 1) := dk_4 (dk_at dksX9_play_0 19 rfl rfl)
theorem dX9_play_20 : decode cX9_play 20 = .ok (.invokevirtual 122, 3) := dk_182 0 122 (dk_at dksX9_play_0 20 rfl rfl)
theorem dX9_play_23 : decode cX9_play 23 = .ok (.ireturn, 1) := dk_172 (dk_at dksX9_play_0 23 rfl rfl)
theorem dX9_play_24 : decode cX9_play 24 = .ok (.aload_n 0, 1) := dk_42 (dk_at dksX9_play_1 0 rfl rfl)
theorem dX9_play_25 : decode cX9_play 25 = .ok (.invokevirtual 125, 3) := dk_182 0 125 (dk_at dksX9_play_1 1 rfl rfl)
theorem dX9_play_28 : decode cX9_play 28 = .ok (.aload_n 0, 1) := dk_42 (dk_at dksX9_play_1 4 rfl rfl)
theorem dX9_play_29 : decode cX9_play 29 = .ok (.getfield 7, 3) := dk_180 0 7 (dk_at dksX9_play_1 5 rfl rfl)
theorem dX9_play_32 : decode cX9_play 32 = .ok (.sipush 172, 3) := dk_17 0 172 (dk_at dksX9_play_1 8 rfl rfl)
theorem dX9_play_35 : decode cX9_play 35 = .ok (.iconst 0, 1) := dk_3 (dk_at dksX9_play_1 11 rfl rfl)
theorem dX9_play_36 : decode cX9_play 36 = .ok (.iastore, 1) := dk_79 (dk_at dksX9_play_1 12 rfl rfl)
theorem dX9_play_37 : decode cX9_play 37 = .ok (.aload_n 0, 1) := dk_42 (dk_at dksX9_play_1 13 rfl rfl)
theorem dX9_play_38 : decode cX9_play 38 = .ok (.iconst 1, 1) := dk_4 (dk_at dksX9_play_1 14 rfl rfl)
theorem dX9_play_39 : decode cX9_play 39 = .ok (.invokevirtual 166, 3) := dk_182 0 166 (dk_at dksX9_play_1 15 rfl rfl)
theorem dX9_play_42 : decode cX9_play 42 = .ok (.istore_n 2, 1) := dk_61 (dk_at dksX9_play_1 18 rfl rfl)
theorem dX9_play_43 : decode cX9_play 43 = .ok (.aload_n 0, 1) := dk_42 (dk_at dksX9_play_1 19 rfl rfl)
theorem dX9_play_44 : decode cX9_play 44 = .ok (.iconst 0, 1) := dk_3 (dk_at dksX9_play_1 20 rfl rfl)
theorem dX9_play_45 : decode cX9_play 45 = .ok (.putfield 146, 3) := dk_181 0 146 (dk_at dksX9_play_1 21 rfl rfl)
theorem dX9_play_48 : decode cX9_play 48 = .ok (.iload_n 2, 1) := dk_28 (dk_at dksX9_play_2 0 rfl rfl)
theorem dX9_play_49 : decode cX9_play 49 = .ok (.ireturn, 1) := dk_172 (dk_at dksX9_play_2 1 rfl rfl)
abbrev cX9_hasStopped : ByteArray := prog_17_method_56_code
def yX9_hasStopped : MethodName := ⟨RX9, "hasStopped", "()Z"⟩
def dkwX9_hasStopped_0 : List UInt8 := [42, 3, 181, 0, 38, 42, 180, 0, 7, 17, 0, 172, 46, 4, 160, 0, 7, 4, 167, 0, 4, 3, 172]
abbrev dktX9_hasStopped_0 : List UInt8 := dkwX9_hasStopped_0 ++ []
theorem dksX9_hasStopped_0 : cX9_hasStopped.data.toList.drop 0 = dktX9_hasStopped_0 := by decide +kernel
theorem dX9_hasStopped_0 : decode cX9_hasStopped 0 = .ok (.aload_n 0, 1) := dk_42 (dk_at dksX9_hasStopped_0 0 rfl rfl)
theorem dX9_hasStopped_1 : decode cX9_hasStopped 1 = .ok (.iconst 0, 1) := dk_3 (dk_at dksX9_hasStopped_0 1 rfl rfl)
theorem dX9_hasStopped_2 : decode cX9_hasStopped 2 = .ok (.putfield 38, 3) := dk_181 0 38 (dk_at dksX9_hasStopped_0 2 rfl rfl)
theorem dX9_hasStopped_5 : decode cX9_hasStopped 5 = .ok (.aload_n 0, 1) := dk_42 (dk_at dksX9_hasStopped_0 5 rfl rfl)
theorem dX9_hasStopped_6 : decode cX9_hasStopped 6 = .ok (.getfield 7, 3) := dk_180 0 7 (dk_at dksX9_hasStopped_0 6 rfl rfl)
theorem dX9_hasStopped_9 : decode cX9_hasStopped 9 = .ok (.sipush 172, 3) := dk_17 0 172 (dk_at dksX9_hasStopped_0 9 rfl rfl)
theorem dX9_hasStopped_12 : decode cX9_hasStopped 12 = .ok (.iaload, 1) := dk_46 (dk_at dksX9_hasStopped_0 12 rfl rfl)
theorem dX9_hasStopped_13 : decode cX9_hasStopped 13 = .ok (.iconst 1, 1) := dk_4 (dk_at dksX9_hasStopped_0 13 rfl rfl)
theorem dX9_hasStopped_14 : decode cX9_hasStopped 14 = .ok (.if_icmp .ne 7, 3) := dk_160 0 7 (dk_at dksX9_hasStopped_0 14 rfl rfl)
theorem dX9_hasStopped_17 : decode cX9_hasStopped 17 = .ok (.iconst 1, 1) := dk_4 (dk_at dksX9_hasStopped_0 17 rfl rfl)
theorem dX9_hasStopped_18 : decode cX9_hasStopped 18 = .ok (.goto 4, 3) := dk_167 0 4 (dk_at dksX9_hasStopped_0 18 rfl rfl)
theorem dX9_hasStopped_21 : decode cX9_hasStopped 21 = .ok (.iconst 0, 1) := dk_3 (dk_at dksX9_hasStopped_0 21 rfl rfl)
theorem dX9_hasStopped_22 : decode cX9_hasStopped 22 = .ok (.ireturn, 1) := dk_172 (dk_at dksX9_hasStopped_0 22 rfl rfl)
abbrev cX9_stoppedPart : ByteArray := prog_17_method_57_code
def yX9_stoppedPart : MethodName := ⟨RX9, "stoppedPart", "()I"⟩
def dkwX9_stoppedPart_1 : List UInt8 := [46, 167, 0, 8, 42, 4, 182, 0, 122, 172]
abbrev dktX9_stoppedPart_1 : List UInt8 := dkwX9_stoppedPart_1 ++ []
def dkwX9_stoppedPart_0 : List UInt8 := [42, 3, 181, 0, 38, 42, 180, 0, 7, 17, 0, 172, 46, 4, 160, 0, 14, 42, 180, 0, 7, 17, 0, 173]
abbrev dktX9_stoppedPart_0 : List UInt8 := dkwX9_stoppedPart_0 ++ dktX9_stoppedPart_1
theorem dksX9_stoppedPart_0 : cX9_stoppedPart.data.toList.drop 0 = dktX9_stoppedPart_0 := by decide +kernel
theorem dksX9_stoppedPart_1 : cX9_stoppedPart.data.toList.drop 24 = dktX9_stoppedPart_1 := dk_seg dksX9_stoppedPart_0 24 rfl rfl
theorem dX9_stoppedPart_0 : decode cX9_stoppedPart 0 = .ok (.aload_n 0, 1) := dk_42 (dk_at dksX9_stoppedPart_0 0 rfl rfl)
theorem dX9_stoppedPart_1 : decode cX9_stoppedPart 1 = .ok (.iconst 0, 1) := dk_3 (dk_at dksX9_stoppedPart_0 1 rfl rfl)
theorem dX9_stoppedPart_2 : decode cX9_stoppedPart 2 = .ok (.putfield 38, 3) := dk_181 0 38 (dk_at dksX9_stoppedPart_0 2 rfl rfl)
theorem dX9_stoppedPart_5 : decode cX9_stoppedPart 5 = .ok (.aload_n 0, 1) := dk_42 (dk_at dksX9_stoppedPart_0 5 rfl rfl)
theorem dX9_stoppedPart_6 : decode cX9_stoppedPart 6 = .ok (.getfield 7, 3) := dk_180 0 7 (dk_at dksX9_stoppedPart_0 6 rfl rfl)
theorem dX9_stoppedPart_9 : decode cX9_stoppedPart 9 = .ok (.sipush 172, 3) := dk_17 0 172 (dk_at dksX9_stoppedPart_0 9 rfl rfl)
theorem dX9_stoppedPart_12 : decode cX9_stoppedPart 12 = .ok (.iaload, 1) := dk_46 (dk_at dksX9_stoppedPart_0 12 rfl rfl)
theorem dX9_stoppedPart_13 : decode cX9_stoppedPart 13 = .ok (.iconst 1, 1) := dk_4 (dk_at dksX9_stoppedPart_0 13 rfl rfl)
theorem dX9_stoppedPart_14 : decode cX9_stoppedPart 14 = .ok (.if_icmp .ne 14, 3) := dk_160 0 14 (dk_at dksX9_stoppedPart_0 14 rfl rfl)
theorem dX9_stoppedPart_17 : decode cX9_stoppedPart 17 = .ok (.aload_n 0, 1) := dk_42 (dk_at dksX9_stoppedPart_0 17 rfl rfl)
theorem dX9_stoppedPart_18 : decode cX9_stoppedPart 18 = .ok (.getfield 7, 3) := dk_180 0 7 (dk_at dksX9_stoppedPart_0 18 rfl rfl)
theorem dX9_stoppedPart_21 : decode cX9_stoppedPart 21 = .ok (.sipush 173, 3) := dk_17 0 173 (dk_at dksX9_stoppedPart_0 21 rfl rfl)
theorem dX9_stoppedPart_24 : decode cX9_stoppedPart 24 = .ok (.iaload, 1) := dk_46 (dk_at dksX9_stoppedPart_1 0 rfl rfl)
theorem dX9_stoppedPart_25 : decode cX9_stoppedPart 25 = .ok (.goto 8, 3) := dk_167 0 8 (dk_at dksX9_stoppedPart_1 1 rfl rfl)
theorem dX9_stoppedPart_28 : decode cX9_stoppedPart 28 = .ok (.aload_n 0, 1) := dk_42 (dk_at dksX9_stoppedPart_1 4 rfl rfl)
theorem dX9_stoppedPart_29 : decode cX9_stoppedPart 29 = .ok (.iconst 1, 1) := dk_4 (dk_at dksX9_stoppedPart_1 5 rfl rfl)
theorem dX9_stoppedPart_30 : decode cX9_stoppedPart 30 = .ok (.invokevirtual 122, 3) := dk_182 0 122 (dk_at dksX9_stoppedPart_1 6 rfl rfl)
theorem dX9_stoppedPart_33 : decode cX9_stoppedPart 33 = .ok (.ireturn, 1) := dk_172 (dk_at dksX9_stoppedPart_1 9 rfl rfl)
abbrev cX9_undo : ByteArray := prog_17_method_58_code
def yX9_undo : MethodName := ⟨RX9, "undo", "()I"⟩
def dkwX9_undo_2 : List UInt8 := [17, 1, 43, 42, 180, 0, 46, 104, 27, 96, 46, 79, 132, 1, 1, 167, 255, 225, 42, 180, 0, 46, 172]
abbrev dktX9_undo_2 : List UInt8 := dkwX9_undo_2 ++ []
def dkwX9_undo_1 : List UInt8 := [100, 181, 0, 46, 3, 60, 27, 17, 1, 43, 162, 0, 30, 42, 180, 0, 7, 27, 42, 180, 0, 13]
abbrev dktX9_undo_1 : List UInt8 := dkwX9_undo_1 ++ dktX9_undo_2
def dkwX9_undo_0 : List UInt8 := [42, 3, 181, 0, 38, 42, 180, 0, 46, 154, 0, 9, 42, 4, 182, 0, 122, 172, 42, 89, 180, 0, 46, 4]
abbrev dktX9_undo_0 : List UInt8 := dkwX9_undo_0 ++ dktX9_undo_1
theorem dksX9_undo_0 : cX9_undo.data.toList.drop 0 = dktX9_undo_0 := by decide +kernel
theorem dksX9_undo_1 : cX9_undo.data.toList.drop 24 = dktX9_undo_1 := dk_seg dksX9_undo_0 24 rfl rfl
theorem dksX9_undo_2 : cX9_undo.data.toList.drop 46 = dktX9_undo_2 := dk_seg dksX9_undo_1 22 rfl rfl
theorem dX9_undo_0 : decode cX9_undo 0 = .ok (.aload_n 0, 1) := dk_42 (dk_at dksX9_undo_0 0 rfl rfl)
theorem dX9_undo_1 : decode cX9_undo 1 = .ok (.iconst 0, 1) := dk_3 (dk_at dksX9_undo_0 1 rfl rfl)
theorem dX9_undo_2 : decode cX9_undo 2 = .ok (.putfield 38, 3) := dk_181 0 38 (dk_at dksX9_undo_0 2 rfl rfl)
theorem dX9_undo_5 : decode cX9_undo 5 = .ok (.aload_n 0, 1) := dk_42 (dk_at dksX9_undo_0 5 rfl rfl)
theorem dX9_undo_6 : decode cX9_undo 6 = .ok (.getfield 46, 3) := dk_180 0 46 (dk_at dksX9_undo_0 6 rfl rfl)
theorem dX9_undo_9 : decode cX9_undo 9 = .ok (.ifCond .ne 9, 3) := dk_154 0 9 (dk_at dksX9_undo_0 9 rfl rfl)
theorem dX9_undo_12 : decode cX9_undo 12 = .ok (.aload_n 0, 1) := dk_42 (dk_at dksX9_undo_0 12 rfl rfl)
theorem dX9_undo_13 : decode cX9_undo 13 = .ok (.iconst 1, 1) := dk_4 (dk_at dksX9_undo_0 13 rfl rfl)
theorem dX9_undo_14 : decode cX9_undo 14 = .ok (.invokevirtual 122, 3) := dk_182 0 122 (dk_at dksX9_undo_0 14 rfl rfl)
theorem dX9_undo_17 : decode cX9_undo 17 = .ok (.ireturn, 1) := dk_172 (dk_at dksX9_undo_0 17 rfl rfl)
theorem dX9_undo_18 : decode cX9_undo 18 = .ok (.aload_n 0, 1) := dk_42 (dk_at dksX9_undo_0 18 rfl rfl)
theorem dX9_undo_19 : decode cX9_undo 19 = .ok (.dup, 1) := dk_89 (dk_at dksX9_undo_0 19 rfl rfl)
theorem dX9_undo_20 : decode cX9_undo 20 = .ok (.getfield 46, 3) := dk_180 0 46 (dk_at dksX9_undo_0 20 rfl rfl)
theorem dX9_undo_23 : decode cX9_undo 23 = .ok (.iconst 1, 1) := dk_4 (dk_at dksX9_undo_0 23 rfl rfl)
theorem dX9_undo_24 : decode cX9_undo 24 = .ok (.isub, 1) := dk_100 (dk_at dksX9_undo_1 0 rfl rfl)
theorem dX9_undo_25 : decode cX9_undo 25 = .ok (.putfield 46, 3) := dk_181 0 46 (dk_at dksX9_undo_1 1 rfl rfl)
theorem dX9_undo_28 : decode cX9_undo 28 = .ok (.iconst 0, 1) := dk_3 (dk_at dksX9_undo_1 4 rfl rfl)
theorem dX9_undo_29 : decode cX9_undo 29 = .ok (.istore_n 1, 1) := dk_60 (dk_at dksX9_undo_1 5 rfl rfl)
theorem dX9_undo_30 : decode cX9_undo 30 = .ok (.iload_n 1, 1) := dk_27 (dk_at dksX9_undo_1 6 rfl rfl)
theorem dX9_undo_31 : decode cX9_undo 31 = .ok (.sipush 299, 3) := dk_17 1 43 (dk_at dksX9_undo_1 7 rfl rfl)
theorem dX9_undo_34 : decode cX9_undo 34 = .ok (.if_icmp .ge 30, 3) := dk_162 0 30 (dk_at dksX9_undo_1 10 rfl rfl)
theorem dX9_undo_37 : decode cX9_undo 37 = .ok (.aload_n 0, 1) := dk_42 (dk_at dksX9_undo_1 13 rfl rfl)
theorem dX9_undo_38 : decode cX9_undo 38 = .ok (.getfield 7, 3) := dk_180 0 7 (dk_at dksX9_undo_1 14 rfl rfl)
theorem dX9_undo_41 : decode cX9_undo 41 = .ok (.iload_n 1, 1) := dk_27 (dk_at dksX9_undo_1 17 rfl rfl)
theorem dX9_undo_42 : decode cX9_undo 42 = .ok (.aload_n 0, 1) := dk_42 (dk_at dksX9_undo_1 18 rfl rfl)
theorem dX9_undo_43 : decode cX9_undo 43 = .ok (.getfield 13, 3) := dk_180 0 13 (dk_at dksX9_undo_1 19 rfl rfl)
theorem dX9_undo_46 : decode cX9_undo 46 = .ok (.sipush 299, 3) := dk_17 1 43 (dk_at dksX9_undo_2 0 rfl rfl)
theorem dX9_undo_49 : decode cX9_undo 49 = .ok (.aload_n 0, 1) := dk_42 (dk_at dksX9_undo_2 3 rfl rfl)
theorem dX9_undo_50 : decode cX9_undo 50 = .ok (.getfield 46, 3) := dk_180 0 46 (dk_at dksX9_undo_2 4 rfl rfl)
theorem dX9_undo_53 : decode cX9_undo 53 = .ok (.imul, 1) := dk_104 (dk_at dksX9_undo_2 7 rfl rfl)
theorem dX9_undo_54 : decode cX9_undo 54 = .ok (.iload_n 1, 1) := dk_27 (dk_at dksX9_undo_2 8 rfl rfl)
theorem dX9_undo_55 : decode cX9_undo 55 = .ok (.iadd, 1) := dk_96 (dk_at dksX9_undo_2 9 rfl rfl)
theorem dX9_undo_56 : decode cX9_undo 56 = .ok (.iaload, 1) := dk_46 (dk_at dksX9_undo_2 10 rfl rfl)
theorem dX9_undo_57 : decode cX9_undo 57 = .ok (.iastore, 1) := dk_79 (dk_at dksX9_undo_2 11 rfl rfl)
theorem dX9_undo_58 : decode cX9_undo 58 = .ok (.iinc 1 1, 3) := dk_132 1 1 (dk_at dksX9_undo_2 12 rfl rfl)
theorem dX9_undo_61 : decode cX9_undo 61 = .ok (.goto (-31), 3) := dk_167 255 225 (dk_at dksX9_undo_2 15 rfl rfl)
theorem dX9_undo_64 : decode cX9_undo 64 = .ok (.aload_n 0, 1) := dk_42 (dk_at dksX9_undo_2 18 rfl rfl)
theorem dX9_undo_65 : decode cX9_undo 65 = .ok (.getfield 46, 3) := dk_180 0 46 (dk_at dksX9_undo_2 19 rfl rfl)
theorem dX9_undo_68 : decode cX9_undo 68 = .ok (.ireturn, 1) := dk_172 (dk_at dksX9_undo_2 22 rfl rfl)
abbrev cX9_keep : ByteArray := prog_17_method_59_code
def yX9_keep : MethodName := ⟨RX9, "keep", "()I"⟩
def dkwX9_keep_1 : List UInt8 := [46, 79, 132, 1, 1, 167, 255, 234, 42, 4, 181, 0, 170, 42, 180, 0, 7, 17, 0, 168, 46, 172]
abbrev dktX9_keep_1 : List UInt8 := dkwX9_keep_1 ++ []
def dkwX9_keep_0 : List UInt8 := [42, 3, 181, 0, 38, 3, 60, 27, 17, 1, 43, 162, 0, 21, 42, 180, 0, 16, 27, 42, 180, 0, 7, 27]
abbrev dktX9_keep_0 : List UInt8 := dkwX9_keep_0 ++ dktX9_keep_1
theorem dksX9_keep_0 : cX9_keep.data.toList.drop 0 = dktX9_keep_0 := by decide +kernel
theorem dksX9_keep_1 : cX9_keep.data.toList.drop 24 = dktX9_keep_1 := dk_seg dksX9_keep_0 24 rfl rfl
theorem dX9_keep_0 : decode cX9_keep 0 = .ok (.aload_n 0, 1) := dk_42 (dk_at dksX9_keep_0 0 rfl rfl)
theorem dX9_keep_1 : decode cX9_keep 1 = .ok (.iconst 0, 1) := dk_3 (dk_at dksX9_keep_0 1 rfl rfl)
theorem dX9_keep_2 : decode cX9_keep 2 = .ok (.putfield 38, 3) := dk_181 0 38 (dk_at dksX9_keep_0 2 rfl rfl)
theorem dX9_keep_5 : decode cX9_keep 5 = .ok (.iconst 0, 1) := dk_3 (dk_at dksX9_keep_0 5 rfl rfl)
theorem dX9_keep_6 : decode cX9_keep 6 = .ok (.istore_n 1, 1) := dk_60 (dk_at dksX9_keep_0 6 rfl rfl)
theorem dX9_keep_7 : decode cX9_keep 7 = .ok (.iload_n 1, 1) := dk_27 (dk_at dksX9_keep_0 7 rfl rfl)
theorem dX9_keep_8 : decode cX9_keep 8 = .ok (.sipush 299, 3) := dk_17 1 43 (dk_at dksX9_keep_0 8 rfl rfl)
theorem dX9_keep_11 : decode cX9_keep 11 = .ok (.if_icmp .ge 21, 3) := dk_162 0 21 (dk_at dksX9_keep_0 11 rfl rfl)
theorem dX9_keep_14 : decode cX9_keep 14 = .ok (.aload_n 0, 1) := dk_42 (dk_at dksX9_keep_0 14 rfl rfl)
theorem dX9_keep_15 : decode cX9_keep 15 = .ok (.getfield 16, 3) := dk_180 0 16 (dk_at dksX9_keep_0 15 rfl rfl)
theorem dX9_keep_18 : decode cX9_keep 18 = .ok (.iload_n 1, 1) := dk_27 (dk_at dksX9_keep_0 18 rfl rfl)
theorem dX9_keep_19 : decode cX9_keep 19 = .ok (.aload_n 0, 1) := dk_42 (dk_at dksX9_keep_0 19 rfl rfl)
theorem dX9_keep_20 : decode cX9_keep 20 = .ok (.getfield 7, 3) := dk_180 0 7 (dk_at dksX9_keep_0 20 rfl rfl)
theorem dX9_keep_23 : decode cX9_keep 23 = .ok (.iload_n 1, 1) := dk_27 (dk_at dksX9_keep_0 23 rfl rfl)
theorem dX9_keep_24 : decode cX9_keep 24 = .ok (.iaload, 1) := dk_46 (dk_at dksX9_keep_1 0 rfl rfl)
theorem dX9_keep_25 : decode cX9_keep 25 = .ok (.iastore, 1) := dk_79 (dk_at dksX9_keep_1 1 rfl rfl)
theorem dX9_keep_26 : decode cX9_keep 26 = .ok (.iinc 1 1, 3) := dk_132 1 1 (dk_at dksX9_keep_1 2 rfl rfl)
theorem dX9_keep_29 : decode cX9_keep 29 = .ok (.goto (-22), 3) := dk_167 255 234 (dk_at dksX9_keep_1 5 rfl rfl)
theorem dX9_keep_32 : decode cX9_keep 32 = .ok (.aload_n 0, 1) := dk_42 (dk_at dksX9_keep_1 8 rfl rfl)
theorem dX9_keep_33 : decode cX9_keep 33 = .ok (.iconst 1, 1) := dk_4 (dk_at dksX9_keep_1 9 rfl rfl)
theorem dX9_keep_34 : decode cX9_keep 34 = .ok (.putfield 170, 3) := dk_181 0 170 (dk_at dksX9_keep_1 10 rfl rfl)
theorem dX9_keep_37 : decode cX9_keep 37 = .ok (.aload_n 0, 1) := dk_42 (dk_at dksX9_keep_1 13 rfl rfl)
theorem dX9_keep_38 : decode cX9_keep 38 = .ok (.getfield 7, 3) := dk_180 0 7 (dk_at dksX9_keep_1 14 rfl rfl)
theorem dX9_keep_41 : decode cX9_keep 41 = .ok (.sipush 168, 3) := dk_17 0 168 (dk_at dksX9_keep_1 17 rfl rfl)
theorem dX9_keep_44 : decode cX9_keep 44 = .ok (.iaload, 1) := dk_46 (dk_at dksX9_keep_1 20 rfl rfl)
theorem dX9_keep_45 : decode cX9_keep 45 = .ok (.ireturn, 1) := dk_172 (dk_at dksX9_keep_1 21 rfl rfl)
abbrev cX9_restore : ByteArray := prog_17_method_60_code
def yX9_restore : MethodName := ⟨RX9, "restore", "()I"⟩
def dkwX9_restore_2 : List UInt8 := [167, 255, 234, 42, 180, 0, 7, 17, 0, 168, 46, 172]
abbrev dktX9_restore_2 : List UInt8 := dkwX9_restore_2 ++ []
def dkwX9_restore_1 : List UInt8 := [27, 17, 1, 43, 162, 0, 21, 42, 180, 0, 7, 27, 42, 180, 0, 16, 27, 46, 79, 132, 1, 1]
abbrev dktX9_restore_1 : List UInt8 := dkwX9_restore_1 ++ dktX9_restore_2
def dkwX9_restore_0 : List UInt8 := [42, 3, 181, 0, 38, 42, 180, 0, 170, 154, 0, 9, 42, 4, 182, 0, 122, 172, 42, 182, 0, 125, 3, 60]
abbrev dktX9_restore_0 : List UInt8 := dkwX9_restore_0 ++ dktX9_restore_1
theorem dksX9_restore_0 : cX9_restore.data.toList.drop 0 = dktX9_restore_0 := by decide +kernel
theorem dksX9_restore_1 : cX9_restore.data.toList.drop 24 = dktX9_restore_1 := dk_seg dksX9_restore_0 24 rfl rfl
theorem dksX9_restore_2 : cX9_restore.data.toList.drop 46 = dktX9_restore_2 := dk_seg dksX9_restore_1 22 rfl rfl
theorem dX9_restore_0 : decode cX9_restore 0 = .ok (.aload_n 0, 1) := dk_42 (dk_at dksX9_restore_0 0 rfl rfl)
theorem dX9_restore_1 : decode cX9_restore 1 = .ok (.iconst 0, 1) := dk_3 (dk_at dksX9_restore_0 1 rfl rfl)
theorem dX9_restore_2 : decode cX9_restore 2 = .ok (.putfield 38, 3) := dk_181 0 38 (dk_at dksX9_restore_0 2 rfl rfl)
theorem dX9_restore_5 : decode cX9_restore 5 = .ok (.aload_n 0, 1) := dk_42 (dk_at dksX9_restore_0 5 rfl rfl)
theorem dX9_restore_6 : decode cX9_restore 6 = .ok (.getfield 170, 3) := dk_180 0 170 (dk_at dksX9_restore_0 6 rfl rfl)
theorem dX9_restore_9 : decode cX9_restore 9 = .ok (.ifCond .ne 9, 3) := dk_154 0 9 (dk_at dksX9_restore_0 9 rfl rfl)
theorem dX9_restore_12 : decode cX9_restore 12 = .ok (.aload_n 0, 1) := dk_42 (dk_at dksX9_restore_0 12 rfl rfl)
theorem dX9_restore_13 : decode cX9_restore 13 = .ok (.iconst 1, 1) := dk_4 (dk_at dksX9_restore_0 13 rfl rfl)
theorem dX9_restore_14 : decode cX9_restore 14 = .ok (.invokevirtual 122, 3) := dk_182 0 122 (dk_at dksX9_restore_0 14 rfl rfl)
theorem dX9_restore_17 : decode cX9_restore 17 = .ok (.ireturn, 1) := dk_172 (dk_at dksX9_restore_0 17 rfl rfl)
theorem dX9_restore_18 : decode cX9_restore 18 = .ok (.aload_n 0, 1) := dk_42 (dk_at dksX9_restore_0 18 rfl rfl)
theorem dX9_restore_19 : decode cX9_restore 19 = .ok (.invokevirtual 125, 3) := dk_182 0 125 (dk_at dksX9_restore_0 19 rfl rfl)
theorem dX9_restore_22 : decode cX9_restore 22 = .ok (.iconst 0, 1) := dk_3 (dk_at dksX9_restore_0 22 rfl rfl)
theorem dX9_restore_23 : decode cX9_restore 23 = .ok (.istore_n 1, 1) := dk_60 (dk_at dksX9_restore_0 23 rfl rfl)
theorem dX9_restore_24 : decode cX9_restore 24 = .ok (.iload_n 1, 1) := dk_27 (dk_at dksX9_restore_1 0 rfl rfl)
theorem dX9_restore_25 : decode cX9_restore 25 = .ok (.sipush 299, 3) := dk_17 1 43 (dk_at dksX9_restore_1 1 rfl rfl)
theorem dX9_restore_28 : decode cX9_restore 28 = .ok (.if_icmp .ge 21, 3) := dk_162 0 21 (dk_at dksX9_restore_1 4 rfl rfl)
theorem dX9_restore_31 : decode cX9_restore 31 = .ok (.aload_n 0, 1) := dk_42 (dk_at dksX9_restore_1 7 rfl rfl)
theorem dX9_restore_32 : decode cX9_restore 32 = .ok (.getfield 7, 3) := dk_180 0 7 (dk_at dksX9_restore_1 8 rfl rfl)
theorem dX9_restore_35 : decode cX9_restore 35 = .ok (.iload_n 1, 1) := dk_27 (dk_at dksX9_restore_1 11 rfl rfl)
theorem dX9_restore_36 : decode cX9_restore 36 = .ok (.aload_n 0, 1) := dk_42 (dk_at dksX9_restore_1 12 rfl rfl)
theorem dX9_restore_37 : decode cX9_restore 37 = .ok (.getfield 16, 3) := dk_180 0 16 (dk_at dksX9_restore_1 13 rfl rfl)
theorem dX9_restore_40 : decode cX9_restore 40 = .ok (.iload_n 1, 1) := dk_27 (dk_at dksX9_restore_1 16 rfl rfl)
theorem dX9_restore_41 : decode cX9_restore 41 = .ok (.iaload, 1) := dk_46 (dk_at dksX9_restore_1 17 rfl rfl)
theorem dX9_restore_42 : decode cX9_restore 42 = .ok (.iastore, 1) := dk_79 (dk_at dksX9_restore_1 18 rfl rfl)
theorem dX9_restore_43 : decode cX9_restore 43 = .ok (.iinc 1 1, 3) := dk_132 1 1 (dk_at dksX9_restore_1 19 rfl rfl)
theorem dX9_restore_46 : decode cX9_restore 46 = .ok (.goto (-22), 3) := dk_167 255 234 (dk_at dksX9_restore_2 0 rfl rfl)
theorem dX9_restore_49 : decode cX9_restore 49 = .ok (.aload_n 0, 1) := dk_42 (dk_at dksX9_restore_2 3 rfl rfl)
theorem dX9_restore_50 : decode cX9_restore 50 = .ok (.getfield 7, 3) := dk_180 0 7 (dk_at dksX9_restore_2 4 rfl rfl)
theorem dX9_restore_53 : decode cX9_restore 53 = .ok (.sipush 168, 3) := dk_17 0 168 (dk_at dksX9_restore_2 7 rfl rfl)
theorem dX9_restore_56 : decode cX9_restore 56 = .ok (.iaload, 1) := dk_46 (dk_at dksX9_restore_2 10 rfl rfl)
theorem dX9_restore_57 : decode cX9_restore 57 = .ok (.ireturn, 1) := dk_172 (dk_at dksX9_restore_2 11 rfl rfl)
abbrev cX9_savedStates : ByteArray := prog_17_method_61_code
def yX9_savedStates : MethodName := ⟨RX9, "savedStates", "()I"⟩
def dkwX9_savedStates_0 : List UInt8 := [42, 3, 181, 0, 38, 42, 180, 0, 46, 172]
abbrev dktX9_savedStates_0 : List UInt8 := dkwX9_savedStates_0 ++ []
theorem dksX9_savedStates_0 : cX9_savedStates.data.toList.drop 0 = dktX9_savedStates_0 := by decide +kernel
theorem dX9_savedStates_0 : decode cX9_savedStates 0 = .ok (.aload_n 0, 1) := dk_42 (dk_at dksX9_savedStates_0 0 rfl rfl)
theorem dX9_savedStates_1 : decode cX9_savedStates 1 = .ok (.iconst 0, 1) := dk_3 (dk_at dksX9_savedStates_0 1 rfl rfl)
theorem dX9_savedStates_2 : decode cX9_savedStates 2 = .ok (.putfield 38, 3) := dk_181 0 38 (dk_at dksX9_savedStates_0 2 rfl rfl)
theorem dX9_savedStates_5 : decode cX9_savedStates 5 = .ok (.aload_n 0, 1) := dk_42 (dk_at dksX9_savedStates_0 5 rfl rfl)
theorem dX9_savedStates_6 : decode cX9_savedStates 6 = .ok (.getfield 46, 3) := dk_180 0 46 (dk_at dksX9_savedStates_0 6 rfl rfl)
theorem dX9_savedStates_9 : decode cX9_savedStates 9 = .ok (.ireturn, 1) := dk_172 (dk_at dksX9_savedStates_0 9 rfl rfl)
abbrev cX9_streets : ByteArray := prog_17_method_62_code
def yX9_streets : MethodName := ⟨RX9, "streets", "()I"⟩
def dkwX9_streets_0 : List UInt8 := [42, 3, 181, 0, 38, 42, 180, 0, 7, 3, 46, 172]
abbrev dktX9_streets_0 : List UInt8 := dkwX9_streets_0 ++ []
theorem dksX9_streets_0 : cX9_streets.data.toList.drop 0 = dktX9_streets_0 := by decide +kernel
theorem dX9_streets_0 : decode cX9_streets 0 = .ok (.aload_n 0, 1) := dk_42 (dk_at dksX9_streets_0 0 rfl rfl)
theorem dX9_streets_1 : decode cX9_streets 1 = .ok (.iconst 0, 1) := dk_3 (dk_at dksX9_streets_0 1 rfl rfl)
theorem dX9_streets_2 : decode cX9_streets 2 = .ok (.putfield 38, 3) := dk_181 0 38 (dk_at dksX9_streets_0 2 rfl rfl)
theorem dX9_streets_5 : decode cX9_streets 5 = .ok (.aload_n 0, 1) := dk_42 (dk_at dksX9_streets_0 5 rfl rfl)
theorem dX9_streets_6 : decode cX9_streets 6 = .ok (.getfield 7, 3) := dk_180 0 7 (dk_at dksX9_streets_0 6 rfl rfl)
theorem dX9_streets_9 : decode cX9_streets 9 = .ok (.iconst 0, 1) := dk_3 (dk_at dksX9_streets_0 9 rfl rfl)
theorem dX9_streets_10 : decode cX9_streets 10 = .ok (.iaload, 1) := dk_46 (dk_at dksX9_streets_0 10 rfl rfl)
theorem dX9_streets_11 : decode cX9_streets 11 = .ok (.ireturn, 1) := dk_172 (dk_at dksX9_streets_0 11 rfl rfl)
abbrev cX9_fromOf : ByteArray := prog_17_method_63_code
def yX9_fromOf : MethodName := ⟨RX9, "fromOf", "(I)I"⟩
def dkwX9_fromOf_1 : List UInt8 := [182, 0, 122, 172]
abbrev dktX9_fromOf_1 : List UInt8 := dkwX9_fromOf_1 ++ []
def dkwX9_fromOf_0 : List UInt8 := [42, 3, 181, 0, 38, 42, 27, 182, 0, 128, 153, 0, 11, 42, 27, 182, 0, 77, 167, 0, 8, 42, 4]
abbrev dktX9_fromOf_0 : List UInt8 := dkwX9_fromOf_0 ++ dktX9_fromOf_1
theorem dksX9_fromOf_0 : cX9_fromOf.data.toList.drop 0 = dktX9_fromOf_0 := by decide +kernel
theorem dksX9_fromOf_1 : cX9_fromOf.data.toList.drop 23 = dktX9_fromOf_1 := dk_seg dksX9_fromOf_0 23 rfl rfl
theorem dX9_fromOf_0 : decode cX9_fromOf 0 = .ok (.aload_n 0, 1) := dk_42 (dk_at dksX9_fromOf_0 0 rfl rfl)
theorem dX9_fromOf_1 : decode cX9_fromOf 1 = .ok (.iconst 0, 1) := dk_3 (dk_at dksX9_fromOf_0 1 rfl rfl)
theorem dX9_fromOf_2 : decode cX9_fromOf 2 = .ok (.putfield 38, 3) := dk_181 0 38 (dk_at dksX9_fromOf_0 2 rfl rfl)
theorem dX9_fromOf_5 : decode cX9_fromOf 5 = .ok (.aload_n 0, 1) := dk_42 (dk_at dksX9_fromOf_0 5 rfl rfl)
theorem dX9_fromOf_6 : decode cX9_fromOf 6 = .ok (.iload_n 1, 1) := dk_27 (dk_at dksX9_fromOf_0 6 rfl rfl)
theorem dX9_fromOf_7 : decode cX9_fromOf 7 = .ok (.invokevirtual 128, 3) := dk_182 0 128 (dk_at dksX9_fromOf_0 7 rfl rfl)
theorem dX9_fromOf_10 : decode cX9_fromOf 10 = .ok (.ifCond .eq 11, 3) := dk_153 0 11 (dk_at dksX9_fromOf_0 10 rfl rfl)
theorem dX9_fromOf_13 : decode cX9_fromOf 13 = .ok (.aload_n 0, 1) := dk_42 (dk_at dksX9_fromOf_0 13 rfl rfl)
theorem dX9_fromOf_14 : decode cX9_fromOf 14 = .ok (.iload_n 1, 1) := dk_27 (dk_at dksX9_fromOf_0 14 rfl rfl)
theorem dX9_fromOf_15 : decode cX9_fromOf 15 = .ok (.invokevirtual 77, 3) := dk_182 0 77 (dk_at dksX9_fromOf_0 15 rfl rfl)
theorem dX9_fromOf_18 : decode cX9_fromOf 18 = .ok (.goto 8, 3) := dk_167 0 8 (dk_at dksX9_fromOf_0 18 rfl rfl)
theorem dX9_fromOf_21 : decode cX9_fromOf 21 = .ok (.aload_n 0, 1) := dk_42 (dk_at dksX9_fromOf_0 21 rfl rfl)
theorem dX9_fromOf_22 : decode cX9_fromOf 22 = .ok (.iconst 1, 1) := dk_4 (dk_at dksX9_fromOf_0 22 rfl rfl)
theorem dX9_fromOf_23 : decode cX9_fromOf 23 = .ok (.invokevirtual 122, 3) := dk_182 0 122 (dk_at dksX9_fromOf_1 0 rfl rfl)
theorem dX9_fromOf_26 : decode cX9_fromOf 26 = .ok (.ireturn, 1) := dk_172 (dk_at dksX9_fromOf_1 3 rfl rfl)
abbrev cX9_toOf : ByteArray := prog_17_method_64_code
def yX9_toOf : MethodName := ⟨RX9, "toOf", "(I)I"⟩
def dkwX9_toOf_1 : List UInt8 := [182, 0, 122, 172]
abbrev dktX9_toOf_1 : List UInt8 := dkwX9_toOf_1 ++ []
def dkwX9_toOf_0 : List UInt8 := [42, 3, 181, 0, 38, 42, 27, 182, 0, 128, 153, 0, 11, 42, 27, 182, 0, 91, 167, 0, 8, 42, 4]
abbrev dktX9_toOf_0 : List UInt8 := dkwX9_toOf_0 ++ dktX9_toOf_1
theorem dksX9_toOf_0 : cX9_toOf.data.toList.drop 0 = dktX9_toOf_0 := by decide +kernel
theorem dksX9_toOf_1 : cX9_toOf.data.toList.drop 23 = dktX9_toOf_1 := dk_seg dksX9_toOf_0 23 rfl rfl
theorem dX9_toOf_0 : decode cX9_toOf 0 = .ok (.aload_n 0, 1) := dk_42 (dk_at dksX9_toOf_0 0 rfl rfl)
theorem dX9_toOf_1 : decode cX9_toOf 1 = .ok (.iconst 0, 1) := dk_3 (dk_at dksX9_toOf_0 1 rfl rfl)
theorem dX9_toOf_2 : decode cX9_toOf 2 = .ok (.putfield 38, 3) := dk_181 0 38 (dk_at dksX9_toOf_0 2 rfl rfl)
theorem dX9_toOf_5 : decode cX9_toOf 5 = .ok (.aload_n 0, 1) := dk_42 (dk_at dksX9_toOf_0 5 rfl rfl)
theorem dX9_toOf_6 : decode cX9_toOf 6 = .ok (.iload_n 1, 1) := dk_27 (dk_at dksX9_toOf_0 6 rfl rfl)
theorem dX9_toOf_7 : decode cX9_toOf 7 = .ok (.invokevirtual 128, 3) := dk_182 0 128 (dk_at dksX9_toOf_0 7 rfl rfl)
theorem dX9_toOf_10 : decode cX9_toOf 10 = .ok (.ifCond .eq 11, 3) := dk_153 0 11 (dk_at dksX9_toOf_0 10 rfl rfl)
theorem dX9_toOf_13 : decode cX9_toOf 13 = .ok (.aload_n 0, 1) := dk_42 (dk_at dksX9_toOf_0 13 rfl rfl)
theorem dX9_toOf_14 : decode cX9_toOf 14 = .ok (.iload_n 1, 1) := dk_27 (dk_at dksX9_toOf_0 14 rfl rfl)
theorem dX9_toOf_15 : decode cX9_toOf 15 = .ok (.invokevirtual 91, 3) := dk_182 0 91 (dk_at dksX9_toOf_0 15 rfl rfl)
theorem dX9_toOf_18 : decode cX9_toOf 18 = .ok (.goto 8, 3) := dk_167 0 8 (dk_at dksX9_toOf_0 18 rfl rfl)
theorem dX9_toOf_21 : decode cX9_toOf 21 = .ok (.aload_n 0, 1) := dk_42 (dk_at dksX9_toOf_0 21 rfl rfl)
theorem dX9_toOf_22 : decode cX9_toOf 22 = .ok (.iconst 1, 1) := dk_4 (dk_at dksX9_toOf_0 22 rfl rfl)
theorem dX9_toOf_23 : decode cX9_toOf 23 = .ok (.invokevirtual 122, 3) := dk_182 0 122 (dk_at dksX9_toOf_1 0 rfl rfl)
theorem dX9_toOf_26 : decode cX9_toOf 26 = .ok (.ireturn, 1) := dk_172 (dk_at dksX9_toOf_1 3 rfl rfl)
abbrev cX9_isOpen : ByteArray := prog_17_method_65_code
def yX9_isOpen : MethodName := ⟨RX9, "isOpen", "(I)Z"⟩
def dkwX9_isOpen_1 : List UInt8 := [42, 27, 182, 0, 80, 153, 0, 7, 4, 167, 0, 4, 3, 172]
abbrev dktX9_isOpen_1 : List UInt8 := dkwX9_isOpen_1 ++ []
def dkwX9_isOpen_0 : List UInt8 := [42, 42, 27, 182, 0, 128, 153, 0, 7, 3, 167, 0, 4, 4, 181, 0, 38, 42, 180, 0, 38, 154, 0, 15]
abbrev dktX9_isOpen_0 : List UInt8 := dkwX9_isOpen_0 ++ dktX9_isOpen_1
theorem dksX9_isOpen_0 : cX9_isOpen.data.toList.drop 0 = dktX9_isOpen_0 := by decide +kernel
theorem dksX9_isOpen_1 : cX9_isOpen.data.toList.drop 24 = dktX9_isOpen_1 := dk_seg dksX9_isOpen_0 24 rfl rfl
theorem dX9_isOpen_0 : decode cX9_isOpen 0 = .ok (.aload_n 0, 1) := dk_42 (dk_at dksX9_isOpen_0 0 rfl rfl)
theorem dX9_isOpen_1 : decode cX9_isOpen 1 = .ok (.aload_n 0, 1) := dk_42 (dk_at dksX9_isOpen_0 1 rfl rfl)
theorem dX9_isOpen_2 : decode cX9_isOpen 2 = .ok (.iload_n 1, 1) := dk_27 (dk_at dksX9_isOpen_0 2 rfl rfl)
theorem dX9_isOpen_3 : decode cX9_isOpen 3 = .ok (.invokevirtual 128, 3) := dk_182 0 128 (dk_at dksX9_isOpen_0 3 rfl rfl)
theorem dX9_isOpen_6 : decode cX9_isOpen 6 = .ok (.ifCond .eq 7, 3) := dk_153 0 7 (dk_at dksX9_isOpen_0 6 rfl rfl)
theorem dX9_isOpen_9 : decode cX9_isOpen 9 = .ok (.iconst 0, 1) := dk_3 (dk_at dksX9_isOpen_0 9 rfl rfl)
theorem dX9_isOpen_10 : decode cX9_isOpen 10 = .ok (.goto 4, 3) := dk_167 0 4 (dk_at dksX9_isOpen_0 10 rfl rfl)
theorem dX9_isOpen_13 : decode cX9_isOpen 13 = .ok (.iconst 1, 1) := dk_4 (dk_at dksX9_isOpen_0 13 rfl rfl)
theorem dX9_isOpen_14 : decode cX9_isOpen 14 = .ok (.putfield 38, 3) := dk_181 0 38 (dk_at dksX9_isOpen_0 14 rfl rfl)
theorem dX9_isOpen_17 : decode cX9_isOpen 17 = .ok (.aload_n 0, 1) := dk_42 (dk_at dksX9_isOpen_0 17 rfl rfl)
theorem dX9_isOpen_18 : decode cX9_isOpen 18 = .ok (.getfield 38, 3) := dk_180 0 38 (dk_at dksX9_isOpen_0 18 rfl rfl)
theorem dX9_isOpen_21 : decode cX9_isOpen 21 = .ok (.ifCond .ne 15, 3) := dk_154 0 15 (dk_at dksX9_isOpen_0 21 rfl rfl)
theorem dX9_isOpen_24 : decode cX9_isOpen 24 = .ok (.aload_n 0, 1) := dk_42 (dk_at dksX9_isOpen_1 0 rfl rfl)
theorem dX9_isOpen_25 : decode cX9_isOpen 25 = .ok (.iload_n 1, 1) := dk_27 (dk_at dksX9_isOpen_1 1 rfl rfl)
theorem dX9_isOpen_26 : decode cX9_isOpen 26 = .ok (.invokevirtual 80, 3) := dk_182 0 80 (dk_at dksX9_isOpen_1 2 rfl rfl)
theorem dX9_isOpen_29 : decode cX9_isOpen 29 = .ok (.ifCond .eq 7, 3) := dk_153 0 7 (dk_at dksX9_isOpen_1 5 rfl rfl)
theorem dX9_isOpen_32 : decode cX9_isOpen 32 = .ok (.iconst 1, 1) := dk_4 (dk_at dksX9_isOpen_1 8 rfl rfl)
theorem dX9_isOpen_33 : decode cX9_isOpen 33 = .ok (.goto 4, 3) := dk_167 0 4 (dk_at dksX9_isOpen_1 9 rfl rfl)
theorem dX9_isOpen_36 : decode cX9_isOpen 36 = .ok (.iconst 0, 1) := dk_3 (dk_at dksX9_isOpen_1 12 rfl rfl)
theorem dX9_isOpen_37 : decode cX9_isOpen 37 = .ok (.ireturn, 1) := dk_172 (dk_at dksX9_isOpen_1 13 rfl rfl)
abbrev cX9_junctionOf : ByteArray := prog_17_method_67_code
def yX9_junctionOf : MethodName := ⟨RX9, "junctionOf", "(I)I"⟩
def dkwX9_junctionOf_0 : List UInt8 := [42, 27, 3, 182, 0, 173, 172]
abbrev dktX9_junctionOf_0 : List UInt8 := dkwX9_junctionOf_0 ++ []
theorem dksX9_junctionOf_0 : cX9_junctionOf.data.toList.drop 0 = dktX9_junctionOf_0 := by decide +kernel
theorem dX9_junctionOf_0 : decode cX9_junctionOf 0 = .ok (.aload_n 0, 1) := dk_42 (dk_at dksX9_junctionOf_0 0 rfl rfl)
theorem dX9_junctionOf_1 : decode cX9_junctionOf 1 = .ok (.iload_n 1, 1) := dk_27 (dk_at dksX9_junctionOf_0 1 rfl rfl)
theorem dX9_junctionOf_2 : decode cX9_junctionOf 2 = .ok (.iconst 0, 1) := dk_3 (dk_at dksX9_junctionOf_0 2 rfl rfl)
theorem dX9_junctionOf_3 : decode cX9_junctionOf 3 = .ok (.invokevirtual 173, 3) := dk_182 0 173 (dk_at dksX9_junctionOf_0 3 rfl rfl)
theorem dX9_junctionOf_6 : decode cX9_junctionOf 6 = .ok (.ireturn, 1) := dk_172 (dk_at dksX9_junctionOf_0 6 rfl rfl)
abbrev cX9_told : ByteArray := prog_17_method_66_code
def yX9_told : MethodName := ⟨RX9, "told", "(II)I"⟩
def dkwX9_told_1 : List UInt8 := [182, 0, 122, 172]
abbrev dktX9_told_1 : List UInt8 := dkwX9_told_1 ++ []
def dkwX9_told_0 : List UInt8 := [42, 3, 181, 0, 38, 27, 184, 0, 134, 153, 0, 12, 42, 27, 28, 182, 0, 53, 167, 0, 8, 42, 4]
abbrev dktX9_told_0 : List UInt8 := dkwX9_told_0 ++ dktX9_told_1
theorem dksX9_told_0 : cX9_told.data.toList.drop 0 = dktX9_told_0 := by decide +kernel
theorem dksX9_told_1 : cX9_told.data.toList.drop 23 = dktX9_told_1 := dk_seg dksX9_told_0 23 rfl rfl
theorem dX9_told_0 : decode cX9_told 0 = .ok (.aload_n 0, 1) := dk_42 (dk_at dksX9_told_0 0 rfl rfl)
theorem dX9_told_1 : decode cX9_told 1 = .ok (.iconst 0, 1) := dk_3 (dk_at dksX9_told_0 1 rfl rfl)
theorem dX9_told_2 : decode cX9_told 2 = .ok (.putfield 38, 3) := dk_181 0 38 (dk_at dksX9_told_0 2 rfl rfl)
theorem dX9_told_5 : decode cX9_told 5 = .ok (.iload_n 1, 1) := dk_27 (dk_at dksX9_told_0 5 rfl rfl)
theorem dX9_told_6 : decode cX9_told 6 = .ok (.invokestatic 134, 3) := dk_184 0 134 (dk_at dksX9_told_0 6 rfl rfl)
theorem dX9_told_9 : decode cX9_told 9 = .ok (.ifCond .eq 12, 3) := dk_153 0 12 (dk_at dksX9_told_0 9 rfl rfl)
theorem dX9_told_12 : decode cX9_told 12 = .ok (.aload_n 0, 1) := dk_42 (dk_at dksX9_told_0 12 rfl rfl)
theorem dX9_told_13 : decode cX9_told 13 = .ok (.iload_n 1, 1) := dk_27 (dk_at dksX9_told_0 13 rfl rfl)
theorem dX9_told_14 : decode cX9_told 14 = .ok (.iload_n 2, 1) := dk_28 (dk_at dksX9_told_0 14 rfl rfl)
theorem dX9_told_15 : decode cX9_told 15 = .ok (.invokevirtual 53, 3) := dk_182 0 53 (dk_at dksX9_told_0 15 rfl rfl)
theorem dX9_told_18 : decode cX9_told 18 = .ok (.goto 8, 3) := dk_167 0 8 (dk_at dksX9_told_0 18 rfl rfl)
theorem dX9_told_21 : decode cX9_told 21 = .ok (.aload_n 0, 1) := dk_42 (dk_at dksX9_told_0 21 rfl rfl)
theorem dX9_told_22 : decode cX9_told 22 = .ok (.iconst 1, 1) := dk_4 (dk_at dksX9_told_0 22 rfl rfl)
theorem dX9_told_23 : decode cX9_told 23 = .ok (.invokevirtual 122, 3) := dk_182 0 122 (dk_at dksX9_told_1 0 rfl rfl)
theorem dX9_told_26 : decode cX9_told 26 = .ok (.ireturn, 1) := dk_172 (dk_at dksX9_told_1 3 rfl rfl)
abbrev cX9_hasVan : ByteArray := prog_17_method_68_code
def yX9_hasVan : MethodName := ⟨RX9, "hasVan", "(I)Z"⟩
def dkwX9_hasVan_0 : List UInt8 := [42, 27, 4, 182, 0, 173, 4, 160, 0, 7, 4, 167, 0, 4, 3, 172]
abbrev dktX9_hasVan_0 : List UInt8 := dkwX9_hasVan_0 ++ []
theorem dksX9_hasVan_0 : cX9_hasVan.data.toList.drop 0 = dktX9_hasVan_0 := by decide +kernel
theorem dX9_hasVan_0 : decode cX9_hasVan 0 = .ok (.aload_n 0, 1) := dk_42 (dk_at dksX9_hasVan_0 0 rfl rfl)
theorem dX9_hasVan_1 : decode cX9_hasVan 1 = .ok (.iload_n 1, 1) := dk_27 (dk_at dksX9_hasVan_0 1 rfl rfl)
theorem dX9_hasVan_2 : decode cX9_hasVan 2 = .ok (.iconst 1, 1) := dk_4 (dk_at dksX9_hasVan_0 2 rfl rfl)
theorem dX9_hasVan_3 : decode cX9_hasVan 3 = .ok (.invokevirtual 173, 3) := dk_182 0 173 (dk_at dksX9_hasVan_0 3 rfl rfl)
theorem dX9_hasVan_6 : decode cX9_hasVan 6 = .ok (.iconst 1, 1) := dk_4 (dk_at dksX9_hasVan_0 6 rfl rfl)
theorem dX9_hasVan_7 : decode cX9_hasVan 7 = .ok (.if_icmp .ne 7, 3) := dk_160 0 7 (dk_at dksX9_hasVan_0 7 rfl rfl)
theorem dX9_hasVan_10 : decode cX9_hasVan 10 = .ok (.iconst 1, 1) := dk_4 (dk_at dksX9_hasVan_0 10 rfl rfl)
theorem dX9_hasVan_11 : decode cX9_hasVan 11 = .ok (.goto 4, 3) := dk_167 0 4 (dk_at dksX9_hasVan_0 11 rfl rfl)
theorem dX9_hasVan_14 : decode cX9_hasVan 14 = .ok (.iconst 0, 1) := dk_3 (dk_at dksX9_hasVan_0 14 rfl rfl)
theorem dX9_hasVan_15 : decode cX9_hasVan 15 = .ok (.ireturn, 1) := dk_172 (dk_at dksX9_hasVan_0 15 rfl rfl)
abbrev cX9_loadOf : ByteArray := prog_17_method_69_code
def yX9_loadOf : MethodName := ⟨RX9, "loadOf", "(I)I"⟩
def dkwX9_loadOf_1 : List UInt8 := [182, 0, 122, 172]
abbrev dktX9_loadOf_1 : List UInt8 := dkwX9_loadOf_1 ++ []
def dkwX9_loadOf_0 : List UInt8 := [42, 3, 181, 0, 38, 27, 184, 0, 134, 153, 0, 11, 42, 27, 182, 0, 94, 167, 0, 8, 42, 4]
abbrev dktX9_loadOf_0 : List UInt8 := dkwX9_loadOf_0 ++ dktX9_loadOf_1
theorem dksX9_loadOf_0 : cX9_loadOf.data.toList.drop 0 = dktX9_loadOf_0 := by decide +kernel
theorem dksX9_loadOf_1 : cX9_loadOf.data.toList.drop 22 = dktX9_loadOf_1 := dk_seg dksX9_loadOf_0 22 rfl rfl
theorem dX9_loadOf_0 : decode cX9_loadOf 0 = .ok (.aload_n 0, 1) := dk_42 (dk_at dksX9_loadOf_0 0 rfl rfl)
theorem dX9_loadOf_1 : decode cX9_loadOf 1 = .ok (.iconst 0, 1) := dk_3 (dk_at dksX9_loadOf_0 1 rfl rfl)
theorem dX9_loadOf_2 : decode cX9_loadOf 2 = .ok (.putfield 38, 3) := dk_181 0 38 (dk_at dksX9_loadOf_0 2 rfl rfl)
theorem dX9_loadOf_5 : decode cX9_loadOf 5 = .ok (.iload_n 1, 1) := dk_27 (dk_at dksX9_loadOf_0 5 rfl rfl)
theorem dX9_loadOf_6 : decode cX9_loadOf 6 = .ok (.invokestatic 134, 3) := dk_184 0 134 (dk_at dksX9_loadOf_0 6 rfl rfl)
theorem dX9_loadOf_9 : decode cX9_loadOf 9 = .ok (.ifCond .eq 11, 3) := dk_153 0 11 (dk_at dksX9_loadOf_0 9 rfl rfl)
theorem dX9_loadOf_12 : decode cX9_loadOf 12 = .ok (.aload_n 0, 1) := dk_42 (dk_at dksX9_loadOf_0 12 rfl rfl)
theorem dX9_loadOf_13 : decode cX9_loadOf 13 = .ok (.iload_n 1, 1) := dk_27 (dk_at dksX9_loadOf_0 13 rfl rfl)
theorem dX9_loadOf_14 : decode cX9_loadOf 14 = .ok (.invokevirtual 94, 3) := dk_182 0 94 (dk_at dksX9_loadOf_0 14 rfl rfl)
theorem dX9_loadOf_17 : decode cX9_loadOf 17 = .ok (.goto 8, 3) := dk_167 0 8 (dk_at dksX9_loadOf_0 17 rfl rfl)
theorem dX9_loadOf_20 : decode cX9_loadOf 20 = .ok (.aload_n 0, 1) := dk_42 (dk_at dksX9_loadOf_0 20 rfl rfl)
theorem dX9_loadOf_21 : decode cX9_loadOf 21 = .ok (.iconst 1, 1) := dk_4 (dk_at dksX9_loadOf_0 21 rfl rfl)
theorem dX9_loadOf_22 : decode cX9_loadOf 22 = .ok (.invokevirtual 122, 3) := dk_182 0 122 (dk_at dksX9_loadOf_1 0 rfl rfl)
theorem dX9_loadOf_25 : decode cX9_loadOf 25 = .ok (.ireturn, 1) := dk_172 (dk_at dksX9_loadOf_1 3 rfl rfl)
abbrev cX9_hasOrder : ByteArray := prog_17_method_70_code
def yX9_hasOrder : MethodName := ⟨RX9, "hasOrder", "(I)Z"⟩
def dkwX9_hasOrder_1 : List UInt8 := [172]
abbrev dktX9_hasOrder_1 : List UInt8 := dkwX9_hasOrder_1 ++ []
def dkwX9_hasOrder_0 : List UInt8 := [42, 27, 5, 182, 0, 173, 61, 42, 180, 0, 38, 154, 0, 12, 28, 2, 159, 0, 7, 4, 167, 0, 4, 3]
abbrev dktX9_hasOrder_0 : List UInt8 := dkwX9_hasOrder_0 ++ dktX9_hasOrder_1
theorem dksX9_hasOrder_0 : cX9_hasOrder.data.toList.drop 0 = dktX9_hasOrder_0 := by decide +kernel
theorem dksX9_hasOrder_1 : cX9_hasOrder.data.toList.drop 24 = dktX9_hasOrder_1 := dk_seg dksX9_hasOrder_0 24 rfl rfl
theorem dX9_hasOrder_0 : decode cX9_hasOrder 0 = .ok (.aload_n 0, 1) := dk_42 (dk_at dksX9_hasOrder_0 0 rfl rfl)
theorem dX9_hasOrder_1 : decode cX9_hasOrder 1 = .ok (.iload_n 1, 1) := dk_27 (dk_at dksX9_hasOrder_0 1 rfl rfl)
theorem dX9_hasOrder_2 : decode cX9_hasOrder 2 = .ok (.iconst 2, 1) := dk_5 (dk_at dksX9_hasOrder_0 2 rfl rfl)
theorem dX9_hasOrder_3 : decode cX9_hasOrder 3 = .ok (.invokevirtual 173, 3) := dk_182 0 173 (dk_at dksX9_hasOrder_0 3 rfl rfl)
theorem dX9_hasOrder_6 : decode cX9_hasOrder 6 = .ok (.istore_n 2, 1) := dk_61 (dk_at dksX9_hasOrder_0 6 rfl rfl)
theorem dX9_hasOrder_7 : decode cX9_hasOrder 7 = .ok (.aload_n 0, 1) := dk_42 (dk_at dksX9_hasOrder_0 7 rfl rfl)
theorem dX9_hasOrder_8 : decode cX9_hasOrder 8 = .ok (.getfield 38, 3) := dk_180 0 38 (dk_at dksX9_hasOrder_0 8 rfl rfl)
theorem dX9_hasOrder_11 : decode cX9_hasOrder 11 = .ok (.ifCond .ne 12, 3) := dk_154 0 12 (dk_at dksX9_hasOrder_0 11 rfl rfl)
theorem dX9_hasOrder_14 : decode cX9_hasOrder 14 = .ok (.iload_n 2, 1) := dk_28 (dk_at dksX9_hasOrder_0 14 rfl rfl)
theorem dX9_hasOrder_15 : decode cX9_hasOrder 15 = .ok (.iconst (-1), 1) := dk_2 (dk_at dksX9_hasOrder_0 15 rfl rfl)
theorem dX9_hasOrder_16 : decode cX9_hasOrder 16 = .ok (.if_icmp .eq 7, 3) := dk_159 0 7 (dk_at dksX9_hasOrder_0 16 rfl rfl)
theorem dX9_hasOrder_19 : decode cX9_hasOrder 19 = .ok (.iconst 1, 1) := dk_4 (dk_at dksX9_hasOrder_0 19 rfl rfl)
theorem dX9_hasOrder_20 : decode cX9_hasOrder 20 = .ok (.goto 4, 3) := dk_167 0 4 (dk_at dksX9_hasOrder_0 20 rfl rfl)
theorem dX9_hasOrder_23 : decode cX9_hasOrder 23 = .ok (.iconst 0, 1) := dk_3 (dk_at dksX9_hasOrder_0 23 rfl rfl)
theorem dX9_hasOrder_24 : decode cX9_hasOrder 24 = .ok (.ireturn, 1) := dk_172 (dk_at dksX9_hasOrder_1 0 rfl rfl)
abbrev cX9_orderOf : ByteArray := prog_17_method_71_code
def yX9_orderOf : MethodName := ⟨RX9, "orderOf", "(I)I"⟩
def dkwX9_orderOf_0 : List UInt8 := [42, 27, 5, 182, 0, 173, 61, 28, 2, 160, 0, 11, 42, 5, 182, 0, 122, 167, 0, 4, 28, 172]
abbrev dktX9_orderOf_0 : List UInt8 := dkwX9_orderOf_0 ++ []
theorem dksX9_orderOf_0 : cX9_orderOf.data.toList.drop 0 = dktX9_orderOf_0 := by decide +kernel
theorem dX9_orderOf_0 : decode cX9_orderOf 0 = .ok (.aload_n 0, 1) := dk_42 (dk_at dksX9_orderOf_0 0 rfl rfl)
theorem dX9_orderOf_1 : decode cX9_orderOf 1 = .ok (.iload_n 1, 1) := dk_27 (dk_at dksX9_orderOf_0 1 rfl rfl)
theorem dX9_orderOf_2 : decode cX9_orderOf 2 = .ok (.iconst 2, 1) := dk_5 (dk_at dksX9_orderOf_0 2 rfl rfl)
theorem dX9_orderOf_3 : decode cX9_orderOf 3 = .ok (.invokevirtual 173, 3) := dk_182 0 173 (dk_at dksX9_orderOf_0 3 rfl rfl)
theorem dX9_orderOf_6 : decode cX9_orderOf 6 = .ok (.istore_n 2, 1) := dk_61 (dk_at dksX9_orderOf_0 6 rfl rfl)
theorem dX9_orderOf_7 : decode cX9_orderOf 7 = .ok (.iload_n 2, 1) := dk_28 (dk_at dksX9_orderOf_0 7 rfl rfl)
theorem dX9_orderOf_8 : decode cX9_orderOf 8 = .ok (.iconst (-1), 1) := dk_2 (dk_at dksX9_orderOf_0 8 rfl rfl)
theorem dX9_orderOf_9 : decode cX9_orderOf 9 = .ok (.if_icmp .ne 11, 3) := dk_160 0 11 (dk_at dksX9_orderOf_0 9 rfl rfl)
theorem dX9_orderOf_12 : decode cX9_orderOf 12 = .ok (.aload_n 0, 1) := dk_42 (dk_at dksX9_orderOf_0 12 rfl rfl)
theorem dX9_orderOf_13 : decode cX9_orderOf 13 = .ok (.iconst 2, 1) := dk_5 (dk_at dksX9_orderOf_0 13 rfl rfl)
theorem dX9_orderOf_14 : decode cX9_orderOf 14 = .ok (.invokevirtual 122, 3) := dk_182 0 122 (dk_at dksX9_orderOf_0 14 rfl rfl)
theorem dX9_orderOf_17 : decode cX9_orderOf 17 = .ok (.goto 4, 3) := dk_167 0 4 (dk_at dksX9_orderOf_0 17 rfl rfl)
theorem dX9_orderOf_20 : decode cX9_orderOf 20 = .ok (.iload_n 2, 1) := dk_28 (dk_at dksX9_orderOf_0 20 rfl rfl)
theorem dX9_orderOf_21 : decode cX9_orderOf 21 = .ok (.ireturn, 1) := dk_172 (dk_at dksX9_orderOf_0 21 rfl rfl)
abbrev cX9_movesOf : ByteArray := prog_17_method_72_code
def yX9_movesOf : MethodName := ⟨RX9, "movesOf", "(I)I"⟩
def dkwX9_movesOf_0 : List UInt8 := [42, 27, 6, 182, 0, 173, 172]
abbrev dktX9_movesOf_0 : List UInt8 := dkwX9_movesOf_0 ++ []
theorem dksX9_movesOf_0 : cX9_movesOf.data.toList.drop 0 = dktX9_movesOf_0 := by decide +kernel
theorem dX9_movesOf_0 : decode cX9_movesOf 0 = .ok (.aload_n 0, 1) := dk_42 (dk_at dksX9_movesOf_0 0 rfl rfl)
theorem dX9_movesOf_1 : decode cX9_movesOf 1 = .ok (.iload_n 1, 1) := dk_27 (dk_at dksX9_movesOf_0 1 rfl rfl)
theorem dX9_movesOf_2 : decode cX9_movesOf 2 = .ok (.iconst 3, 1) := dk_6 (dk_at dksX9_movesOf_0 2 rfl rfl)
theorem dX9_movesOf_3 : decode cX9_movesOf 3 = .ok (.invokevirtual 173, 3) := dk_182 0 173 (dk_at dksX9_movesOf_0 3 rfl rfl)
theorem dX9_movesOf_6 : decode cX9_movesOf 6 = .ok (.ireturn, 1) := dk_172 (dk_at dksX9_movesOf_0 6 rfl rfl)
abbrev cX9_outcomeOf : ByteArray := prog_17_method_73_code
def yX9_outcomeOf : MethodName := ⟨RX9, "outcomeOf", "(I)I"⟩
def dkwX9_outcomeOf_0 : List UInt8 := [42, 27, 7, 182, 0, 173, 172]
abbrev dktX9_outcomeOf_0 : List UInt8 := dkwX9_outcomeOf_0 ++ []
theorem dksX9_outcomeOf_0 : cX9_outcomeOf.data.toList.drop 0 = dktX9_outcomeOf_0 := by decide +kernel
theorem dX9_outcomeOf_0 : decode cX9_outcomeOf 0 = .ok (.aload_n 0, 1) := dk_42 (dk_at dksX9_outcomeOf_0 0 rfl rfl)
theorem dX9_outcomeOf_1 : decode cX9_outcomeOf 1 = .ok (.iload_n 1, 1) := dk_27 (dk_at dksX9_outcomeOf_0 1 rfl rfl)
theorem dX9_outcomeOf_2 : decode cX9_outcomeOf 2 = .ok (.iconst 4, 1) := dk_7 (dk_at dksX9_outcomeOf_0 2 rfl rfl)
theorem dX9_outcomeOf_3 : decode cX9_outcomeOf 3 = .ok (.invokevirtual 173, 3) := dk_182 0 173 (dk_at dksX9_outcomeOf_0 3 rfl rfl)
theorem dX9_outcomeOf_6 : decode cX9_outcomeOf 6 = .ok (.ireturn, 1) := dk_172 (dk_at dksX9_outcomeOf_0 6 rfl rfl)
abbrev cX9_parcels : ByteArray := prog_17_method_74_code
def yX9_parcels : MethodName := ⟨RX9, "parcels", "()I"⟩
def dkwX9_parcels_0 : List UInt8 := [42, 3, 181, 0, 38, 42, 180, 0, 7, 16, 117, 46, 172]
abbrev dktX9_parcels_0 : List UInt8 := dkwX9_parcels_0 ++ []
theorem dksX9_parcels_0 : cX9_parcels.data.toList.drop 0 = dktX9_parcels_0 := by decide +kernel
theorem dX9_parcels_0 : decode cX9_parcels 0 = .ok (.aload_n 0, 1) := dk_42 (dk_at dksX9_parcels_0 0 rfl rfl)
theorem dX9_parcels_1 : decode cX9_parcels 1 = .ok (.iconst 0, 1) := dk_3 (dk_at dksX9_parcels_0 1 rfl rfl)
theorem dX9_parcels_2 : decode cX9_parcels 2 = .ok (.putfield 38, 3) := dk_181 0 38 (dk_at dksX9_parcels_0 2 rfl rfl)
theorem dX9_parcels_5 : decode cX9_parcels 5 = .ok (.aload_n 0, 1) := dk_42 (dk_at dksX9_parcels_0 5 rfl rfl)
theorem dX9_parcels_6 : decode cX9_parcels 6 = .ok (.getfield 7, 3) := dk_180 0 7 (dk_at dksX9_parcels_0 6 rfl rfl)
theorem dX9_parcels_9 : decode cX9_parcels 9 = .ok (.bipush 117, 2) := dk_16 117 (dk_at dksX9_parcels_0 9 rfl rfl)
theorem dX9_parcels_11 : decode cX9_parcels 11 = .ok (.iaload, 1) := dk_46 (dk_at dksX9_parcels_0 11 rfl rfl)
theorem dX9_parcels_12 : decode cX9_parcels 12 = .ok (.ireturn, 1) := dk_172 (dk_at dksX9_parcels_0 12 rfl rfl)
abbrev cX9_isWaiting : ByteArray := prog_17_method_75_code
def yX9_isWaiting : MethodName := ⟨RX9, "isWaiting", "(I)Z"⟩
def dkwX9_isWaiting_1 : List UInt8 := [42, 27, 7, 182, 0, 49, 154, 0, 7, 4, 167, 0, 4, 3, 172]
abbrev dktX9_isWaiting_1 : List UInt8 := dkwX9_isWaiting_1 ++ []
def dkwX9_isWaiting_0 : List UInt8 := [42, 42, 27, 182, 0, 176, 153, 0, 7, 3, 167, 0, 4, 4, 181, 0, 38, 42, 180, 0, 38, 154, 0, 16]
abbrev dktX9_isWaiting_0 : List UInt8 := dkwX9_isWaiting_0 ++ dktX9_isWaiting_1
theorem dksX9_isWaiting_0 : cX9_isWaiting.data.toList.drop 0 = dktX9_isWaiting_0 := by decide +kernel
theorem dksX9_isWaiting_1 : cX9_isWaiting.data.toList.drop 24 = dktX9_isWaiting_1 := dk_seg dksX9_isWaiting_0 24 rfl rfl
theorem dX9_isWaiting_0 : decode cX9_isWaiting 0 = .ok (.aload_n 0, 1) := dk_42 (dk_at dksX9_isWaiting_0 0 rfl rfl)
theorem dX9_isWaiting_1 : decode cX9_isWaiting 1 = .ok (.aload_n 0, 1) := dk_42 (dk_at dksX9_isWaiting_0 1 rfl rfl)
theorem dX9_isWaiting_2 : decode cX9_isWaiting 2 = .ok (.iload_n 1, 1) := dk_27 (dk_at dksX9_isWaiting_0 2 rfl rfl)
theorem dX9_isWaiting_3 : decode cX9_isWaiting 3 = .ok (.invokevirtual 176, 3) := dk_182 0 176 (dk_at dksX9_isWaiting_0 3 rfl rfl)
theorem dX9_isWaiting_6 : decode cX9_isWaiting 6 = .ok (.ifCond .eq 7, 3) := dk_153 0 7 (dk_at dksX9_isWaiting_0 6 rfl rfl)
theorem dX9_isWaiting_9 : decode cX9_isWaiting 9 = .ok (.iconst 0, 1) := dk_3 (dk_at dksX9_isWaiting_0 9 rfl rfl)
theorem dX9_isWaiting_10 : decode cX9_isWaiting 10 = .ok (.goto 4, 3) := dk_167 0 4 (dk_at dksX9_isWaiting_0 10 rfl rfl)
theorem dX9_isWaiting_13 : decode cX9_isWaiting 13 = .ok (.iconst 1, 1) := dk_4 (dk_at dksX9_isWaiting_0 13 rfl rfl)
theorem dX9_isWaiting_14 : decode cX9_isWaiting 14 = .ok (.putfield 38, 3) := dk_181 0 38 (dk_at dksX9_isWaiting_0 14 rfl rfl)
theorem dX9_isWaiting_17 : decode cX9_isWaiting 17 = .ok (.aload_n 0, 1) := dk_42 (dk_at dksX9_isWaiting_0 17 rfl rfl)
theorem dX9_isWaiting_18 : decode cX9_isWaiting 18 = .ok (.getfield 38, 3) := dk_180 0 38 (dk_at dksX9_isWaiting_0 18 rfl rfl)
theorem dX9_isWaiting_21 : decode cX9_isWaiting 21 = .ok (.ifCond .ne 16, 3) := dk_154 0 16 (dk_at dksX9_isWaiting_0 21 rfl rfl)
theorem dX9_isWaiting_24 : decode cX9_isWaiting 24 = .ok (.aload_n 0, 1) := dk_42 (dk_at dksX9_isWaiting_1 0 rfl rfl)
theorem dX9_isWaiting_25 : decode cX9_isWaiting 25 = .ok (.iload_n 1, 1) := dk_27 (dk_at dksX9_isWaiting_1 1 rfl rfl)
theorem dX9_isWaiting_26 : decode cX9_isWaiting 26 = .ok (.iconst 4, 1) := dk_7 (dk_at dksX9_isWaiting_1 2 rfl rfl)
theorem dX9_isWaiting_27 : decode cX9_isWaiting 27 = .ok (.invokevirtual 49, 3) := dk_182 0 49 (dk_at dksX9_isWaiting_1 3 rfl rfl)
theorem dX9_isWaiting_30 : decode cX9_isWaiting 30 = .ok (.ifCond .ne 7, 3) := dk_154 0 7 (dk_at dksX9_isWaiting_1 6 rfl rfl)
theorem dX9_isWaiting_33 : decode cX9_isWaiting 33 = .ok (.iconst 1, 1) := dk_4 (dk_at dksX9_isWaiting_1 9 rfl rfl)
theorem dX9_isWaiting_34 : decode cX9_isWaiting 34 = .ok (.goto 4, 3) := dk_167 0 4 (dk_at dksX9_isWaiting_1 10 rfl rfl)
theorem dX9_isWaiting_37 : decode cX9_isWaiting 37 = .ok (.iconst 0, 1) := dk_3 (dk_at dksX9_isWaiting_1 13 rfl rfl)
theorem dX9_isWaiting_38 : decode cX9_isWaiting 38 = .ok (.ireturn, 1) := dk_172 (dk_at dksX9_isWaiting_1 14 rfl rfl)
abbrev cX9_isParcel : ByteArray := prog_17_method_8_code
def yX9_isParcel : MethodName := ⟨RX9, "isParcel", "(I)Z"⟩
def dkwX9_isParcel_0 : List UInt8 := [27, 3, 42, 180, 0, 7, 16, 117, 46, 4, 100, 184, 0, 42, 172]
abbrev dktX9_isParcel_0 : List UInt8 := dkwX9_isParcel_0 ++ []
theorem dksX9_isParcel_0 : cX9_isParcel.data.toList.drop 0 = dktX9_isParcel_0 := by decide +kernel
theorem dX9_isParcel_0 : decode cX9_isParcel 0 = .ok (.iload_n 1, 1) := dk_27 (dk_at dksX9_isParcel_0 0 rfl rfl)
theorem dX9_isParcel_1 : decode cX9_isParcel 1 = .ok (.iconst 0, 1) := dk_3 (dk_at dksX9_isParcel_0 1 rfl rfl)
theorem dX9_isParcel_2 : decode cX9_isParcel 2 = .ok (.aload_n 0, 1) := dk_42 (dk_at dksX9_isParcel_0 2 rfl rfl)
theorem dX9_isParcel_3 : decode cX9_isParcel 3 = .ok (.getfield 7, 3) := dk_180 0 7 (dk_at dksX9_isParcel_0 3 rfl rfl)
theorem dX9_isParcel_6 : decode cX9_isParcel 6 = .ok (.bipush 117, 2) := dk_16 117 (dk_at dksX9_isParcel_0 6 rfl rfl)
theorem dX9_isParcel_8 : decode cX9_isParcel 8 = .ok (.iaload, 1) := dk_46 (dk_at dksX9_isParcel_0 8 rfl rfl)
theorem dX9_isParcel_9 : decode cX9_isParcel 9 = .ok (.iconst 1, 1) := dk_4 (dk_at dksX9_isParcel_0 9 rfl rfl)
theorem dX9_isParcel_10 : decode cX9_isParcel 10 = .ok (.isub, 1) := dk_100 (dk_at dksX9_isParcel_0 10 rfl rfl)
theorem dX9_isParcel_11 : decode cX9_isParcel 11 = .ok (.invokestatic 42, 3) := dk_184 0 42 (dk_at dksX9_isParcel_0 11 rfl rfl)
theorem dX9_isParcel_14 : decode cX9_isParcel 14 = .ok (.ireturn, 1) := dk_172 (dk_at dksX9_isParcel_0 14 rfl rfl)
abbrev cX9_isDelivered : ByteArray := prog_17_method_76_code
def yX9_isDelivered : MethodName := ⟨RX9, "isDelivered", "(I)Z"⟩
def dkwX9_isDelivered_1 : List UInt8 := [42, 27, 7, 182, 0, 49, 5, 160, 0, 7, 4, 167, 0, 4, 3, 172]
abbrev dktX9_isDelivered_1 : List UInt8 := dkwX9_isDelivered_1 ++ []
def dkwX9_isDelivered_0 : List UInt8 := [42, 42, 27, 182, 0, 176, 153, 0, 7, 3, 167, 0, 4, 4, 181, 0, 38, 42, 180, 0, 38, 154, 0, 17]
abbrev dktX9_isDelivered_0 : List UInt8 := dkwX9_isDelivered_0 ++ dktX9_isDelivered_1
theorem dksX9_isDelivered_0 : cX9_isDelivered.data.toList.drop 0 = dktX9_isDelivered_0 := by decide +kernel
theorem dksX9_isDelivered_1 : cX9_isDelivered.data.toList.drop 24 = dktX9_isDelivered_1 := dk_seg dksX9_isDelivered_0 24 rfl rfl
theorem dX9_isDelivered_0 : decode cX9_isDelivered 0 = .ok (.aload_n 0, 1) := dk_42 (dk_at dksX9_isDelivered_0 0 rfl rfl)
theorem dX9_isDelivered_1 : decode cX9_isDelivered 1 = .ok (.aload_n 0, 1) := dk_42 (dk_at dksX9_isDelivered_0 1 rfl rfl)
theorem dX9_isDelivered_2 : decode cX9_isDelivered 2 = .ok (.iload_n 1, 1) := dk_27 (dk_at dksX9_isDelivered_0 2 rfl rfl)
theorem dX9_isDelivered_3 : decode cX9_isDelivered 3 = .ok (.invokevirtual 176, 3) := dk_182 0 176 (dk_at dksX9_isDelivered_0 3 rfl rfl)
theorem dX9_isDelivered_6 : decode cX9_isDelivered 6 = .ok (.ifCond .eq 7, 3) := dk_153 0 7 (dk_at dksX9_isDelivered_0 6 rfl rfl)
theorem dX9_isDelivered_9 : decode cX9_isDelivered 9 = .ok (.iconst 0, 1) := dk_3 (dk_at dksX9_isDelivered_0 9 rfl rfl)
theorem dX9_isDelivered_10 : decode cX9_isDelivered 10 = .ok (.goto 4, 3) := dk_167 0 4 (dk_at dksX9_isDelivered_0 10 rfl rfl)
theorem dX9_isDelivered_13 : decode cX9_isDelivered 13 = .ok (.iconst 1, 1) := dk_4 (dk_at dksX9_isDelivered_0 13 rfl rfl)
theorem dX9_isDelivered_14 : decode cX9_isDelivered 14 = .ok (.putfield 38, 3) := dk_181 0 38 (dk_at dksX9_isDelivered_0 14 rfl rfl)
theorem dX9_isDelivered_17 : decode cX9_isDelivered 17 = .ok (.aload_n 0, 1) := dk_42 (dk_at dksX9_isDelivered_0 17 rfl rfl)
theorem dX9_isDelivered_18 : decode cX9_isDelivered 18 = .ok (.getfield 38, 3) := dk_180 0 38 (dk_at dksX9_isDelivered_0 18 rfl rfl)
theorem dX9_isDelivered_21 : decode cX9_isDelivered 21 = .ok (.ifCond .ne 17, 3) := dk_154 0 17 (dk_at dksX9_isDelivered_0 21 rfl rfl)
theorem dX9_isDelivered_24 : decode cX9_isDelivered 24 = .ok (.aload_n 0, 1) := dk_42 (dk_at dksX9_isDelivered_1 0 rfl rfl)
theorem dX9_isDelivered_25 : decode cX9_isDelivered 25 = .ok (.iload_n 1, 1) := dk_27 (dk_at dksX9_isDelivered_1 1 rfl rfl)
theorem dX9_isDelivered_26 : decode cX9_isDelivered 26 = .ok (.iconst 4, 1) := dk_7 (dk_at dksX9_isDelivered_1 2 rfl rfl)
theorem dX9_isDelivered_27 : decode cX9_isDelivered 27 = .ok (.invokevirtual 49, 3) := dk_182 0 49 (dk_at dksX9_isDelivered_1 3 rfl rfl)
theorem dX9_isDelivered_30 : decode cX9_isDelivered 30 = .ok (.iconst 2, 1) := dk_5 (dk_at dksX9_isDelivered_1 6 rfl rfl)
theorem dX9_isDelivered_31 : decode cX9_isDelivered 31 = .ok (.if_icmp .ne 7, 3) := dk_160 0 7 (dk_at dksX9_isDelivered_1 7 rfl rfl)
theorem dX9_isDelivered_34 : decode cX9_isDelivered 34 = .ok (.iconst 1, 1) := dk_4 (dk_at dksX9_isDelivered_1 10 rfl rfl)
theorem dX9_isDelivered_35 : decode cX9_isDelivered 35 = .ok (.goto 4, 3) := dk_167 0 4 (dk_at dksX9_isDelivered_1 11 rfl rfl)
theorem dX9_isDelivered_38 : decode cX9_isDelivered 38 = .ok (.iconst 0, 1) := dk_3 (dk_at dksX9_isDelivered_1 14 rfl rfl)
theorem dX9_isDelivered_39 : decode cX9_isDelivered 39 = .ok (.ireturn, 1) := dk_172 (dk_at dksX9_isDelivered_1 15 rfl rfl)
abbrev cX9_courierOf : ByteArray := prog_17_method_77_code
def yX9_courierOf : MethodName := ⟨RX9, "courierOf", "(I)I"⟩
def dkwX9_courierOf_1 : List UInt8 := [182, 0, 49, 154, 0, 11, 42, 5, 182, 0, 122, 167, 0, 9, 42, 27, 8, 182, 0, 49, 172]
abbrev dktX9_courierOf_1 : List UInt8 := dkwX9_courierOf_1 ++ []
def dkwX9_courierOf_0 : List UInt8 := [42, 3, 181, 0, 38, 42, 27, 182, 0, 176, 154, 0, 11, 42, 4, 182, 0, 122, 167, 0, 26, 42, 27, 7]
abbrev dktX9_courierOf_0 : List UInt8 := dkwX9_courierOf_0 ++ dktX9_courierOf_1
theorem dksX9_courierOf_0 : cX9_courierOf.data.toList.drop 0 = dktX9_courierOf_0 := by decide +kernel
theorem dksX9_courierOf_1 : cX9_courierOf.data.toList.drop 24 = dktX9_courierOf_1 := dk_seg dksX9_courierOf_0 24 rfl rfl
theorem dX9_courierOf_0 : decode cX9_courierOf 0 = .ok (.aload_n 0, 1) := dk_42 (dk_at dksX9_courierOf_0 0 rfl rfl)
theorem dX9_courierOf_1 : decode cX9_courierOf 1 = .ok (.iconst 0, 1) := dk_3 (dk_at dksX9_courierOf_0 1 rfl rfl)
theorem dX9_courierOf_2 : decode cX9_courierOf 2 = .ok (.putfield 38, 3) := dk_181 0 38 (dk_at dksX9_courierOf_0 2 rfl rfl)
theorem dX9_courierOf_5 : decode cX9_courierOf 5 = .ok (.aload_n 0, 1) := dk_42 (dk_at dksX9_courierOf_0 5 rfl rfl)
theorem dX9_courierOf_6 : decode cX9_courierOf 6 = .ok (.iload_n 1, 1) := dk_27 (dk_at dksX9_courierOf_0 6 rfl rfl)
theorem dX9_courierOf_7 : decode cX9_courierOf 7 = .ok (.invokevirtual 176, 3) := dk_182 0 176 (dk_at dksX9_courierOf_0 7 rfl rfl)
theorem dX9_courierOf_10 : decode cX9_courierOf 10 = .ok (.ifCond .ne 11, 3) := dk_154 0 11 (dk_at dksX9_courierOf_0 10 rfl rfl)
theorem dX9_courierOf_13 : decode cX9_courierOf 13 = .ok (.aload_n 0, 1) := dk_42 (dk_at dksX9_courierOf_0 13 rfl rfl)
theorem dX9_courierOf_14 : decode cX9_courierOf 14 = .ok (.iconst 1, 1) := dk_4 (dk_at dksX9_courierOf_0 14 rfl rfl)
theorem dX9_courierOf_15 : decode cX9_courierOf 15 = .ok (.invokevirtual 122, 3) := dk_182 0 122 (dk_at dksX9_courierOf_0 15 rfl rfl)
theorem dX9_courierOf_18 : decode cX9_courierOf 18 = .ok (.goto 26, 3) := dk_167 0 26 (dk_at dksX9_courierOf_0 18 rfl rfl)
theorem dX9_courierOf_21 : decode cX9_courierOf 21 = .ok (.aload_n 0, 1) := dk_42 (dk_at dksX9_courierOf_0 21 rfl rfl)
theorem dX9_courierOf_22 : decode cX9_courierOf 22 = .ok (.iload_n 1, 1) := dk_27 (dk_at dksX9_courierOf_0 22 rfl rfl)
theorem dX9_courierOf_23 : decode cX9_courierOf 23 = .ok (.iconst 4, 1) := dk_7 (dk_at dksX9_courierOf_0 23 rfl rfl)
theorem dX9_courierOf_24 : decode cX9_courierOf 24 = .ok (.invokevirtual 49, 3) := dk_182 0 49 (dk_at dksX9_courierOf_1 0 rfl rfl)
theorem dX9_courierOf_27 : decode cX9_courierOf 27 = .ok (.ifCond .ne 11, 3) := dk_154 0 11 (dk_at dksX9_courierOf_1 3 rfl rfl)
theorem dX9_courierOf_30 : decode cX9_courierOf 30 = .ok (.aload_n 0, 1) := dk_42 (dk_at dksX9_courierOf_1 6 rfl rfl)
theorem dX9_courierOf_31 : decode cX9_courierOf 31 = .ok (.iconst 2, 1) := dk_5 (dk_at dksX9_courierOf_1 7 rfl rfl)
theorem dX9_courierOf_32 : decode cX9_courierOf 32 = .ok (.invokevirtual 122, 3) := dk_182 0 122 (dk_at dksX9_courierOf_1 8 rfl rfl)
theorem dX9_courierOf_35 : decode cX9_courierOf 35 = .ok (.goto 9, 3) := dk_167 0 9 (dk_at dksX9_courierOf_1 11 rfl rfl)
theorem dX9_courierOf_38 : decode cX9_courierOf 38 = .ok (.aload_n 0, 1) := dk_42 (dk_at dksX9_courierOf_1 14 rfl rfl)
theorem dX9_courierOf_39 : decode cX9_courierOf 39 = .ok (.iload_n 1, 1) := dk_27 (dk_at dksX9_courierOf_1 15 rfl rfl)
theorem dX9_courierOf_40 : decode cX9_courierOf 40 = .ok (.iconst 5, 1) := dk_8 (dk_at dksX9_courierOf_1 16 rfl rfl)
theorem dX9_courierOf_41 : decode cX9_courierOf 41 = .ok (.invokevirtual 49, 3) := dk_182 0 49 (dk_at dksX9_courierOf_1 17 rfl rfl)
theorem dX9_courierOf_44 : decode cX9_courierOf 44 = .ok (.ireturn, 1) := dk_172 (dk_at dksX9_courierOf_1 20 rfl rfl)
abbrev cX9_placeOf : ByteArray := prog_17_method_79_code
def yX9_placeOf : MethodName := ⟨RX9, "placeOf", "(I)I"⟩
def dkwX9_placeOf_1 : List UInt8 := [182, 0, 122, 172]
abbrev dktX9_placeOf_1 : List UInt8 := dkwX9_placeOf_1 ++ []
def dkwX9_placeOf_0 : List UInt8 := [42, 3, 181, 0, 38, 42, 27, 182, 0, 176, 153, 0, 11, 42, 27, 182, 0, 179, 167, 0, 8, 42, 4]
abbrev dktX9_placeOf_0 : List UInt8 := dkwX9_placeOf_0 ++ dktX9_placeOf_1
theorem dksX9_placeOf_0 : cX9_placeOf.data.toList.drop 0 = dktX9_placeOf_0 := by decide +kernel
theorem dksX9_placeOf_1 : cX9_placeOf.data.toList.drop 23 = dktX9_placeOf_1 := dk_seg dksX9_placeOf_0 23 rfl rfl
theorem dX9_placeOf_0 : decode cX9_placeOf 0 = .ok (.aload_n 0, 1) := dk_42 (dk_at dksX9_placeOf_0 0 rfl rfl)
theorem dX9_placeOf_1 : decode cX9_placeOf 1 = .ok (.iconst 0, 1) := dk_3 (dk_at dksX9_placeOf_0 1 rfl rfl)
theorem dX9_placeOf_2 : decode cX9_placeOf 2 = .ok (.putfield 38, 3) := dk_181 0 38 (dk_at dksX9_placeOf_0 2 rfl rfl)
theorem dX9_placeOf_5 : decode cX9_placeOf 5 = .ok (.aload_n 0, 1) := dk_42 (dk_at dksX9_placeOf_0 5 rfl rfl)
theorem dX9_placeOf_6 : decode cX9_placeOf 6 = .ok (.iload_n 1, 1) := dk_27 (dk_at dksX9_placeOf_0 6 rfl rfl)
theorem dX9_placeOf_7 : decode cX9_placeOf 7 = .ok (.invokevirtual 176, 3) := dk_182 0 176 (dk_at dksX9_placeOf_0 7 rfl rfl)
theorem dX9_placeOf_10 : decode cX9_placeOf 10 = .ok (.ifCond .eq 11, 3) := dk_153 0 11 (dk_at dksX9_placeOf_0 10 rfl rfl)
theorem dX9_placeOf_13 : decode cX9_placeOf 13 = .ok (.aload_n 0, 1) := dk_42 (dk_at dksX9_placeOf_0 13 rfl rfl)
theorem dX9_placeOf_14 : decode cX9_placeOf 14 = .ok (.iload_n 1, 1) := dk_27 (dk_at dksX9_placeOf_0 14 rfl rfl)
theorem dX9_placeOf_15 : decode cX9_placeOf 15 = .ok (.invokevirtual 179, 3) := dk_182 0 179 (dk_at dksX9_placeOf_0 15 rfl rfl)
theorem dX9_placeOf_18 : decode cX9_placeOf 18 = .ok (.goto 8, 3) := dk_167 0 8 (dk_at dksX9_placeOf_0 18 rfl rfl)
theorem dX9_placeOf_21 : decode cX9_placeOf 21 = .ok (.aload_n 0, 1) := dk_42 (dk_at dksX9_placeOf_0 21 rfl rfl)
theorem dX9_placeOf_22 : decode cX9_placeOf 22 = .ok (.iconst 1, 1) := dk_4 (dk_at dksX9_placeOf_0 22 rfl rfl)
theorem dX9_placeOf_23 : decode cX9_placeOf 23 = .ok (.invokevirtual 122, 3) := dk_182 0 122 (dk_at dksX9_placeOf_1 0 rfl rfl)
theorem dX9_placeOf_26 : decode cX9_placeOf 26 = .ok (.ireturn, 1) := dk_172 (dk_at dksX9_placeOf_1 3 rfl rfl)
abbrev cX9_spot : ByteArray := prog_17_method_78_code
def yX9_spot : MethodName := ⟨RX9, "spot", "(I)I"⟩
def dkwX9_spot_2 : List UInt8 := [172]
abbrev dktX9_spot_2 : List UInt8 := dkwX9_spot_2 ++ []
def dkwX9_spot_1 : List UInt8 := [4, 160, 0, 17, 42, 42, 27, 8, 182, 0, 49, 3, 182, 0, 53, 167, 0, 9, 42, 27, 4, 182, 0, 49]
abbrev dktX9_spot_1 : List UInt8 := dkwX9_spot_1 ++ dktX9_spot_2
def dkwX9_spot_0 : List UInt8 := [42, 27, 7, 182, 0, 49, 154, 0, 12, 42, 27, 3, 182, 0, 49, 167, 0, 33, 42, 27, 7, 182, 0, 49]
abbrev dktX9_spot_0 : List UInt8 := dkwX9_spot_0 ++ dktX9_spot_1
theorem dksX9_spot_0 : cX9_spot.data.toList.drop 0 = dktX9_spot_0 := by decide +kernel
theorem dksX9_spot_1 : cX9_spot.data.toList.drop 24 = dktX9_spot_1 := dk_seg dksX9_spot_0 24 rfl rfl
theorem dksX9_spot_2 : cX9_spot.data.toList.drop 48 = dktX9_spot_2 := dk_seg dksX9_spot_1 24 rfl rfl
theorem dX9_spot_0 : decode cX9_spot 0 = .ok (.aload_n 0, 1) := dk_42 (dk_at dksX9_spot_0 0 rfl rfl)
theorem dX9_spot_1 : decode cX9_spot 1 = .ok (.iload_n 1, 1) := dk_27 (dk_at dksX9_spot_0 1 rfl rfl)
theorem dX9_spot_2 : decode cX9_spot 2 = .ok (.iconst 4, 1) := dk_7 (dk_at dksX9_spot_0 2 rfl rfl)
theorem dX9_spot_3 : decode cX9_spot 3 = .ok (.invokevirtual 49, 3) := dk_182 0 49 (dk_at dksX9_spot_0 3 rfl rfl)
theorem dX9_spot_6 : decode cX9_spot 6 = .ok (.ifCond .ne 12, 3) := dk_154 0 12 (dk_at dksX9_spot_0 6 rfl rfl)
theorem dX9_spot_9 : decode cX9_spot 9 = .ok (.aload_n 0, 1) := dk_42 (dk_at dksX9_spot_0 9 rfl rfl)
theorem dX9_spot_10 : decode cX9_spot 10 = .ok (.iload_n 1, 1) := dk_27 (dk_at dksX9_spot_0 10 rfl rfl)
theorem dX9_spot_11 : decode cX9_spot 11 = .ok (.iconst 0, 1) := dk_3 (dk_at dksX9_spot_0 11 rfl rfl)
theorem dX9_spot_12 : decode cX9_spot 12 = .ok (.invokevirtual 49, 3) := dk_182 0 49 (dk_at dksX9_spot_0 12 rfl rfl)
theorem dX9_spot_15 : decode cX9_spot 15 = .ok (.goto 33, 3) := dk_167 0 33 (dk_at dksX9_spot_0 15 rfl rfl)
theorem dX9_spot_18 : decode cX9_spot 18 = .ok (.aload_n 0, 1) := dk_42 (dk_at dksX9_spot_0 18 rfl rfl)
theorem dX9_spot_19 : decode cX9_spot 19 = .ok (.iload_n 1, 1) := dk_27 (dk_at dksX9_spot_0 19 rfl rfl)
theorem dX9_spot_20 : decode cX9_spot 20 = .ok (.iconst 4, 1) := dk_7 (dk_at dksX9_spot_0 20 rfl rfl)
theorem dX9_spot_21 : decode cX9_spot 21 = .ok (.invokevirtual 49, 3) := dk_182 0 49 (dk_at dksX9_spot_0 21 rfl rfl)
theorem dX9_spot_24 : decode cX9_spot 24 = .ok (.iconst 1, 1) := dk_4 (dk_at dksX9_spot_1 0 rfl rfl)
theorem dX9_spot_25 : decode cX9_spot 25 = .ok (.if_icmp .ne 17, 3) := dk_160 0 17 (dk_at dksX9_spot_1 1 rfl rfl)
theorem dX9_spot_28 : decode cX9_spot 28 = .ok (.aload_n 0, 1) := dk_42 (dk_at dksX9_spot_1 4 rfl rfl)
theorem dX9_spot_29 : decode cX9_spot 29 = .ok (.aload_n 0, 1) := dk_42 (dk_at dksX9_spot_1 5 rfl rfl)
theorem dX9_spot_30 : decode cX9_spot 30 = .ok (.iload_n 1, 1) := dk_27 (dk_at dksX9_spot_1 6 rfl rfl)
theorem dX9_spot_31 : decode cX9_spot 31 = .ok (.iconst 5, 1) := dk_8 (dk_at dksX9_spot_1 7 rfl rfl)
theorem dX9_spot_32 : decode cX9_spot 32 = .ok (.invokevirtual 49, 3) := dk_182 0 49 (dk_at dksX9_spot_1 8 rfl rfl)
theorem dX9_spot_35 : decode cX9_spot 35 = .ok (.iconst 0, 1) := dk_3 (dk_at dksX9_spot_1 11 rfl rfl)
theorem dX9_spot_36 : decode cX9_spot 36 = .ok (.invokevirtual 53, 3) := dk_182 0 53 (dk_at dksX9_spot_1 12 rfl rfl)
theorem dX9_spot_39 : decode cX9_spot 39 = .ok (.goto 9, 3) := dk_167 0 9 (dk_at dksX9_spot_1 15 rfl rfl)
theorem dX9_spot_42 : decode cX9_spot 42 = .ok (.aload_n 0, 1) := dk_42 (dk_at dksX9_spot_1 18 rfl rfl)
theorem dX9_spot_43 : decode cX9_spot 43 = .ok (.iload_n 1, 1) := dk_27 (dk_at dksX9_spot_1 19 rfl rfl)
theorem dX9_spot_44 : decode cX9_spot 44 = .ok (.iconst 1, 1) := dk_4 (dk_at dksX9_spot_1 20 rfl rfl)
theorem dX9_spot_45 : decode cX9_spot 45 = .ok (.invokevirtual 49, 3) := dk_182 0 49 (dk_at dksX9_spot_1 21 rfl rfl)
theorem dX9_spot_48 : decode cX9_spot 48 = .ok (.ireturn, 1) := dk_172 (dk_at dksX9_spot_2 0 rfl rfl)
abbrev cX9_pointsOf : ByteArray := prog_17_method_80_code
def yX9_pointsOf : MethodName := ⟨RX9, "pointsOf", "(I)I"⟩
def dkwX9_pointsOf_1 : List UInt8 := [167, 0, 8, 42, 4, 182, 0, 122, 172]
abbrev dktX9_pointsOf_1 : List UInt8 := dkwX9_pointsOf_1 ++ []
def dkwX9_pointsOf_0 : List UInt8 := [42, 3, 181, 0, 38, 27, 3, 4, 184, 0, 42, 153, 0, 16, 42, 180, 0, 7, 17, 0, 170, 27, 96, 46]
abbrev dktX9_pointsOf_0 : List UInt8 := dkwX9_pointsOf_0 ++ dktX9_pointsOf_1
theorem dksX9_pointsOf_0 : cX9_pointsOf.data.toList.drop 0 = dktX9_pointsOf_0 := by decide +kernel
theorem dksX9_pointsOf_1 : cX9_pointsOf.data.toList.drop 24 = dktX9_pointsOf_1 := dk_seg dksX9_pointsOf_0 24 rfl rfl
theorem dX9_pointsOf_0 : decode cX9_pointsOf 0 = .ok (.aload_n 0, 1) := dk_42 (dk_at dksX9_pointsOf_0 0 rfl rfl)
theorem dX9_pointsOf_1 : decode cX9_pointsOf 1 = .ok (.iconst 0, 1) := dk_3 (dk_at dksX9_pointsOf_0 1 rfl rfl)
theorem dX9_pointsOf_2 : decode cX9_pointsOf 2 = .ok (.putfield 38, 3) := dk_181 0 38 (dk_at dksX9_pointsOf_0 2 rfl rfl)
theorem dX9_pointsOf_5 : decode cX9_pointsOf 5 = .ok (.iload_n 1, 1) := dk_27 (dk_at dksX9_pointsOf_0 5 rfl rfl)
theorem dX9_pointsOf_6 : decode cX9_pointsOf 6 = .ok (.iconst 0, 1) := dk_3 (dk_at dksX9_pointsOf_0 6 rfl rfl)
theorem dX9_pointsOf_7 : decode cX9_pointsOf 7 = .ok (.iconst 1, 1) := dk_4 (dk_at dksX9_pointsOf_0 7 rfl rfl)
theorem dX9_pointsOf_8 : decode cX9_pointsOf 8 = .ok (.invokestatic 42, 3) := dk_184 0 42 (dk_at dksX9_pointsOf_0 8 rfl rfl)
theorem dX9_pointsOf_11 : decode cX9_pointsOf 11 = .ok (.ifCond .eq 16, 3) := dk_153 0 16 (dk_at dksX9_pointsOf_0 11 rfl rfl)
theorem dX9_pointsOf_14 : decode cX9_pointsOf 14 = .ok (.aload_n 0, 1) := dk_42 (dk_at dksX9_pointsOf_0 14 rfl rfl)
theorem dX9_pointsOf_15 : decode cX9_pointsOf 15 = .ok (.getfield 7, 3) := dk_180 0 7 (dk_at dksX9_pointsOf_0 15 rfl rfl)
theorem dX9_pointsOf_18 : decode cX9_pointsOf 18 = .ok (.sipush 170, 3) := dk_17 0 170 (dk_at dksX9_pointsOf_0 18 rfl rfl)
theorem dX9_pointsOf_21 : decode cX9_pointsOf 21 = .ok (.iload_n 1, 1) := dk_27 (dk_at dksX9_pointsOf_0 21 rfl rfl)
theorem dX9_pointsOf_22 : decode cX9_pointsOf 22 = .ok (.iadd, 1) := dk_96 (dk_at dksX9_pointsOf_0 22 rfl rfl)
theorem dX9_pointsOf_23 : decode cX9_pointsOf 23 = .ok (.iaload, 1) := dk_46 (dk_at dksX9_pointsOf_0 23 rfl rfl)
theorem dX9_pointsOf_24 : decode cX9_pointsOf 24 = .ok (.goto 8, 3) := dk_167 0 8 (dk_at dksX9_pointsOf_1 0 rfl rfl)
theorem dX9_pointsOf_27 : decode cX9_pointsOf 27 = .ok (.aload_n 0, 1) := dk_42 (dk_at dksX9_pointsOf_1 3 rfl rfl)
theorem dX9_pointsOf_28 : decode cX9_pointsOf 28 = .ok (.iconst 1, 1) := dk_4 (dk_at dksX9_pointsOf_1 4 rfl rfl)
theorem dX9_pointsOf_29 : decode cX9_pointsOf 29 = .ok (.invokevirtual 122, 3) := dk_182 0 122 (dk_at dksX9_pointsOf_1 5 rfl rfl)
theorem dX9_pointsOf_32 : decode cX9_pointsOf 32 = .ok (.ireturn, 1) := dk_172 (dk_at dksX9_pointsOf_1 8 rfl rfl)
abbrev cX9_pointsByParcels : ByteArray := prog_17_method_81_code
def yX9_pointsByParcels : MethodName := ⟨RX9, "pointsByParcels", "(I)I"⟩
def dkwX9_pointsByParcels_1 : List UInt8 := [167, 0, 8, 42, 4, 182, 0, 122, 172]
abbrev dktX9_pointsByParcels_1 : List UInt8 := dkwX9_pointsByParcels_1 ++ []
def dkwX9_pointsByParcels_0 : List UInt8 := [42, 3, 181, 0, 38, 27, 3, 4, 184, 0, 42, 153, 0, 16, 42, 180, 0, 7, 17, 0, 170, 27, 96, 46]
abbrev dktX9_pointsByParcels_0 : List UInt8 := dkwX9_pointsByParcels_0 ++ dktX9_pointsByParcels_1
theorem dksX9_pointsByParcels_0 : cX9_pointsByParcels.data.toList.drop 0 = dktX9_pointsByParcels_0 := by decide +kernel
theorem dksX9_pointsByParcels_1 : cX9_pointsByParcels.data.toList.drop 24 = dktX9_pointsByParcels_1 := dk_seg dksX9_pointsByParcels_0 24 rfl rfl
theorem dX9_pointsByParcels_0 : decode cX9_pointsByParcels 0 = .ok (.aload_n 0, 1) := dk_42 (dk_at dksX9_pointsByParcels_0 0 rfl rfl)
theorem dX9_pointsByParcels_1 : decode cX9_pointsByParcels 1 = .ok (.iconst 0, 1) := dk_3 (dk_at dksX9_pointsByParcels_0 1 rfl rfl)
theorem dX9_pointsByParcels_2 : decode cX9_pointsByParcels 2 = .ok (.putfield 38, 3) := dk_181 0 38 (dk_at dksX9_pointsByParcels_0 2 rfl rfl)
theorem dX9_pointsByParcels_5 : decode cX9_pointsByParcels 5 = .ok (.iload_n 1, 1) := dk_27 (dk_at dksX9_pointsByParcels_0 5 rfl rfl)
theorem dX9_pointsByParcels_6 : decode cX9_pointsByParcels 6 = .ok (.iconst 0, 1) := dk_3 (dk_at dksX9_pointsByParcels_0 6 rfl rfl)
theorem dX9_pointsByParcels_7 : decode cX9_pointsByParcels 7 = .ok (.iconst 1, 1) := dk_4 (dk_at dksX9_pointsByParcels_0 7 rfl rfl)
theorem dX9_pointsByParcels_8 : decode cX9_pointsByParcels 8 = .ok (.invokestatic 42, 3) := dk_184 0 42 (dk_at dksX9_pointsByParcels_0 8 rfl rfl)
theorem dX9_pointsByParcels_11 : decode cX9_pointsByParcels 11 = .ok (.ifCond .eq 16, 3) := dk_153 0 16 (dk_at dksX9_pointsByParcels_0 11 rfl rfl)
theorem dX9_pointsByParcels_14 : decode cX9_pointsByParcels 14 = .ok (.aload_n 0, 1) := dk_42 (dk_at dksX9_pointsByParcels_0 14 rfl rfl)
theorem dX9_pointsByParcels_15 : decode cX9_pointsByParcels 15 = .ok (.getfield 7, 3) := dk_180 0 7 (dk_at dksX9_pointsByParcels_0 15 rfl rfl)
theorem dX9_pointsByParcels_18 : decode cX9_pointsByParcels 18 = .ok (.sipush 170, 3) := dk_17 0 170 (dk_at dksX9_pointsByParcels_0 18 rfl rfl)
theorem dX9_pointsByParcels_21 : decode cX9_pointsByParcels 21 = .ok (.iload_n 1, 1) := dk_27 (dk_at dksX9_pointsByParcels_0 21 rfl rfl)
theorem dX9_pointsByParcels_22 : decode cX9_pointsByParcels 22 = .ok (.iadd, 1) := dk_96 (dk_at dksX9_pointsByParcels_0 22 rfl rfl)
theorem dX9_pointsByParcels_23 : decode cX9_pointsByParcels 23 = .ok (.iaload, 1) := dk_46 (dk_at dksX9_pointsByParcels_0 23 rfl rfl)
theorem dX9_pointsByParcels_24 : decode cX9_pointsByParcels 24 = .ok (.goto 8, 3) := dk_167 0 8 (dk_at dksX9_pointsByParcels_1 0 rfl rfl)
theorem dX9_pointsByParcels_27 : decode cX9_pointsByParcels 27 = .ok (.aload_n 0, 1) := dk_42 (dk_at dksX9_pointsByParcels_1 3 rfl rfl)
theorem dX9_pointsByParcels_28 : decode cX9_pointsByParcels 28 = .ok (.iconst 1, 1) := dk_4 (dk_at dksX9_pointsByParcels_1 4 rfl rfl)
theorem dX9_pointsByParcels_29 : decode cX9_pointsByParcels 29 = .ok (.invokevirtual 122, 3) := dk_182 0 122 (dk_at dksX9_pointsByParcels_1 5 rfl rfl)
theorem dX9_pointsByParcels_32 : decode cX9_pointsByParcels 32 = .ok (.ireturn, 1) := dk_172 (dk_at dksX9_pointsByParcels_1 8 rfl rfl)
abbrev cX9_turnsPassed : ByteArray := prog_17_method_82_code
def yX9_turnsPassed : MethodName := ⟨RX9, "turnsPassed", "()I"⟩
def dkwX9_turnsPassed_0 : List UInt8 := [42, 3, 181, 0, 38, 42, 180, 0, 7, 17, 0, 168, 46, 172]
abbrev dktX9_turnsPassed_0 : List UInt8 := dkwX9_turnsPassed_0 ++ []
theorem dksX9_turnsPassed_0 : cX9_turnsPassed.data.toList.drop 0 = dktX9_turnsPassed_0 := by decide +kernel
theorem dX9_turnsPassed_0 : decode cX9_turnsPassed 0 = .ok (.aload_n 0, 1) := dk_42 (dk_at dksX9_turnsPassed_0 0 rfl rfl)
theorem dX9_turnsPassed_1 : decode cX9_turnsPassed 1 = .ok (.iconst 0, 1) := dk_3 (dk_at dksX9_turnsPassed_0 1 rfl rfl)
theorem dX9_turnsPassed_2 : decode cX9_turnsPassed 2 = .ok (.putfield 38, 3) := dk_181 0 38 (dk_at dksX9_turnsPassed_0 2 rfl rfl)
theorem dX9_turnsPassed_5 : decode cX9_turnsPassed 5 = .ok (.aload_n 0, 1) := dk_42 (dk_at dksX9_turnsPassed_0 5 rfl rfl)
theorem dX9_turnsPassed_6 : decode cX9_turnsPassed 6 = .ok (.getfield 7, 3) := dk_180 0 7 (dk_at dksX9_turnsPassed_0 6 rfl rfl)
theorem dX9_turnsPassed_9 : decode cX9_turnsPassed 9 = .ok (.sipush 168, 3) := dk_17 0 168 (dk_at dksX9_turnsPassed_0 9 rfl rfl)
theorem dX9_turnsPassed_12 : decode cX9_turnsPassed 12 = .ok (.iaload, 1) := dk_46 (dk_at dksX9_turnsPassed_0 12 rfl rfl)
theorem dX9_turnsPassed_13 : decode cX9_turnsPassed 13 = .ok (.ireturn, 1) := dk_172 (dk_at dksX9_turnsPassed_0 13 rfl rfl)
abbrev cX9_failedMoves : ByteArray := prog_17_method_83_code
def yX9_failedMoves : MethodName := ⟨RX9, "failedMoves", "()I"⟩
def dkwX9_failedMoves_0 : List UInt8 := [42, 3, 181, 0, 38, 42, 180, 0, 7, 17, 0, 169, 46, 172]
abbrev dktX9_failedMoves_0 : List UInt8 := dkwX9_failedMoves_0 ++ []
theorem dksX9_failedMoves_0 : cX9_failedMoves.data.toList.drop 0 = dktX9_failedMoves_0 := by decide +kernel
theorem dX9_failedMoves_0 : decode cX9_failedMoves 0 = .ok (.aload_n 0, 1) := dk_42 (dk_at dksX9_failedMoves_0 0 rfl rfl)
theorem dX9_failedMoves_1 : decode cX9_failedMoves 1 = .ok (.iconst 0, 1) := dk_3 (dk_at dksX9_failedMoves_0 1 rfl rfl)
theorem dX9_failedMoves_2 : decode cX9_failedMoves 2 = .ok (.putfield 38, 3) := dk_181 0 38 (dk_at dksX9_failedMoves_0 2 rfl rfl)
theorem dX9_failedMoves_5 : decode cX9_failedMoves 5 = .ok (.aload_n 0, 1) := dk_42 (dk_at dksX9_failedMoves_0 5 rfl rfl)
theorem dX9_failedMoves_6 : decode cX9_failedMoves 6 = .ok (.getfield 7, 3) := dk_180 0 7 (dk_at dksX9_failedMoves_0 6 rfl rfl)
theorem dX9_failedMoves_9 : decode cX9_failedMoves 9 = .ok (.sipush 169, 3) := dk_17 0 169 (dk_at dksX9_failedMoves_0 9 rfl rfl)
theorem dX9_failedMoves_12 : decode cX9_failedMoves 12 = .ok (.iaload, 1) := dk_46 (dk_at dksX9_failedMoves_0 12 rfl rfl)
theorem dX9_failedMoves_13 : decode cX9_failedMoves 13 = .ok (.ireturn, 1) := dk_172 (dk_at dksX9_failedMoves_0 13 rfl rfl)
abbrev cX9_timesNoted : ByteArray := prog_17_method_84_code
def yX9_timesNoted : MethodName := ⟨RX9, "timesNoted", "()I"⟩
def dkwX9_timesNoted_0 : List UInt8 := [42, 3, 181, 0, 38, 42, 42, 182, 0, 64, 42, 182, 0, 68, 182, 0, 71, 172]
abbrev dktX9_timesNoted_0 : List UInt8 := dkwX9_timesNoted_0 ++ []
theorem dksX9_timesNoted_0 : cX9_timesNoted.data.toList.drop 0 = dktX9_timesNoted_0 := by decide +kernel
theorem dX9_timesNoted_0 : decode cX9_timesNoted 0 = .ok (.aload_n 0, 1) := dk_42 (dk_at dksX9_timesNoted_0 0 rfl rfl)
theorem dX9_timesNoted_1 : decode cX9_timesNoted 1 = .ok (.iconst 0, 1) := dk_3 (dk_at dksX9_timesNoted_0 1 rfl rfl)
theorem dX9_timesNoted_2 : decode cX9_timesNoted 2 = .ok (.putfield 38, 3) := dk_181 0 38 (dk_at dksX9_timesNoted_0 2 rfl rfl)
theorem dX9_timesNoted_5 : decode cX9_timesNoted 5 = .ok (.aload_n 0, 1) := dk_42 (dk_at dksX9_timesNoted_0 5 rfl rfl)
theorem dX9_timesNoted_6 : decode cX9_timesNoted 6 = .ok (.aload_n 0, 1) := dk_42 (dk_at dksX9_timesNoted_0 6 rfl rfl)
theorem dX9_timesNoted_7 : decode cX9_timesNoted 7 = .ok (.invokevirtual 64, 3) := dk_182 0 64 (dk_at dksX9_timesNoted_0 7 rfl rfl)
theorem dX9_timesNoted_10 : decode cX9_timesNoted 10 = .ok (.aload_n 0, 1) := dk_42 (dk_at dksX9_timesNoted_0 10 rfl rfl)
theorem dX9_timesNoted_11 : decode cX9_timesNoted 11 = .ok (.invokevirtual 68, 3) := dk_182 0 68 (dk_at dksX9_timesNoted_0 11 rfl rfl)
theorem dX9_timesNoted_14 : decode cX9_timesNoted 14 = .ok (.invokevirtual 71, 3) := dk_182 0 71 (dk_at dksX9_timesNoted_0 14 rfl rfl)
theorem dX9_timesNoted_17 : decode cX9_timesNoted 17 = .ok (.ireturn, 1) := dk_172 (dk_at dksX9_timesNoted_0 17 rfl rfl)
abbrev cX9_positionsNoted : ByteArray := prog_17_method_85_code
def yX9_positionsNoted : MethodName := ⟨RX9, "positionsNoted", "()I"⟩
def dkwX9_positionsNoted_0 : List UInt8 := [42, 3, 181, 0, 38, 42, 182, 0, 182, 172]
abbrev dktX9_positionsNoted_0 : List UInt8 := dkwX9_positionsNoted_0 ++ []
theorem dksX9_positionsNoted_0 : cX9_positionsNoted.data.toList.drop 0 = dktX9_positionsNoted_0 := by decide +kernel
theorem dX9_positionsNoted_0 : decode cX9_positionsNoted 0 = .ok (.aload_n 0, 1) := dk_42 (dk_at dksX9_positionsNoted_0 0 rfl rfl)
theorem dX9_positionsNoted_1 : decode cX9_positionsNoted 1 = .ok (.iconst 0, 1) := dk_3 (dk_at dksX9_positionsNoted_0 1 rfl rfl)
theorem dX9_positionsNoted_2 : decode cX9_positionsNoted 2 = .ok (.putfield 38, 3) := dk_181 0 38 (dk_at dksX9_positionsNoted_0 2 rfl rfl)
theorem dX9_positionsNoted_5 : decode cX9_positionsNoted 5 = .ok (.aload_n 0, 1) := dk_42 (dk_at dksX9_positionsNoted_0 5 rfl rfl)
theorem dX9_positionsNoted_6 : decode cX9_positionsNoted 6 = .ok (.invokevirtual 182, 3) := dk_182 0 182 (dk_at dksX9_positionsNoted_0 6 rfl rfl)
theorem dX9_positionsNoted_9 : decode cX9_positionsNoted 9 = .ok (.ireturn, 1) := dk_172 (dk_at dksX9_positionsNoted_0 9 rfl rfl)
abbrev cX9_unlike : ByteArray := prog_17_method_27_code
def yX9_unlike : MethodName := ⟨RX9, "unlike", "()I"⟩
def dkwX9_unlike_5 : List UInt8 := [167, 255, 142, 27, 172]
abbrev dktX9_unlike_5 : List UInt8 := dkwX9_unlike_5 ++ []
def dkwX9_unlike_4 : List UInt8 := [3, 62, 132, 4, 1, 167, 255, 177, 27, 29, 153, 0, 7, 4, 167, 0, 4, 3, 96, 60, 132, 2, 1]
abbrev dktX9_unlike_4 : List UInt8 := dkwX9_unlike_4 ++ dktX9_unlike_5
def dkwX9_unlike_3 : List UInt8 := [96, 46, 42, 180, 0, 7, 17, 0, 175, 5, 21, 4, 104, 96, 4, 96, 46, 159, 0, 7, 4, 167, 0, 4]
abbrev dktX9_unlike_3 : List UInt8 := dkwX9_unlike_3 ++ dktX9_unlike_4
def dkwX9_unlike_2 : List UInt8 := [17, 0, 175, 5, 21, 4, 104, 96, 46, 160, 0, 35, 42, 180, 0, 7, 17, 0, 175, 5, 28, 104, 96, 4]
abbrev dktX9_unlike_2 : List UInt8 := dkwX9_unlike_2 ++ dktX9_unlike_3
def dkwX9_unlike_1 : List UInt8 := [162, 0, 79, 29, 153, 0, 67, 42, 180, 0, 7, 17, 0, 175, 5, 28, 104, 96, 46, 42, 180, 0, 7]
abbrev dktX9_unlike_1 : List UInt8 := dkwX9_unlike_1 ++ dktX9_unlike_2
def dkwX9_unlike_0 : List UInt8 := [3, 60, 3, 61, 28, 42, 180, 0, 7, 17, 0, 174, 46, 162, 0, 108, 4, 62, 3, 54, 4, 21, 4, 28]
abbrev dktX9_unlike_0 : List UInt8 := dkwX9_unlike_0 ++ dktX9_unlike_1
theorem dksX9_unlike_0 : cX9_unlike.data.toList.drop 0 = dktX9_unlike_0 := by decide +kernel
theorem dksX9_unlike_1 : cX9_unlike.data.toList.drop 24 = dktX9_unlike_1 := dk_seg dksX9_unlike_0 24 rfl rfl
theorem dksX9_unlike_2 : cX9_unlike.data.toList.drop 47 = dktX9_unlike_2 := dk_seg dksX9_unlike_1 23 rfl rfl
theorem dksX9_unlike_3 : cX9_unlike.data.toList.drop 71 = dktX9_unlike_3 := dk_seg dksX9_unlike_2 24 rfl rfl
theorem dksX9_unlike_4 : cX9_unlike.data.toList.drop 95 = dktX9_unlike_4 := dk_seg dksX9_unlike_3 24 rfl rfl
theorem dksX9_unlike_5 : cX9_unlike.data.toList.drop 118 = dktX9_unlike_5 := dk_seg dksX9_unlike_4 23 rfl rfl
theorem dX9_unlike_0 : decode cX9_unlike 0 = .ok (.iconst 0, 1) := dk_3 (dk_at dksX9_unlike_0 0 rfl rfl)
theorem dX9_unlike_1 : decode cX9_unlike 1 = .ok (.istore_n 1, 1) := dk_60 (dk_at dksX9_unlike_0 1 rfl rfl)
theorem dX9_unlike_2 : decode cX9_unlike 2 = .ok (.iconst 0, 1) := dk_3 (dk_at dksX9_unlike_0 2 rfl rfl)
theorem dX9_unlike_3 : decode cX9_unlike 3 = .ok (.istore_n 2, 1) := dk_61 (dk_at dksX9_unlike_0 3 rfl rfl)
theorem dX9_unlike_4 : decode cX9_unlike 4 = .ok (.iload_n 2, 1) := dk_28 (dk_at dksX9_unlike_0 4 rfl rfl)
theorem dX9_unlike_5 : decode cX9_unlike 5 = .ok (.aload_n 0, 1) := dk_42 (dk_at dksX9_unlike_0 5 rfl rfl)
theorem dX9_unlike_6 : decode cX9_unlike 6 = .ok (.getfield 7, 3) := dk_180 0 7 (dk_at dksX9_unlike_0 6 rfl rfl)
theorem dX9_unlike_9 : decode cX9_unlike 9 = .ok (.sipush 174, 3) := dk_17 0 174 (dk_at dksX9_unlike_0 9 rfl rfl)
theorem dX9_unlike_12 : decode cX9_unlike 12 = .ok (.iaload, 1) := dk_46 (dk_at dksX9_unlike_0 12 rfl rfl)
theorem dX9_unlike_13 : decode cX9_unlike 13 = .ok (.if_icmp .ge 108, 3) := dk_162 0 108 (dk_at dksX9_unlike_0 13 rfl rfl)
theorem dX9_unlike_16 : decode cX9_unlike 16 = .ok (.iconst 1, 1) := dk_4 (dk_at dksX9_unlike_0 16 rfl rfl)
theorem dX9_unlike_17 : decode cX9_unlike 17 = .ok (.istore_n 3, 1) := dk_62 (dk_at dksX9_unlike_0 17 rfl rfl)
theorem dX9_unlike_18 : decode cX9_unlike 18 = .ok (.iconst 0, 1) := dk_3 (dk_at dksX9_unlike_0 18 rfl rfl)
theorem dX9_unlike_19 : decode cX9_unlike 19 = .ok (.istore 4, 2) := dk_54 4 (dk_at dksX9_unlike_0 19 rfl rfl)
theorem dX9_unlike_21 : decode cX9_unlike 21 = .ok (.iload 4, 2) := dk_21 4 (dk_at dksX9_unlike_0 21 rfl rfl)
theorem dX9_unlike_23 : decode cX9_unlike 23 = .ok (.iload_n 2, 1) := dk_28 (dk_at dksX9_unlike_0 23 rfl rfl)
theorem dX9_unlike_24 : decode cX9_unlike 24 = .ok (.if_icmp .ge 79, 3) := dk_162 0 79 (dk_at dksX9_unlike_1 0 rfl rfl)
theorem dX9_unlike_27 : decode cX9_unlike 27 = .ok (.iload_n 3, 1) := dk_29 (dk_at dksX9_unlike_1 3 rfl rfl)
theorem dX9_unlike_28 : decode cX9_unlike 28 = .ok (.ifCond .eq 67, 3) := dk_153 0 67 (dk_at dksX9_unlike_1 4 rfl rfl)
theorem dX9_unlike_31 : decode cX9_unlike 31 = .ok (.aload_n 0, 1) := dk_42 (dk_at dksX9_unlike_1 7 rfl rfl)
theorem dX9_unlike_32 : decode cX9_unlike 32 = .ok (.getfield 7, 3) := dk_180 0 7 (dk_at dksX9_unlike_1 8 rfl rfl)
theorem dX9_unlike_35 : decode cX9_unlike 35 = .ok (.sipush 175, 3) := dk_17 0 175 (dk_at dksX9_unlike_1 11 rfl rfl)
theorem dX9_unlike_38 : decode cX9_unlike 38 = .ok (.iconst 2, 1) := dk_5 (dk_at dksX9_unlike_1 14 rfl rfl)
theorem dX9_unlike_39 : decode cX9_unlike 39 = .ok (.iload_n 2, 1) := dk_28 (dk_at dksX9_unlike_1 15 rfl rfl)
theorem dX9_unlike_40 : decode cX9_unlike 40 = .ok (.imul, 1) := dk_104 (dk_at dksX9_unlike_1 16 rfl rfl)
theorem dX9_unlike_41 : decode cX9_unlike 41 = .ok (.iadd, 1) := dk_96 (dk_at dksX9_unlike_1 17 rfl rfl)
theorem dX9_unlike_42 : decode cX9_unlike 42 = .ok (.iaload, 1) := dk_46 (dk_at dksX9_unlike_1 18 rfl rfl)
theorem dX9_unlike_43 : decode cX9_unlike 43 = .ok (.aload_n 0, 1) := dk_42 (dk_at dksX9_unlike_1 19 rfl rfl)
theorem dX9_unlike_44 : decode cX9_unlike 44 = .ok (.getfield 7, 3) := dk_180 0 7 (dk_at dksX9_unlike_1 20 rfl rfl)
theorem dX9_unlike_47 : decode cX9_unlike 47 = .ok (.sipush 175, 3) := dk_17 0 175 (dk_at dksX9_unlike_2 0 rfl rfl)
theorem dX9_unlike_50 : decode cX9_unlike 50 = .ok (.iconst 2, 1) := dk_5 (dk_at dksX9_unlike_2 3 rfl rfl)
theorem dX9_unlike_51 : decode cX9_unlike 51 = .ok (.iload 4, 2) := dk_21 4 (dk_at dksX9_unlike_2 4 rfl rfl)
theorem dX9_unlike_53 : decode cX9_unlike 53 = .ok (.imul, 1) := dk_104 (dk_at dksX9_unlike_2 6 rfl rfl)
theorem dX9_unlike_54 : decode cX9_unlike 54 = .ok (.iadd, 1) := dk_96 (dk_at dksX9_unlike_2 7 rfl rfl)
theorem dX9_unlike_55 : decode cX9_unlike 55 = .ok (.iaload, 1) := dk_46 (dk_at dksX9_unlike_2 8 rfl rfl)
theorem dX9_unlike_56 : decode cX9_unlike 56 = .ok (.if_icmp .ne 35, 3) := dk_160 0 35 (dk_at dksX9_unlike_2 9 rfl rfl)
theorem dX9_unlike_59 : decode cX9_unlike 59 = .ok (.aload_n 0, 1) := dk_42 (dk_at dksX9_unlike_2 12 rfl rfl)
theorem dX9_unlike_60 : decode cX9_unlike 60 = .ok (.getfield 7, 3) := dk_180 0 7 (dk_at dksX9_unlike_2 13 rfl rfl)
theorem dX9_unlike_63 : decode cX9_unlike 63 = .ok (.sipush 175, 3) := dk_17 0 175 (dk_at dksX9_unlike_2 16 rfl rfl)
theorem dX9_unlike_66 : decode cX9_unlike 66 = .ok (.iconst 2, 1) := dk_5 (dk_at dksX9_unlike_2 19 rfl rfl)
theorem dX9_unlike_67 : decode cX9_unlike 67 = .ok (.iload_n 2, 1) := dk_28 (dk_at dksX9_unlike_2 20 rfl rfl)
theorem dX9_unlike_68 : decode cX9_unlike 68 = .ok (.imul, 1) := dk_104 (dk_at dksX9_unlike_2 21 rfl rfl)
theorem dX9_unlike_69 : decode cX9_unlike 69 = .ok (.iadd, 1) := dk_96 (dk_at dksX9_unlike_2 22 rfl rfl)
theorem dX9_unlike_70 : decode cX9_unlike 70 = .ok (.iconst 1, 1) := dk_4 (dk_at dksX9_unlike_2 23 rfl rfl)
theorem dX9_unlike_71 : decode cX9_unlike 71 = .ok (.iadd, 1) := dk_96 (dk_at dksX9_unlike_3 0 rfl rfl)
theorem dX9_unlike_72 : decode cX9_unlike 72 = .ok (.iaload, 1) := dk_46 (dk_at dksX9_unlike_3 1 rfl rfl)
theorem dX9_unlike_73 : decode cX9_unlike 73 = .ok (.aload_n 0, 1) := dk_42 (dk_at dksX9_unlike_3 2 rfl rfl)
theorem dX9_unlike_74 : decode cX9_unlike 74 = .ok (.getfield 7, 3) := dk_180 0 7 (dk_at dksX9_unlike_3 3 rfl rfl)
theorem dX9_unlike_77 : decode cX9_unlike 77 = .ok (.sipush 175, 3) := dk_17 0 175 (dk_at dksX9_unlike_3 6 rfl rfl)
theorem dX9_unlike_80 : decode cX9_unlike 80 = .ok (.iconst 2, 1) := dk_5 (dk_at dksX9_unlike_3 9 rfl rfl)
theorem dX9_unlike_81 : decode cX9_unlike 81 = .ok (.iload 4, 2) := dk_21 4 (dk_at dksX9_unlike_3 10 rfl rfl)
theorem dX9_unlike_83 : decode cX9_unlike 83 = .ok (.imul, 1) := dk_104 (dk_at dksX9_unlike_3 12 rfl rfl)
theorem dX9_unlike_84 : decode cX9_unlike 84 = .ok (.iadd, 1) := dk_96 (dk_at dksX9_unlike_3 13 rfl rfl)
theorem dX9_unlike_85 : decode cX9_unlike 85 = .ok (.iconst 1, 1) := dk_4 (dk_at dksX9_unlike_3 14 rfl rfl)
theorem dX9_unlike_86 : decode cX9_unlike 86 = .ok (.iadd, 1) := dk_96 (dk_at dksX9_unlike_3 15 rfl rfl)
theorem dX9_unlike_87 : decode cX9_unlike 87 = .ok (.iaload, 1) := dk_46 (dk_at dksX9_unlike_3 16 rfl rfl)
theorem dX9_unlike_88 : decode cX9_unlike 88 = .ok (.if_icmp .eq 7, 3) := dk_159 0 7 (dk_at dksX9_unlike_3 17 rfl rfl)
theorem dX9_unlike_91 : decode cX9_unlike 91 = .ok (.iconst 1, 1) := dk_4 (dk_at dksX9_unlike_3 20 rfl rfl)
theorem dX9_unlike_92 : decode cX9_unlike 92 = .ok (.goto 4, 3) := dk_167 0 4 (dk_at dksX9_unlike_3 21 rfl rfl)
theorem dX9_unlike_95 : decode cX9_unlike 95 = .ok (.iconst 0, 1) := dk_3 (dk_at dksX9_unlike_4 0 rfl rfl)
theorem dX9_unlike_96 : decode cX9_unlike 96 = .ok (.istore_n 3, 1) := dk_62 (dk_at dksX9_unlike_4 1 rfl rfl)
theorem dX9_unlike_97 : decode cX9_unlike 97 = .ok (.iinc 4 1, 3) := dk_132 4 1 (dk_at dksX9_unlike_4 2 rfl rfl)
theorem dX9_unlike_100 : decode cX9_unlike 100 = .ok (.goto (-79), 3) := dk_167 255 177 (dk_at dksX9_unlike_4 5 rfl rfl)
theorem dX9_unlike_103 : decode cX9_unlike 103 = .ok (.iload_n 1, 1) := dk_27 (dk_at dksX9_unlike_4 8 rfl rfl)
theorem dX9_unlike_104 : decode cX9_unlike 104 = .ok (.iload_n 3, 1) := dk_29 (dk_at dksX9_unlike_4 9 rfl rfl)
theorem dX9_unlike_105 : decode cX9_unlike 105 = .ok (.ifCond .eq 7, 3) := dk_153 0 7 (dk_at dksX9_unlike_4 10 rfl rfl)
theorem dX9_unlike_108 : decode cX9_unlike 108 = .ok (.iconst 1, 1) := dk_4 (dk_at dksX9_unlike_4 13 rfl rfl)
theorem dX9_unlike_109 : decode cX9_unlike 109 = .ok (.goto 4, 3) := dk_167 0 4 (dk_at dksX9_unlike_4 14 rfl rfl)
theorem dX9_unlike_112 : decode cX9_unlike 112 = .ok (.iconst 0, 1) := dk_3 (dk_at dksX9_unlike_4 17 rfl rfl)
theorem dX9_unlike_113 : decode cX9_unlike 113 = .ok (.iadd, 1) := dk_96 (dk_at dksX9_unlike_4 18 rfl rfl)
theorem dX9_unlike_114 : decode cX9_unlike 114 = .ok (.istore_n 1, 1) := dk_60 (dk_at dksX9_unlike_4 19 rfl rfl)
theorem dX9_unlike_115 : decode cX9_unlike 115 = .ok (.iinc 2 1, 3) := dk_132 2 1 (dk_at dksX9_unlike_4 20 rfl rfl)
theorem dX9_unlike_118 : decode cX9_unlike 118 = .ok (.goto (-114), 3) := dk_167 255 142 (dk_at dksX9_unlike_5 0 rfl rfl)
theorem dX9_unlike_121 : decode cX9_unlike 121 = .ok (.iload_n 1, 1) := dk_27 (dk_at dksX9_unlike_5 3 rfl rfl)
theorem dX9_unlike_122 : decode cX9_unlike 122 = .ok (.ireturn, 1) := dk_172 (dk_at dksX9_unlike_5 4 rfl rfl)
abbrev cX9_whyOver : ByteArray := prog_17_method_86_code
def yX9_whyOver : MethodName := ⟨RX9, "whyOver", "()I"⟩
def dkwX9_whyOver_0 : List UInt8 := [42, 3, 181, 0, 38, 42, 182, 0, 74, 172]
abbrev dktX9_whyOver_0 : List UInt8 := dkwX9_whyOver_0 ++ []
theorem dksX9_whyOver_0 : cX9_whyOver.data.toList.drop 0 = dktX9_whyOver_0 := by decide +kernel
theorem dX9_whyOver_0 : decode cX9_whyOver 0 = .ok (.aload_n 0, 1) := dk_42 (dk_at dksX9_whyOver_0 0 rfl rfl)
theorem dX9_whyOver_1 : decode cX9_whyOver 1 = .ok (.iconst 0, 1) := dk_3 (dk_at dksX9_whyOver_0 1 rfl rfl)
theorem dX9_whyOver_2 : decode cX9_whyOver 2 = .ok (.putfield 38, 3) := dk_181 0 38 (dk_at dksX9_whyOver_0 2 rfl rfl)
theorem dX9_whyOver_5 : decode cX9_whyOver 5 = .ok (.aload_n 0, 1) := dk_42 (dk_at dksX9_whyOver_0 5 rfl rfl)
theorem dX9_whyOver_6 : decode cX9_whyOver 6 = .ok (.invokevirtual 74, 3) := dk_182 0 74 (dk_at dksX9_whyOver_0 6 rfl rfl)
theorem dX9_whyOver_9 : decode cX9_whyOver 9 = .ok (.ireturn, 1) := dk_172 (dk_at dksX9_whyOver_0 9 rfl rfl)
abbrev cX9_reach : ByteArray := prog_17_method_89_code
def yX9_reach : MethodName := ⟨RX9, "reach", "(I)I"⟩
def dkwX9_reach_1 : List UInt8 := [182, 0, 122, 172]
abbrev dktX9_reach_1 : List UInt8 := dkwX9_reach_1 ++ []
def dkwX9_reach_0 : List UInt8 := [42, 3, 181, 0, 38, 27, 184, 0, 134, 153, 0, 11, 42, 27, 182, 0, 189, 167, 0, 8, 42, 4]
abbrev dktX9_reach_0 : List UInt8 := dkwX9_reach_0 ++ dktX9_reach_1
theorem dksX9_reach_0 : cX9_reach.data.toList.drop 0 = dktX9_reach_0 := by decide +kernel
theorem dksX9_reach_1 : cX9_reach.data.toList.drop 22 = dktX9_reach_1 := dk_seg dksX9_reach_0 22 rfl rfl
theorem dX9_reach_0 : decode cX9_reach 0 = .ok (.aload_n 0, 1) := dk_42 (dk_at dksX9_reach_0 0 rfl rfl)
theorem dX9_reach_1 : decode cX9_reach 1 = .ok (.iconst 0, 1) := dk_3 (dk_at dksX9_reach_0 1 rfl rfl)
theorem dX9_reach_2 : decode cX9_reach 2 = .ok (.putfield 38, 3) := dk_181 0 38 (dk_at dksX9_reach_0 2 rfl rfl)
theorem dX9_reach_5 : decode cX9_reach 5 = .ok (.iload_n 1, 1) := dk_27 (dk_at dksX9_reach_0 5 rfl rfl)
theorem dX9_reach_6 : decode cX9_reach 6 = .ok (.invokestatic 134, 3) := dk_184 0 134 (dk_at dksX9_reach_0 6 rfl rfl)
theorem dX9_reach_9 : decode cX9_reach 9 = .ok (.ifCond .eq 11, 3) := dk_153 0 11 (dk_at dksX9_reach_0 9 rfl rfl)
theorem dX9_reach_12 : decode cX9_reach 12 = .ok (.aload_n 0, 1) := dk_42 (dk_at dksX9_reach_0 12 rfl rfl)
theorem dX9_reach_13 : decode cX9_reach 13 = .ok (.iload_n 1, 1) := dk_27 (dk_at dksX9_reach_0 13 rfl rfl)
theorem dX9_reach_14 : decode cX9_reach 14 = .ok (.invokevirtual 189, 3) := dk_182 0 189 (dk_at dksX9_reach_0 14 rfl rfl)
theorem dX9_reach_17 : decode cX9_reach 17 = .ok (.goto 8, 3) := dk_167 0 8 (dk_at dksX9_reach_0 17 rfl rfl)
theorem dX9_reach_20 : decode cX9_reach 20 = .ok (.aload_n 0, 1) := dk_42 (dk_at dksX9_reach_0 20 rfl rfl)
theorem dX9_reach_21 : decode cX9_reach 21 = .ok (.iconst 1, 1) := dk_4 (dk_at dksX9_reach_0 21 rfl rfl)
theorem dX9_reach_22 : decode cX9_reach 22 = .ok (.invokevirtual 122, 3) := dk_182 0 122 (dk_at dksX9_reach_1 0 rfl rfl)
theorem dX9_reach_25 : decode cX9_reach 25 = .ok (.ireturn, 1) := dk_172 (dk_at dksX9_reach_1 3 rfl rfl)
abbrev cX9_reached : ByteArray := prog_17_method_88_code
def yX9_reached : MethodName := ⟨RX9, "reached", "(I)I"⟩
def dkwX9_reached_2 : List UInt8 := [28, 172]
abbrev dktX9_reached_2 : List UInt8 := dkwX9_reached_2 ++ []
def dkwX9_reached_1 : List UInt8 := [180, 0, 28, 29, 46, 2, 160, 0, 7, 3, 167, 0, 6, 4, 29, 120, 128, 61, 132, 3, 1, 167, 255, 227]
abbrev dktX9_reached_1 : List UInt8 := dkwX9_reached_1 ++ dktX9_reached_2
def dkwX9_reached_0 : List UInt8 := [42, 27, 42, 27, 3, 182, 0, 53, 182, 0, 185, 3, 61, 3, 62, 29, 16, 10, 162, 0, 29, 28, 42]
abbrev dktX9_reached_0 : List UInt8 := dkwX9_reached_0 ++ dktX9_reached_1
theorem dksX9_reached_0 : cX9_reached.data.toList.drop 0 = dktX9_reached_0 := by decide +kernel
theorem dksX9_reached_1 : cX9_reached.data.toList.drop 23 = dktX9_reached_1 := dk_seg dksX9_reached_0 23 rfl rfl
theorem dksX9_reached_2 : cX9_reached.data.toList.drop 47 = dktX9_reached_2 := dk_seg dksX9_reached_1 24 rfl rfl
theorem dX9_reached_0 : decode cX9_reached 0 = .ok (.aload_n 0, 1) := dk_42 (dk_at dksX9_reached_0 0 rfl rfl)
theorem dX9_reached_1 : decode cX9_reached 1 = .ok (.iload_n 1, 1) := dk_27 (dk_at dksX9_reached_0 1 rfl rfl)
theorem dX9_reached_2 : decode cX9_reached 2 = .ok (.aload_n 0, 1) := dk_42 (dk_at dksX9_reached_0 2 rfl rfl)
theorem dX9_reached_3 : decode cX9_reached 3 = .ok (.iload_n 1, 1) := dk_27 (dk_at dksX9_reached_0 3 rfl rfl)
theorem dX9_reached_4 : decode cX9_reached 4 = .ok (.iconst 0, 1) := dk_3 (dk_at dksX9_reached_0 4 rfl rfl)
theorem dX9_reached_5 : decode cX9_reached 5 = .ok (.invokevirtual 53, 3) := dk_182 0 53 (dk_at dksX9_reached_0 5 rfl rfl)
theorem dX9_reached_8 : decode cX9_reached 8 = .ok (.invokevirtual 185, 3) := dk_182 0 185 (dk_at dksX9_reached_0 8 rfl rfl)
theorem dX9_reached_11 : decode cX9_reached 11 = .ok (.iconst 0, 1) := dk_3 (dk_at dksX9_reached_0 11 rfl rfl)
theorem dX9_reached_12 : decode cX9_reached 12 = .ok (.istore_n 2, 1) := dk_61 (dk_at dksX9_reached_0 12 rfl rfl)
theorem dX9_reached_13 : decode cX9_reached 13 = .ok (.iconst 0, 1) := dk_3 (dk_at dksX9_reached_0 13 rfl rfl)
theorem dX9_reached_14 : decode cX9_reached 14 = .ok (.istore_n 3, 1) := dk_62 (dk_at dksX9_reached_0 14 rfl rfl)
theorem dX9_reached_15 : decode cX9_reached 15 = .ok (.iload_n 3, 1) := dk_29 (dk_at dksX9_reached_0 15 rfl rfl)
theorem dX9_reached_16 : decode cX9_reached 16 = .ok (.bipush 10, 2) := dk_16 10 (dk_at dksX9_reached_0 16 rfl rfl)
theorem dX9_reached_18 : decode cX9_reached 18 = .ok (.if_icmp .ge 29, 3) := dk_162 0 29 (dk_at dksX9_reached_0 18 rfl rfl)
theorem dX9_reached_21 : decode cX9_reached 21 = .ok (.iload_n 2, 1) := dk_28 (dk_at dksX9_reached_0 21 rfl rfl)
theorem dX9_reached_22 : decode cX9_reached 22 = .ok (.aload_n 0, 1) := dk_42 (dk_at dksX9_reached_0 22 rfl rfl)
theorem dX9_reached_23 : decode cX9_reached 23 = .ok (.getfield 28, 3) := dk_180 0 28 (dk_at dksX9_reached_1 0 rfl rfl)
theorem dX9_reached_26 : decode cX9_reached 26 = .ok (.iload_n 3, 1) := dk_29 (dk_at dksX9_reached_1 3 rfl rfl)
theorem dX9_reached_27 : decode cX9_reached 27 = .ok (.iaload, 1) := dk_46 (dk_at dksX9_reached_1 4 rfl rfl)
theorem dX9_reached_28 : decode cX9_reached 28 = .ok (.iconst (-1), 1) := dk_2 (dk_at dksX9_reached_1 5 rfl rfl)
theorem dX9_reached_29 : decode cX9_reached 29 = .ok (.if_icmp .ne 7, 3) := dk_160 0 7 (dk_at dksX9_reached_1 6 rfl rfl)
theorem dX9_reached_32 : decode cX9_reached 32 = .ok (.iconst 0, 1) := dk_3 (dk_at dksX9_reached_1 9 rfl rfl)
theorem dX9_reached_33 : decode cX9_reached 33 = .ok (.goto 6, 3) := dk_167 0 6 (dk_at dksX9_reached_1 10 rfl rfl)
theorem dX9_reached_36 : decode cX9_reached 36 = .ok (.iconst 1, 1) := dk_4 (dk_at dksX9_reached_1 13 rfl rfl)
theorem dX9_reached_37 : decode cX9_reached 37 = .ok (.iload_n 3, 1) := dk_29 (dk_at dksX9_reached_1 14 rfl rfl)
theorem dX9_reached_38 : decode cX9_reached 38 = .ok (.ishl, 1) := dk_120 (dk_at dksX9_reached_1 15 rfl rfl)
theorem dX9_reached_39 : decode cX9_reached 39 = .ok (.ior, 1) := dk_128 (dk_at dksX9_reached_1 16 rfl rfl)
theorem dX9_reached_40 : decode cX9_reached 40 = .ok (.istore_n 2, 1) := dk_61 (dk_at dksX9_reached_1 17 rfl rfl)
theorem dX9_reached_41 : decode cX9_reached 41 = .ok (.iinc 3 1, 3) := dk_132 3 1 (dk_at dksX9_reached_1 18 rfl rfl)
theorem dX9_reached_44 : decode cX9_reached 44 = .ok (.goto (-29), 3) := dk_167 255 227 (dk_at dksX9_reached_1 21 rfl rfl)
theorem dX9_reached_47 : decode cX9_reached 47 = .ok (.iload_n 2, 1) := dk_28 (dk_at dksX9_reached_2 0 rfl rfl)
theorem dX9_reached_48 : decode cX9_reached 48 = .ok (.ireturn, 1) := dk_172 (dk_at dksX9_reached_2 1 rfl rfl)
abbrev cX9_spreads : ByteArray := prog_17_method_87_code
def yX9_spreads : MethodName := ⟨RX9, "spreads", "(II)V"⟩
def dkwX9_spreads_6 : List UInt8 := [132, 3, 1, 167, 255, 143, 177]
abbrev dktX9_spreads_6 : List UInt8 := dkwX9_spreads_6 ++ []
def dkwX9_spreads_5 : List UInt8 := [160, 0, 17, 42, 180, 0, 28, 42, 21, 4, 182, 0, 91, 29, 4, 96, 79, 132, 4, 1, 167, 255, 158]
abbrev dktX9_spreads_5 : List UInt8 := dkwX9_spreads_5 ++ dktX9_spreads_6
def dkwX9_spreads_4 : List UInt8 := [42, 21, 4, 182, 0, 77, 46, 29, 160, 0, 32, 42, 180, 0, 28, 42, 21, 4, 182, 0, 91, 46, 2]
abbrev dktX9_spreads_4 : List UInt8 := dkwX9_spreads_4 ++ dktX9_spreads_5
def dkwX9_spreads_3 : List UInt8 := [4, 182, 0, 53, 4, 159, 0, 7, 4, 167, 0, 4, 3, 54, 5, 21, 5, 153, 0, 47, 42, 180, 0, 28]
abbrev dktX9_spreads_3 : List UInt8 := dkwX9_spreads_3 ++ dktX9_spreads_4
def dkwX9_spreads_2 : List UInt8 := [46, 162, 0, 93, 42, 21, 4, 182, 0, 80, 153, 0, 26, 42, 21, 4, 182, 0, 84, 153, 0, 13, 42, 27]
abbrev dktX9_spreads_2 : List UInt8 := dkwX9_spreads_2 ++ dktX9_spreads_3
def dkwX9_spreads_1 : List UInt8 := [132, 3, 1, 167, 255, 231, 3, 62, 29, 16, 10, 162, 0, 113, 3, 54, 4, 21, 4, 42, 180, 0, 7, 3]
abbrev dktX9_spreads_1 : List UInt8 := dkwX9_spreads_1 ++ dktX9_spreads_2
def dkwX9_spreads_0 : List UInt8 := [3, 62, 29, 16, 10, 162, 0, 25, 42, 180, 0, 28, 29, 29, 28, 160, 0, 7, 3, 167, 0, 4, 2, 79]
abbrev dktX9_spreads_0 : List UInt8 := dkwX9_spreads_0 ++ dktX9_spreads_1
theorem dksX9_spreads_0 : cX9_spreads.data.toList.drop 0 = dktX9_spreads_0 := by decide +kernel
theorem dksX9_spreads_1 : cX9_spreads.data.toList.drop 24 = dktX9_spreads_1 := dk_seg dksX9_spreads_0 24 rfl rfl
theorem dksX9_spreads_2 : cX9_spreads.data.toList.drop 48 = dktX9_spreads_2 := dk_seg dksX9_spreads_1 24 rfl rfl
theorem dksX9_spreads_3 : cX9_spreads.data.toList.drop 72 = dktX9_spreads_3 := dk_seg dksX9_spreads_2 24 rfl rfl
theorem dksX9_spreads_4 : cX9_spreads.data.toList.drop 96 = dktX9_spreads_4 := dk_seg dksX9_spreads_3 24 rfl rfl
theorem dksX9_spreads_5 : cX9_spreads.data.toList.drop 119 = dktX9_spreads_5 := dk_seg dksX9_spreads_4 23 rfl rfl
theorem dksX9_spreads_6 : cX9_spreads.data.toList.drop 142 = dktX9_spreads_6 := dk_seg dksX9_spreads_5 23 rfl rfl
theorem dX9_spreads_0 : decode cX9_spreads 0 = .ok (.iconst 0, 1) := dk_3 (dk_at dksX9_spreads_0 0 rfl rfl)
theorem dX9_spreads_1 : decode cX9_spreads 1 = .ok (.istore_n 3, 1) := dk_62 (dk_at dksX9_spreads_0 1 rfl rfl)
theorem dX9_spreads_2 : decode cX9_spreads 2 = .ok (.iload_n 3, 1) := dk_29 (dk_at dksX9_spreads_0 2 rfl rfl)
theorem dX9_spreads_3 : decode cX9_spreads 3 = .ok (.bipush 10, 2) := dk_16 10 (dk_at dksX9_spreads_0 3 rfl rfl)
theorem dX9_spreads_5 : decode cX9_spreads 5 = .ok (.if_icmp .ge 25, 3) := dk_162 0 25 (dk_at dksX9_spreads_0 5 rfl rfl)
theorem dX9_spreads_8 : decode cX9_spreads 8 = .ok (.aload_n 0, 1) := dk_42 (dk_at dksX9_spreads_0 8 rfl rfl)
theorem dX9_spreads_9 : decode cX9_spreads 9 = .ok (.getfield 28, 3) := dk_180 0 28 (dk_at dksX9_spreads_0 9 rfl rfl)
theorem dX9_spreads_12 : decode cX9_spreads 12 = .ok (.iload_n 3, 1) := dk_29 (dk_at dksX9_spreads_0 12 rfl rfl)
theorem dX9_spreads_13 : decode cX9_spreads 13 = .ok (.iload_n 3, 1) := dk_29 (dk_at dksX9_spreads_0 13 rfl rfl)
theorem dX9_spreads_14 : decode cX9_spreads 14 = .ok (.iload_n 2, 1) := dk_28 (dk_at dksX9_spreads_0 14 rfl rfl)
theorem dX9_spreads_15 : decode cX9_spreads 15 = .ok (.if_icmp .ne 7, 3) := dk_160 0 7 (dk_at dksX9_spreads_0 15 rfl rfl)
theorem dX9_spreads_18 : decode cX9_spreads 18 = .ok (.iconst 0, 1) := dk_3 (dk_at dksX9_spreads_0 18 rfl rfl)
theorem dX9_spreads_19 : decode cX9_spreads 19 = .ok (.goto 4, 3) := dk_167 0 4 (dk_at dksX9_spreads_0 19 rfl rfl)
theorem dX9_spreads_22 : decode cX9_spreads 22 = .ok (.iconst (-1), 1) := dk_2 (dk_at dksX9_spreads_0 22 rfl rfl)
theorem dX9_spreads_23 : decode cX9_spreads 23 = .ok (.iastore, 1) := dk_79 (dk_at dksX9_spreads_0 23 rfl rfl)
theorem dX9_spreads_24 : decode cX9_spreads 24 = .ok (.iinc 3 1, 3) := dk_132 3 1 (dk_at dksX9_spreads_1 0 rfl rfl)
theorem dX9_spreads_27 : decode cX9_spreads 27 = .ok (.goto (-25), 3) := dk_167 255 231 (dk_at dksX9_spreads_1 3 rfl rfl)
theorem dX9_spreads_30 : decode cX9_spreads 30 = .ok (.iconst 0, 1) := dk_3 (dk_at dksX9_spreads_1 6 rfl rfl)
theorem dX9_spreads_31 : decode cX9_spreads 31 = .ok (.istore_n 3, 1) := dk_62 (dk_at dksX9_spreads_1 7 rfl rfl)
theorem dX9_spreads_32 : decode cX9_spreads 32 = .ok (.iload_n 3, 1) := dk_29 (dk_at dksX9_spreads_1 8 rfl rfl)
theorem dX9_spreads_33 : decode cX9_spreads 33 = .ok (.bipush 10, 2) := dk_16 10 (dk_at dksX9_spreads_1 9 rfl rfl)
theorem dX9_spreads_35 : decode cX9_spreads 35 = .ok (.if_icmp .ge 113, 3) := dk_162 0 113 (dk_at dksX9_spreads_1 11 rfl rfl)
theorem dX9_spreads_38 : decode cX9_spreads 38 = .ok (.iconst 0, 1) := dk_3 (dk_at dksX9_spreads_1 14 rfl rfl)
theorem dX9_spreads_39 : decode cX9_spreads 39 = .ok (.istore 4, 2) := dk_54 4 (dk_at dksX9_spreads_1 15 rfl rfl)
theorem dX9_spreads_41 : decode cX9_spreads 41 = .ok (.iload 4, 2) := dk_21 4 (dk_at dksX9_spreads_1 17 rfl rfl)
theorem dX9_spreads_43 : decode cX9_spreads 43 = .ok (.aload_n 0, 1) := dk_42 (dk_at dksX9_spreads_1 19 rfl rfl)
theorem dX9_spreads_44 : decode cX9_spreads 44 = .ok (.getfield 7, 3) := dk_180 0 7 (dk_at dksX9_spreads_1 20 rfl rfl)
theorem dX9_spreads_47 : decode cX9_spreads 47 = .ok (.iconst 0, 1) := dk_3 (dk_at dksX9_spreads_1 23 rfl rfl)
theorem dX9_spreads_48 : decode cX9_spreads 48 = .ok (.iaload, 1) := dk_46 (dk_at dksX9_spreads_2 0 rfl rfl)
theorem dX9_spreads_49 : decode cX9_spreads 49 = .ok (.if_icmp .ge 93, 3) := dk_162 0 93 (dk_at dksX9_spreads_2 1 rfl rfl)
theorem dX9_spreads_52 : decode cX9_spreads 52 = .ok (.aload_n 0, 1) := dk_42 (dk_at dksX9_spreads_2 4 rfl rfl)
theorem dX9_spreads_53 : decode cX9_spreads 53 = .ok (.iload 4, 2) := dk_21 4 (dk_at dksX9_spreads_2 5 rfl rfl)
theorem dX9_spreads_55 : decode cX9_spreads 55 = .ok (.invokevirtual 80, 3) := dk_182 0 80 (dk_at dksX9_spreads_2 7 rfl rfl)
theorem dX9_spreads_58 : decode cX9_spreads 58 = .ok (.ifCond .eq 26, 3) := dk_153 0 26 (dk_at dksX9_spreads_2 10 rfl rfl)
theorem dX9_spreads_61 : decode cX9_spreads 61 = .ok (.aload_n 0, 1) := dk_42 (dk_at dksX9_spreads_2 13 rfl rfl)
theorem dX9_spreads_62 : decode cX9_spreads 62 = .ok (.iload 4, 2) := dk_21 4 (dk_at dksX9_spreads_2 14 rfl rfl)
theorem dX9_spreads_64 : decode cX9_spreads 64 = .ok (.invokevirtual 84, 3) := dk_182 0 84 (dk_at dksX9_spreads_2 16 rfl rfl)
theorem dX9_spreads_67 : decode cX9_spreads 67 = .ok (.ifCond .eq 13, 3) := dk_153 0 13 (dk_at dksX9_spreads_2 19 rfl rfl)
theorem dX9_spreads_70 : decode cX9_spreads 70 = .ok (.aload_n 0, 1) := dk_42 (dk_at dksX9_spreads_2 22 rfl rfl)
theorem dX9_spreads_71 : decode cX9_spreads 71 = .ok (.iload_n 1, 1) := dk_27 (dk_at dksX9_spreads_2 23 rfl rfl)
theorem dX9_spreads_72 : decode cX9_spreads 72 = .ok (.iconst 1, 1) := dk_4 (dk_at dksX9_spreads_3 0 rfl rfl)
theorem dX9_spreads_73 : decode cX9_spreads 73 = .ok (.invokevirtual 53, 3) := dk_182 0 53 (dk_at dksX9_spreads_3 1 rfl rfl)
theorem dX9_spreads_76 : decode cX9_spreads 76 = .ok (.iconst 1, 1) := dk_4 (dk_at dksX9_spreads_3 4 rfl rfl)
theorem dX9_spreads_77 : decode cX9_spreads 77 = .ok (.if_icmp .eq 7, 3) := dk_159 0 7 (dk_at dksX9_spreads_3 5 rfl rfl)
theorem dX9_spreads_80 : decode cX9_spreads 80 = .ok (.iconst 1, 1) := dk_4 (dk_at dksX9_spreads_3 8 rfl rfl)
theorem dX9_spreads_81 : decode cX9_spreads 81 = .ok (.goto 4, 3) := dk_167 0 4 (dk_at dksX9_spreads_3 9 rfl rfl)
theorem dX9_spreads_84 : decode cX9_spreads 84 = .ok (.iconst 0, 1) := dk_3 (dk_at dksX9_spreads_3 12 rfl rfl)
theorem dX9_spreads_85 : decode cX9_spreads 85 = .ok (.istore 5, 2) := dk_54 5 (dk_at dksX9_spreads_3 13 rfl rfl)
theorem dX9_spreads_87 : decode cX9_spreads 87 = .ok (.iload 5, 2) := dk_21 5 (dk_at dksX9_spreads_3 15 rfl rfl)
theorem dX9_spreads_89 : decode cX9_spreads 89 = .ok (.ifCond .eq 47, 3) := dk_153 0 47 (dk_at dksX9_spreads_3 17 rfl rfl)
theorem dX9_spreads_92 : decode cX9_spreads 92 = .ok (.aload_n 0, 1) := dk_42 (dk_at dksX9_spreads_3 20 rfl rfl)
theorem dX9_spreads_93 : decode cX9_spreads 93 = .ok (.getfield 28, 3) := dk_180 0 28 (dk_at dksX9_spreads_3 21 rfl rfl)
theorem dX9_spreads_96 : decode cX9_spreads 96 = .ok (.aload_n 0, 1) := dk_42 (dk_at dksX9_spreads_4 0 rfl rfl)
theorem dX9_spreads_97 : decode cX9_spreads 97 = .ok (.iload 4, 2) := dk_21 4 (dk_at dksX9_spreads_4 1 rfl rfl)
theorem dX9_spreads_99 : decode cX9_spreads 99 = .ok (.invokevirtual 77, 3) := dk_182 0 77 (dk_at dksX9_spreads_4 3 rfl rfl)
theorem dX9_spreads_102 : decode cX9_spreads 102 = .ok (.iaload, 1) := dk_46 (dk_at dksX9_spreads_4 6 rfl rfl)
theorem dX9_spreads_103 : decode cX9_spreads 103 = .ok (.iload_n 3, 1) := dk_29 (dk_at dksX9_spreads_4 7 rfl rfl)
theorem dX9_spreads_104 : decode cX9_spreads 104 = .ok (.if_icmp .ne 32, 3) := dk_160 0 32 (dk_at dksX9_spreads_4 8 rfl rfl)
theorem dX9_spreads_107 : decode cX9_spreads 107 = .ok (.aload_n 0, 1) := dk_42 (dk_at dksX9_spreads_4 11 rfl rfl)
theorem dX9_spreads_108 : decode cX9_spreads 108 = .ok (.getfield 28, 3) := dk_180 0 28 (dk_at dksX9_spreads_4 12 rfl rfl)
theorem dX9_spreads_111 : decode cX9_spreads 111 = .ok (.aload_n 0, 1) := dk_42 (dk_at dksX9_spreads_4 15 rfl rfl)
theorem dX9_spreads_112 : decode cX9_spreads 112 = .ok (.iload 4, 2) := dk_21 4 (dk_at dksX9_spreads_4 16 rfl rfl)
theorem dX9_spreads_114 : decode cX9_spreads 114 = .ok (.invokevirtual 91, 3) := dk_182 0 91 (dk_at dksX9_spreads_4 18 rfl rfl)
theorem dX9_spreads_117 : decode cX9_spreads 117 = .ok (.iaload, 1) := dk_46 (dk_at dksX9_spreads_4 21 rfl rfl)
theorem dX9_spreads_118 : decode cX9_spreads 118 = .ok (.iconst (-1), 1) := dk_2 (dk_at dksX9_spreads_4 22 rfl rfl)
theorem dX9_spreads_119 : decode cX9_spreads 119 = .ok (.if_icmp .ne 17, 3) := dk_160 0 17 (dk_at dksX9_spreads_5 0 rfl rfl)
theorem dX9_spreads_122 : decode cX9_spreads 122 = .ok (.aload_n 0, 1) := dk_42 (dk_at dksX9_spreads_5 3 rfl rfl)
theorem dX9_spreads_123 : decode cX9_spreads 123 = .ok (.getfield 28, 3) := dk_180 0 28 (dk_at dksX9_spreads_5 4 rfl rfl)
theorem dX9_spreads_126 : decode cX9_spreads 126 = .ok (.aload_n 0, 1) := dk_42 (dk_at dksX9_spreads_5 7 rfl rfl)
theorem dX9_spreads_127 : decode cX9_spreads 127 = .ok (.iload 4, 2) := dk_21 4 (dk_at dksX9_spreads_5 8 rfl rfl)
theorem dX9_spreads_129 : decode cX9_spreads 129 = .ok (.invokevirtual 91, 3) := dk_182 0 91 (dk_at dksX9_spreads_5 10 rfl rfl)
theorem dX9_spreads_132 : decode cX9_spreads 132 = .ok (.iload_n 3, 1) := dk_29 (dk_at dksX9_spreads_5 13 rfl rfl)
theorem dX9_spreads_133 : decode cX9_spreads 133 = .ok (.iconst 1, 1) := dk_4 (dk_at dksX9_spreads_5 14 rfl rfl)
theorem dX9_spreads_134 : decode cX9_spreads 134 = .ok (.iadd, 1) := dk_96 (dk_at dksX9_spreads_5 15 rfl rfl)
theorem dX9_spreads_135 : decode cX9_spreads 135 = .ok (.iastore, 1) := dk_79 (dk_at dksX9_spreads_5 16 rfl rfl)
theorem dX9_spreads_136 : decode cX9_spreads 136 = .ok (.iinc 4 1, 3) := dk_132 4 1 (dk_at dksX9_spreads_5 17 rfl rfl)
theorem dX9_spreads_139 : decode cX9_spreads 139 = .ok (.goto (-98), 3) := dk_167 255 158 (dk_at dksX9_spreads_5 20 rfl rfl)
theorem dX9_spreads_142 : decode cX9_spreads 142 = .ok (.iinc 3 1, 3) := dk_132 3 1 (dk_at dksX9_spreads_6 0 rfl rfl)
theorem dX9_spreads_145 : decode cX9_spreads 145 = .ok (.goto (-113), 3) := dk_167 255 143 (dk_at dksX9_spreads_6 3 rfl rfl)
theorem dX9_spreads_148 : decode cX9_spreads 148 = .ok (.return_, 1) := dk_177 (dk_at dksX9_spreads_6 6 rfl rfl)
abbrev cX9_reachByJoining : ByteArray := prog_17_method_90_code
def yX9_reachByJoining : MethodName := ⟨RX9, "reachByJoining", "(I)I"⟩
def dkwX9_reachByJoining_1 : List UInt8 := [182, 0, 122, 172]
abbrev dktX9_reachByJoining_1 : List UInt8 := dkwX9_reachByJoining_1 ++ []
def dkwX9_reachByJoining_0 : List UInt8 := [42, 3, 181, 0, 38, 27, 184, 0, 134, 153, 0, 11, 42, 27, 182, 0, 189, 167, 0, 8, 42, 4]
abbrev dktX9_reachByJoining_0 : List UInt8 := dkwX9_reachByJoining_0 ++ dktX9_reachByJoining_1
theorem dksX9_reachByJoining_0 : cX9_reachByJoining.data.toList.drop 0 = dktX9_reachByJoining_0 := by decide +kernel
theorem dksX9_reachByJoining_1 : cX9_reachByJoining.data.toList.drop 22 = dktX9_reachByJoining_1 := dk_seg dksX9_reachByJoining_0 22 rfl rfl
theorem dX9_reachByJoining_0 : decode cX9_reachByJoining 0 = .ok (.aload_n 0, 1) := dk_42 (dk_at dksX9_reachByJoining_0 0 rfl rfl)
theorem dX9_reachByJoining_1 : decode cX9_reachByJoining 1 = .ok (.iconst 0, 1) := dk_3 (dk_at dksX9_reachByJoining_0 1 rfl rfl)
theorem dX9_reachByJoining_2 : decode cX9_reachByJoining 2 = .ok (.putfield 38, 3) := dk_181 0 38 (dk_at dksX9_reachByJoining_0 2 rfl rfl)
theorem dX9_reachByJoining_5 : decode cX9_reachByJoining 5 = .ok (.iload_n 1, 1) := dk_27 (dk_at dksX9_reachByJoining_0 5 rfl rfl)
theorem dX9_reachByJoining_6 : decode cX9_reachByJoining 6 = .ok (.invokestatic 134, 3) := dk_184 0 134 (dk_at dksX9_reachByJoining_0 6 rfl rfl)
theorem dX9_reachByJoining_9 : decode cX9_reachByJoining 9 = .ok (.ifCond .eq 11, 3) := dk_153 0 11 (dk_at dksX9_reachByJoining_0 9 rfl rfl)
theorem dX9_reachByJoining_12 : decode cX9_reachByJoining 12 = .ok (.aload_n 0, 1) := dk_42 (dk_at dksX9_reachByJoining_0 12 rfl rfl)
theorem dX9_reachByJoining_13 : decode cX9_reachByJoining 13 = .ok (.iload_n 1, 1) := dk_27 (dk_at dksX9_reachByJoining_0 13 rfl rfl)
theorem dX9_reachByJoining_14 : decode cX9_reachByJoining 14 = .ok (.invokevirtual 189, 3) := dk_182 0 189 (dk_at dksX9_reachByJoining_0 14 rfl rfl)
theorem dX9_reachByJoining_17 : decode cX9_reachByJoining 17 = .ok (.goto 8, 3) := dk_167 0 8 (dk_at dksX9_reachByJoining_0 17 rfl rfl)
theorem dX9_reachByJoining_20 : decode cX9_reachByJoining 20 = .ok (.aload_n 0, 1) := dk_42 (dk_at dksX9_reachByJoining_0 20 rfl rfl)
theorem dX9_reachByJoining_21 : decode cX9_reachByJoining 21 = .ok (.iconst 1, 1) := dk_4 (dk_at dksX9_reachByJoining_0 21 rfl rfl)
theorem dX9_reachByJoining_22 : decode cX9_reachByJoining 22 = .ok (.invokevirtual 122, 3) := dk_182 0 122 (dk_at dksX9_reachByJoining_1 0 rfl rfl)
theorem dX9_reachByJoining_25 : decode cX9_reachByJoining 25 = .ok (.ireturn, 1) := dk_172 (dk_at dksX9_reachByJoining_1 3 rfl rfl)
abbrev cX9_distance : ByteArray := prog_17_method_92_code
def yX9_distance : MethodName := ⟨RX9, "distance", "(II)I"⟩
def dkwX9_distance_1 : List UInt8 := [182, 0, 53, 28, 182, 0, 192, 167, 0, 8, 42, 4, 182, 0, 122, 172]
abbrev dktX9_distance_1 : List UInt8 := dkwX9_distance_1 ++ []
def dkwX9_distance_0 : List UInt8 := [42, 3, 181, 0, 38, 27, 184, 0, 134, 153, 0, 25, 28, 184, 0, 119, 153, 0, 18, 42, 27, 42, 27, 3]
abbrev dktX9_distance_0 : List UInt8 := dkwX9_distance_0 ++ dktX9_distance_1
theorem dksX9_distance_0 : cX9_distance.data.toList.drop 0 = dktX9_distance_0 := by decide +kernel
theorem dksX9_distance_1 : cX9_distance.data.toList.drop 24 = dktX9_distance_1 := dk_seg dksX9_distance_0 24 rfl rfl
theorem dX9_distance_0 : decode cX9_distance 0 = .ok (.aload_n 0, 1) := dk_42 (dk_at dksX9_distance_0 0 rfl rfl)
theorem dX9_distance_1 : decode cX9_distance 1 = .ok (.iconst 0, 1) := dk_3 (dk_at dksX9_distance_0 1 rfl rfl)
theorem dX9_distance_2 : decode cX9_distance 2 = .ok (.putfield 38, 3) := dk_181 0 38 (dk_at dksX9_distance_0 2 rfl rfl)
theorem dX9_distance_5 : decode cX9_distance 5 = .ok (.iload_n 1, 1) := dk_27 (dk_at dksX9_distance_0 5 rfl rfl)
theorem dX9_distance_6 : decode cX9_distance 6 = .ok (.invokestatic 134, 3) := dk_184 0 134 (dk_at dksX9_distance_0 6 rfl rfl)
theorem dX9_distance_9 : decode cX9_distance 9 = .ok (.ifCond .eq 25, 3) := dk_153 0 25 (dk_at dksX9_distance_0 9 rfl rfl)
theorem dX9_distance_12 : decode cX9_distance 12 = .ok (.iload_n 2, 1) := dk_28 (dk_at dksX9_distance_0 12 rfl rfl)
theorem dX9_distance_13 : decode cX9_distance 13 = .ok (.invokestatic 119, 3) := dk_184 0 119 (dk_at dksX9_distance_0 13 rfl rfl)
theorem dX9_distance_16 : decode cX9_distance 16 = .ok (.ifCond .eq 18, 3) := dk_153 0 18 (dk_at dksX9_distance_0 16 rfl rfl)
theorem dX9_distance_19 : decode cX9_distance 19 = .ok (.aload_n 0, 1) := dk_42 (dk_at dksX9_distance_0 19 rfl rfl)
theorem dX9_distance_20 : decode cX9_distance 20 = .ok (.iload_n 1, 1) := dk_27 (dk_at dksX9_distance_0 20 rfl rfl)
theorem dX9_distance_21 : decode cX9_distance 21 = .ok (.aload_n 0, 1) := dk_42 (dk_at dksX9_distance_0 21 rfl rfl)
theorem dX9_distance_22 : decode cX9_distance 22 = .ok (.iload_n 1, 1) := dk_27 (dk_at dksX9_distance_0 22 rfl rfl)
theorem dX9_distance_23 : decode cX9_distance 23 = .ok (.iconst 0, 1) := dk_3 (dk_at dksX9_distance_0 23 rfl rfl)
theorem dX9_distance_24 : decode cX9_distance 24 = .ok (.invokevirtual 53, 3) := dk_182 0 53 (dk_at dksX9_distance_1 0 rfl rfl)
theorem dX9_distance_27 : decode cX9_distance 27 = .ok (.iload_n 2, 1) := dk_28 (dk_at dksX9_distance_1 3 rfl rfl)
theorem dX9_distance_28 : decode cX9_distance 28 = .ok (.invokevirtual 192, 3) := dk_182 0 192 (dk_at dksX9_distance_1 4 rfl rfl)
theorem dX9_distance_31 : decode cX9_distance 31 = .ok (.goto 8, 3) := dk_167 0 8 (dk_at dksX9_distance_1 7 rfl rfl)
theorem dX9_distance_34 : decode cX9_distance 34 = .ok (.aload_n 0, 1) := dk_42 (dk_at dksX9_distance_1 10 rfl rfl)
theorem dX9_distance_35 : decode cX9_distance 35 = .ok (.iconst 1, 1) := dk_4 (dk_at dksX9_distance_1 11 rfl rfl)
theorem dX9_distance_36 : decode cX9_distance 36 = .ok (.invokevirtual 122, 3) := dk_182 0 122 (dk_at dksX9_distance_1 12 rfl rfl)
theorem dX9_distance_39 : decode cX9_distance 39 = .ok (.ireturn, 1) := dk_172 (dk_at dksX9_distance_1 15 rfl rfl)
abbrev cX9_way : ByteArray := prog_17_method_91_code
def yX9_way : MethodName := ⟨RX9, "way", "(III)I"⟩
def dkwX9_way_0 : List UInt8 := [42, 27, 28, 182, 0, 185, 42, 180, 0, 28, 29, 46, 172]
abbrev dktX9_way_0 : List UInt8 := dkwX9_way_0 ++ []
theorem dksX9_way_0 : cX9_way.data.toList.drop 0 = dktX9_way_0 := by decide +kernel
theorem dX9_way_0 : decode cX9_way 0 = .ok (.aload_n 0, 1) := dk_42 (dk_at dksX9_way_0 0 rfl rfl)
theorem dX9_way_1 : decode cX9_way 1 = .ok (.iload_n 1, 1) := dk_27 (dk_at dksX9_way_0 1 rfl rfl)
theorem dX9_way_2 : decode cX9_way 2 = .ok (.iload_n 2, 1) := dk_28 (dk_at dksX9_way_0 2 rfl rfl)
theorem dX9_way_3 : decode cX9_way 3 = .ok (.invokevirtual 185, 3) := dk_182 0 185 (dk_at dksX9_way_0 3 rfl rfl)
theorem dX9_way_6 : decode cX9_way 6 = .ok (.aload_n 0, 1) := dk_42 (dk_at dksX9_way_0 6 rfl rfl)
theorem dX9_way_7 : decode cX9_way 7 = .ok (.getfield 28, 3) := dk_180 0 28 (dk_at dksX9_way_0 7 rfl rfl)
theorem dX9_way_10 : decode cX9_way 10 = .ok (.iload_n 3, 1) := dk_29 (dk_at dksX9_way_0 10 rfl rfl)
theorem dX9_way_11 : decode cX9_way 11 = .ok (.iaload, 1) := dk_46 (dk_at dksX9_way_0 11 rfl rfl)
theorem dX9_way_12 : decode cX9_way 12 = .ok (.ireturn, 1) := dk_172 (dk_at dksX9_way_0 12 rfl rfl)
abbrev cX9_nextStreet : ByteArray := prog_17_method_93_code
def yX9_nextStreet : MethodName := ⟨RX9, "nextStreet", "(II)I"⟩
def dkwX9_nextStreet_6 : List UInt8 := [167, 0, 5, 21, 5, 54, 5, 132, 6, 255, 167, 255, 170, 21, 5, 172]
abbrev dktX9_nextStreet_6 : List UInt8 := dkwX9_nextStreet_6 ++ []
def dkwX9_nextStreet_5 : List UInt8 := [153, 0, 27, 42, 27, 42, 21, 6, 182, 0, 91, 28, 182, 0, 192, 21, 4, 4, 100, 160, 0, 8, 21, 6]
abbrev dktX9_nextStreet_5 : List UInt8 := dkwX9_nextStreet_5 ++ dktX9_nextStreet_6
def dkwX9_nextStreet_4 : List UInt8 := [153, 0, 13, 42, 27, 4, 182, 0, 53, 4, 159, 0, 7, 4, 167, 0, 4, 3, 54, 7, 21, 7]
abbrev dktX9_nextStreet_4 : List UInt8 := dkwX9_nextStreet_4 ++ dktX9_nextStreet_5
def dkwX9_nextStreet_3 : List UInt8 := [21, 6, 182, 0, 77, 29, 160, 0, 35, 42, 21, 6, 182, 0, 80, 153, 0, 26, 42, 21, 6, 182, 0, 84]
abbrev dktX9_nextStreet_3 : List UInt8 := dkwX9_nextStreet_3 ++ dktX9_nextStreet_4
def dkwX9_nextStreet_2 : List UInt8 := [5, 182, 0, 122, 172, 2, 54, 5, 42, 180, 0, 7, 3, 46, 4, 100, 54, 6, 21, 6, 155, 0, 87, 42]
abbrev dktX9_nextStreet_2 : List UInt8 := dkwX9_nextStreet_2 ++ dktX9_nextStreet_3
def dkwX9_nextStreet_1 : List UInt8 := [172, 42, 27, 3, 182, 0, 53, 62, 42, 27, 29, 28, 182, 0, 192, 54, 4, 21, 4, 4, 162, 0, 9, 42]
abbrev dktX9_nextStreet_1 : List UInt8 := dkwX9_nextStreet_1 ++ dktX9_nextStreet_2
def dkwX9_nextStreet_0 : List UInt8 := [42, 3, 181, 0, 38, 27, 184, 0, 134, 153, 0, 10, 28, 184, 0, 119, 154, 0, 9, 42, 4, 182, 0, 122]
abbrev dktX9_nextStreet_0 : List UInt8 := dkwX9_nextStreet_0 ++ dktX9_nextStreet_1
theorem dksX9_nextStreet_0 : cX9_nextStreet.data.toList.drop 0 = dktX9_nextStreet_0 := by decide +kernel
theorem dksX9_nextStreet_1 : cX9_nextStreet.data.toList.drop 24 = dktX9_nextStreet_1 := dk_seg dksX9_nextStreet_0 24 rfl rfl
theorem dksX9_nextStreet_2 : cX9_nextStreet.data.toList.drop 48 = dktX9_nextStreet_2 := dk_seg dksX9_nextStreet_1 24 rfl rfl
theorem dksX9_nextStreet_3 : cX9_nextStreet.data.toList.drop 72 = dktX9_nextStreet_3 := dk_seg dksX9_nextStreet_2 24 rfl rfl
theorem dksX9_nextStreet_4 : cX9_nextStreet.data.toList.drop 96 = dktX9_nextStreet_4 := dk_seg dksX9_nextStreet_3 24 rfl rfl
theorem dksX9_nextStreet_5 : cX9_nextStreet.data.toList.drop 118 = dktX9_nextStreet_5 := dk_seg dksX9_nextStreet_4 22 rfl rfl
theorem dksX9_nextStreet_6 : cX9_nextStreet.data.toList.drop 142 = dktX9_nextStreet_6 := dk_seg dksX9_nextStreet_5 24 rfl rfl
theorem dX9_nextStreet_0 : decode cX9_nextStreet 0 = .ok (.aload_n 0, 1) := dk_42 (dk_at dksX9_nextStreet_0 0 rfl rfl)
theorem dX9_nextStreet_1 : decode cX9_nextStreet 1 = .ok (.iconst 0, 1) := dk_3 (dk_at dksX9_nextStreet_0 1 rfl rfl)
theorem dX9_nextStreet_2 : decode cX9_nextStreet 2 = .ok (.putfield 38, 3) := dk_181 0 38 (dk_at dksX9_nextStreet_0 2 rfl rfl)
theorem dX9_nextStreet_5 : decode cX9_nextStreet 5 = .ok (.iload_n 1, 1) := dk_27 (dk_at dksX9_nextStreet_0 5 rfl rfl)
theorem dX9_nextStreet_6 : decode cX9_nextStreet 6 = .ok (.invokestatic 134, 3) := dk_184 0 134 (dk_at dksX9_nextStreet_0 6 rfl rfl)
theorem dX9_nextStreet_9 : decode cX9_nextStreet 9 = .ok (.ifCond .eq 10, 3) := dk_153 0 10 (dk_at dksX9_nextStreet_0 9 rfl rfl)
theorem dX9_nextStreet_12 : decode cX9_nextStreet 12 = .ok (.iload_n 2, 1) := dk_28 (dk_at dksX9_nextStreet_0 12 rfl rfl)
theorem dX9_nextStreet_13 : decode cX9_nextStreet 13 = .ok (.invokestatic 119, 3) := dk_184 0 119 (dk_at dksX9_nextStreet_0 13 rfl rfl)
theorem dX9_nextStreet_16 : decode cX9_nextStreet 16 = .ok (.ifCond .ne 9, 3) := dk_154 0 9 (dk_at dksX9_nextStreet_0 16 rfl rfl)
theorem dX9_nextStreet_19 : decode cX9_nextStreet 19 = .ok (.aload_n 0, 1) := dk_42 (dk_at dksX9_nextStreet_0 19 rfl rfl)
theorem dX9_nextStreet_20 : decode cX9_nextStreet 20 = .ok (.iconst 1, 1) := dk_4 (dk_at dksX9_nextStreet_0 20 rfl rfl)
theorem dX9_nextStreet_21 : decode cX9_nextStreet 21 = .ok (.invokevirtual 122, 3) := dk_182 0 122 (dk_at dksX9_nextStreet_0 21 rfl rfl)
theorem dX9_nextStreet_24 : decode cX9_nextStreet 24 = .ok (.ireturn, 1) := dk_172 (dk_at dksX9_nextStreet_1 0 rfl rfl)
theorem dX9_nextStreet_25 : decode cX9_nextStreet 25 = .ok (.aload_n 0, 1) := dk_42 (dk_at dksX9_nextStreet_1 1 rfl rfl)
theorem dX9_nextStreet_26 : decode cX9_nextStreet 26 = .ok (.iload_n 1, 1) := dk_27 (dk_at dksX9_nextStreet_1 2 rfl rfl)
theorem dX9_nextStreet_27 : decode cX9_nextStreet 27 = .ok (.iconst 0, 1) := dk_3 (dk_at dksX9_nextStreet_1 3 rfl rfl)
theorem dX9_nextStreet_28 : decode cX9_nextStreet 28 = .ok (.invokevirtual 53, 3) := dk_182 0 53 (dk_at dksX9_nextStreet_1 4 rfl rfl)
theorem dX9_nextStreet_31 : decode cX9_nextStreet 31 = .ok (.istore_n 3, 1) := dk_62 (dk_at dksX9_nextStreet_1 7 rfl rfl)
theorem dX9_nextStreet_32 : decode cX9_nextStreet 32 = .ok (.aload_n 0, 1) := dk_42 (dk_at dksX9_nextStreet_1 8 rfl rfl)
theorem dX9_nextStreet_33 : decode cX9_nextStreet 33 = .ok (.iload_n 1, 1) := dk_27 (dk_at dksX9_nextStreet_1 9 rfl rfl)
theorem dX9_nextStreet_34 : decode cX9_nextStreet 34 = .ok (.iload_n 3, 1) := dk_29 (dk_at dksX9_nextStreet_1 10 rfl rfl)
theorem dX9_nextStreet_35 : decode cX9_nextStreet 35 = .ok (.iload_n 2, 1) := dk_28 (dk_at dksX9_nextStreet_1 11 rfl rfl)
theorem dX9_nextStreet_36 : decode cX9_nextStreet 36 = .ok (.invokevirtual 192, 3) := dk_182 0 192 (dk_at dksX9_nextStreet_1 12 rfl rfl)
theorem dX9_nextStreet_39 : decode cX9_nextStreet 39 = .ok (.istore 4, 2) := dk_54 4 (dk_at dksX9_nextStreet_1 15 rfl rfl)
theorem dX9_nextStreet_41 : decode cX9_nextStreet 41 = .ok (.iload 4, 2) := dk_21 4 (dk_at dksX9_nextStreet_1 17 rfl rfl)
theorem dX9_nextStreet_43 : decode cX9_nextStreet 43 = .ok (.iconst 1, 1) := dk_4 (dk_at dksX9_nextStreet_1 19 rfl rfl)
theorem dX9_nextStreet_44 : decode cX9_nextStreet 44 = .ok (.if_icmp .ge 9, 3) := dk_162 0 9 (dk_at dksX9_nextStreet_1 20 rfl rfl)
theorem dX9_nextStreet_47 : decode cX9_nextStreet 47 = .ok (.aload_n 0, 1) := dk_42 (dk_at dksX9_nextStreet_1 23 rfl rfl)
theorem dX9_nextStreet_48 : decode cX9_nextStreet 48 = .ok (.iconst 2, 1) := dk_5 (dk_at dksX9_nextStreet_2 0 rfl rfl)
theorem dX9_nextStreet_49 : decode cX9_nextStreet 49 = .ok (.invokevirtual 122, 3) := dk_182 0 122 (dk_at dksX9_nextStreet_2 1 rfl rfl)
theorem dX9_nextStreet_52 : decode cX9_nextStreet 52 = .ok (.ireturn, 1) := dk_172 (dk_at dksX9_nextStreet_2 4 rfl rfl)
theorem dX9_nextStreet_53 : decode cX9_nextStreet 53 = .ok (.iconst (-1), 1) := dk_2 (dk_at dksX9_nextStreet_2 5 rfl rfl)
theorem dX9_nextStreet_54 : decode cX9_nextStreet 54 = .ok (.istore 5, 2) := dk_54 5 (dk_at dksX9_nextStreet_2 6 rfl rfl)
theorem dX9_nextStreet_56 : decode cX9_nextStreet 56 = .ok (.aload_n 0, 1) := dk_42 (dk_at dksX9_nextStreet_2 8 rfl rfl)
theorem dX9_nextStreet_57 : decode cX9_nextStreet 57 = .ok (.getfield 7, 3) := dk_180 0 7 (dk_at dksX9_nextStreet_2 9 rfl rfl)
theorem dX9_nextStreet_60 : decode cX9_nextStreet 60 = .ok (.iconst 0, 1) := dk_3 (dk_at dksX9_nextStreet_2 12 rfl rfl)
theorem dX9_nextStreet_61 : decode cX9_nextStreet 61 = .ok (.iaload, 1) := dk_46 (dk_at dksX9_nextStreet_2 13 rfl rfl)
theorem dX9_nextStreet_62 : decode cX9_nextStreet 62 = .ok (.iconst 1, 1) := dk_4 (dk_at dksX9_nextStreet_2 14 rfl rfl)
theorem dX9_nextStreet_63 : decode cX9_nextStreet 63 = .ok (.isub, 1) := dk_100 (dk_at dksX9_nextStreet_2 15 rfl rfl)
theorem dX9_nextStreet_64 : decode cX9_nextStreet 64 = .ok (.istore 6, 2) := dk_54 6 (dk_at dksX9_nextStreet_2 16 rfl rfl)
theorem dX9_nextStreet_66 : decode cX9_nextStreet 66 = .ok (.iload 6, 2) := dk_21 6 (dk_at dksX9_nextStreet_2 18 rfl rfl)
theorem dX9_nextStreet_68 : decode cX9_nextStreet 68 = .ok (.ifCond .lt 87, 3) := dk_155 0 87 (dk_at dksX9_nextStreet_2 20 rfl rfl)
theorem dX9_nextStreet_71 : decode cX9_nextStreet 71 = .ok (.aload_n 0, 1) := dk_42 (dk_at dksX9_nextStreet_2 23 rfl rfl)
theorem dX9_nextStreet_72 : decode cX9_nextStreet 72 = .ok (.iload 6, 2) := dk_21 6 (dk_at dksX9_nextStreet_3 0 rfl rfl)
theorem dX9_nextStreet_74 : decode cX9_nextStreet 74 = .ok (.invokevirtual 77, 3) := dk_182 0 77 (dk_at dksX9_nextStreet_3 2 rfl rfl)
theorem dX9_nextStreet_77 : decode cX9_nextStreet 77 = .ok (.iload_n 3, 1) := dk_29 (dk_at dksX9_nextStreet_3 5 rfl rfl)
theorem dX9_nextStreet_78 : decode cX9_nextStreet 78 = .ok (.if_icmp .ne 35, 3) := dk_160 0 35 (dk_at dksX9_nextStreet_3 6 rfl rfl)
theorem dX9_nextStreet_81 : decode cX9_nextStreet 81 = .ok (.aload_n 0, 1) := dk_42 (dk_at dksX9_nextStreet_3 9 rfl rfl)
theorem dX9_nextStreet_82 : decode cX9_nextStreet 82 = .ok (.iload 6, 2) := dk_21 6 (dk_at dksX9_nextStreet_3 10 rfl rfl)
theorem dX9_nextStreet_84 : decode cX9_nextStreet 84 = .ok (.invokevirtual 80, 3) := dk_182 0 80 (dk_at dksX9_nextStreet_3 12 rfl rfl)
theorem dX9_nextStreet_87 : decode cX9_nextStreet 87 = .ok (.ifCond .eq 26, 3) := dk_153 0 26 (dk_at dksX9_nextStreet_3 15 rfl rfl)
theorem dX9_nextStreet_90 : decode cX9_nextStreet 90 = .ok (.aload_n 0, 1) := dk_42 (dk_at dksX9_nextStreet_3 18 rfl rfl)
theorem dX9_nextStreet_91 : decode cX9_nextStreet 91 = .ok (.iload 6, 2) := dk_21 6 (dk_at dksX9_nextStreet_3 19 rfl rfl)
theorem dX9_nextStreet_93 : decode cX9_nextStreet 93 = .ok (.invokevirtual 84, 3) := dk_182 0 84 (dk_at dksX9_nextStreet_3 21 rfl rfl)
theorem dX9_nextStreet_96 : decode cX9_nextStreet 96 = .ok (.ifCond .eq 13, 3) := dk_153 0 13 (dk_at dksX9_nextStreet_4 0 rfl rfl)
theorem dX9_nextStreet_99 : decode cX9_nextStreet 99 = .ok (.aload_n 0, 1) := dk_42 (dk_at dksX9_nextStreet_4 3 rfl rfl)
theorem dX9_nextStreet_100 : decode cX9_nextStreet 100 = .ok (.iload_n 1, 1) := dk_27 (dk_at dksX9_nextStreet_4 4 rfl rfl)
theorem dX9_nextStreet_101 : decode cX9_nextStreet 101 = .ok (.iconst 1, 1) := dk_4 (dk_at dksX9_nextStreet_4 5 rfl rfl)
theorem dX9_nextStreet_102 : decode cX9_nextStreet 102 = .ok (.invokevirtual 53, 3) := dk_182 0 53 (dk_at dksX9_nextStreet_4 6 rfl rfl)
theorem dX9_nextStreet_105 : decode cX9_nextStreet 105 = .ok (.iconst 1, 1) := dk_4 (dk_at dksX9_nextStreet_4 9 rfl rfl)
theorem dX9_nextStreet_106 : decode cX9_nextStreet 106 = .ok (.if_icmp .eq 7, 3) := dk_159 0 7 (dk_at dksX9_nextStreet_4 10 rfl rfl)
theorem dX9_nextStreet_109 : decode cX9_nextStreet 109 = .ok (.iconst 1, 1) := dk_4 (dk_at dksX9_nextStreet_4 13 rfl rfl)
theorem dX9_nextStreet_110 : decode cX9_nextStreet 110 = .ok (.goto 4, 3) := dk_167 0 4 (dk_at dksX9_nextStreet_4 14 rfl rfl)
theorem dX9_nextStreet_113 : decode cX9_nextStreet 113 = .ok (.iconst 0, 1) := dk_3 (dk_at dksX9_nextStreet_4 17 rfl rfl)
theorem dX9_nextStreet_114 : decode cX9_nextStreet 114 = .ok (.istore 7, 2) := dk_54 7 (dk_at dksX9_nextStreet_4 18 rfl rfl)
theorem dX9_nextStreet_116 : decode cX9_nextStreet 116 = .ok (.iload 7, 2) := dk_21 7 (dk_at dksX9_nextStreet_4 20 rfl rfl)
theorem dX9_nextStreet_118 : decode cX9_nextStreet 118 = .ok (.ifCond .eq 27, 3) := dk_153 0 27 (dk_at dksX9_nextStreet_5 0 rfl rfl)
theorem dX9_nextStreet_121 : decode cX9_nextStreet 121 = .ok (.aload_n 0, 1) := dk_42 (dk_at dksX9_nextStreet_5 3 rfl rfl)
theorem dX9_nextStreet_122 : decode cX9_nextStreet 122 = .ok (.iload_n 1, 1) := dk_27 (dk_at dksX9_nextStreet_5 4 rfl rfl)
theorem dX9_nextStreet_123 : decode cX9_nextStreet 123 = .ok (.aload_n 0, 1) := dk_42 (dk_at dksX9_nextStreet_5 5 rfl rfl)
theorem dX9_nextStreet_124 : decode cX9_nextStreet 124 = .ok (.iload 6, 2) := dk_21 6 (dk_at dksX9_nextStreet_5 6 rfl rfl)
theorem dX9_nextStreet_126 : decode cX9_nextStreet 126 = .ok (.invokevirtual 91, 3) := dk_182 0 91 (dk_at dksX9_nextStreet_5 8 rfl rfl)
theorem dX9_nextStreet_129 : decode cX9_nextStreet 129 = .ok (.iload_n 2, 1) := dk_28 (dk_at dksX9_nextStreet_5 11 rfl rfl)
theorem dX9_nextStreet_130 : decode cX9_nextStreet 130 = .ok (.invokevirtual 192, 3) := dk_182 0 192 (dk_at dksX9_nextStreet_5 12 rfl rfl)
theorem dX9_nextStreet_133 : decode cX9_nextStreet 133 = .ok (.iload 4, 2) := dk_21 4 (dk_at dksX9_nextStreet_5 15 rfl rfl)
theorem dX9_nextStreet_135 : decode cX9_nextStreet 135 = .ok (.iconst 1, 1) := dk_4 (dk_at dksX9_nextStreet_5 17 rfl rfl)
theorem dX9_nextStreet_136 : decode cX9_nextStreet 136 = .ok (.isub, 1) := dk_100 (dk_at dksX9_nextStreet_5 18 rfl rfl)
theorem dX9_nextStreet_137 : decode cX9_nextStreet 137 = .ok (.if_icmp .ne 8, 3) := dk_160 0 8 (dk_at dksX9_nextStreet_5 19 rfl rfl)
theorem dX9_nextStreet_140 : decode cX9_nextStreet 140 = .ok (.iload 6, 2) := dk_21 6 (dk_at dksX9_nextStreet_5 22 rfl rfl)
theorem dX9_nextStreet_142 : decode cX9_nextStreet 142 = .ok (.goto 5, 3) := dk_167 0 5 (dk_at dksX9_nextStreet_6 0 rfl rfl)
theorem dX9_nextStreet_145 : decode cX9_nextStreet 145 = .ok (.iload 5, 2) := dk_21 5 (dk_at dksX9_nextStreet_6 3 rfl rfl)
theorem dX9_nextStreet_147 : decode cX9_nextStreet 147 = .ok (.istore 5, 2) := dk_54 5 (dk_at dksX9_nextStreet_6 5 rfl rfl)
theorem dX9_nextStreet_149 : decode cX9_nextStreet 149 = .ok (.iinc 6 (-1), 3) := dk_132 6 255 (dk_at dksX9_nextStreet_6 7 rfl rfl)
theorem dX9_nextStreet_152 : decode cX9_nextStreet 152 = .ok (.goto (-86), 3) := dk_167 255 170 (dk_at dksX9_nextStreet_6 10 rfl rfl)
theorem dX9_nextStreet_155 : decode cX9_nextStreet 155 = .ok (.iload 5, 2) := dk_21 5 (dk_at dksX9_nextStreet_6 13 rfl rfl)
theorem dX9_nextStreet_157 : decode cX9_nextStreet 157 = .ok (.ireturn, 1) := dk_172 (dk_at dksX9_nextStreet_6 15 rfl rfl)
abbrev cX9_bestParcel : ByteArray := prog_17_method_94_code
def yX9_bestParcel : MethodName := ⟨RX9, "bestParcel", "(I)I"⟩
def dkwX9_bestParcel_8 : List UInt8 := [5, 182, 0, 122, 167, 0, 4, 28, 172]
abbrev dktX9_bestParcel_8 : List UInt8 := dkwX9_bestParcel_8 ++ []
def dkwX9_bestParcel_7 : List UInt8 := [182, 0, 49, 164, 0, 9, 21, 4, 61, 21, 8, 62, 132, 4, 1, 167, 255, 105, 28, 2, 160, 0, 11, 42]
abbrev dktX9_bestParcel_7 : List UInt8 := dkwX9_bestParcel_7 ++ dktX9_bestParcel_8
def dkwX9_bestParcel_6 : List UInt8 := [21, 8, 29, 161, 0, 25, 21, 8, 29, 160, 0, 25, 42, 21, 4, 6, 182, 0, 49, 42, 28, 6]
abbrev dktX9_bestParcel_6 : List UInt8 := dkwX9_bestParcel_6 ++ dktX9_bestParcel_7
def dkwX9_bestParcel_5 : List UInt8 := [167, 0, 4, 3, 54, 7, 21, 5, 21, 6, 96, 54, 8, 21, 7, 153, 0, 42, 28, 2, 159, 0, 31]
abbrev dktX9_bestParcel_5 : List UInt8 := dkwX9_bestParcel_5 ++ dktX9_bestParcel_6
def dkwX9_bestParcel_4 : List UInt8 := [21, 6, 2, 159, 0, 22, 42, 21, 4, 5, 182, 0, 49, 42, 27, 182, 0, 109, 163, 0, 7, 4]
abbrev dktX9_bestParcel_4 : List UInt8 := dkwX9_bestParcel_4 ++ dktX9_bestParcel_5
def dkwX9_bestParcel_3 : List UInt8 := [182, 0, 49, 182, 0, 192, 54, 6, 42, 21, 4, 7, 182, 0, 49, 154, 0, 34, 21, 5, 2, 159, 0, 28]
abbrev dktX9_bestParcel_3 : List UInt8 := dkwX9_bestParcel_3 ++ dktX9_bestParcel_4
def dkwX9_bestParcel_2 : List UInt8 := [21, 4, 3, 182, 0, 49, 182, 0, 192, 54, 5, 42, 27, 42, 21, 4, 3, 182, 0, 49, 42, 21, 4, 4]
abbrev dktX9_bestParcel_2 : List UInt8 := dkwX9_bestParcel_2 ++ dktX9_bestParcel_3
def dkwX9_bestParcel_1 : List UInt8 := [54, 4, 21, 4, 42, 180, 0, 7, 16, 117, 46, 162, 0, 145, 42, 27, 42, 27, 3, 182, 0, 53, 42]
abbrev dktX9_bestParcel_1 : List UInt8 := dkwX9_bestParcel_1 ++ dktX9_bestParcel_2
def dkwX9_bestParcel_0 : List UInt8 := [42, 3, 181, 0, 38, 27, 184, 0, 134, 154, 0, 9, 42, 4, 182, 0, 122, 172, 2, 61, 3, 62, 3]
abbrev dktX9_bestParcel_0 : List UInt8 := dkwX9_bestParcel_0 ++ dktX9_bestParcel_1
theorem dksX9_bestParcel_0 : cX9_bestParcel.data.toList.drop 0 = dktX9_bestParcel_0 := by decide +kernel
theorem dksX9_bestParcel_1 : cX9_bestParcel.data.toList.drop 23 = dktX9_bestParcel_1 := dk_seg dksX9_bestParcel_0 23 rfl rfl
theorem dksX9_bestParcel_2 : cX9_bestParcel.data.toList.drop 46 = dktX9_bestParcel_2 := dk_seg dksX9_bestParcel_1 23 rfl rfl
theorem dksX9_bestParcel_3 : cX9_bestParcel.data.toList.drop 70 = dktX9_bestParcel_3 := dk_seg dksX9_bestParcel_2 24 rfl rfl
theorem dksX9_bestParcel_4 : cX9_bestParcel.data.toList.drop 94 = dktX9_bestParcel_4 := dk_seg dksX9_bestParcel_3 24 rfl rfl
theorem dksX9_bestParcel_5 : cX9_bestParcel.data.toList.drop 116 = dktX9_bestParcel_5 := dk_seg dksX9_bestParcel_4 22 rfl rfl
theorem dksX9_bestParcel_6 : cX9_bestParcel.data.toList.drop 139 = dktX9_bestParcel_6 := dk_seg dksX9_bestParcel_5 23 rfl rfl
theorem dksX9_bestParcel_7 : cX9_bestParcel.data.toList.drop 161 = dktX9_bestParcel_7 := dk_seg dksX9_bestParcel_6 22 rfl rfl
theorem dksX9_bestParcel_8 : cX9_bestParcel.data.toList.drop 185 = dktX9_bestParcel_8 := dk_seg dksX9_bestParcel_7 24 rfl rfl
theorem dX9_bestParcel_0 : decode cX9_bestParcel 0 = .ok (.aload_n 0, 1) := dk_42 (dk_at dksX9_bestParcel_0 0 rfl rfl)
theorem dX9_bestParcel_1 : decode cX9_bestParcel 1 = .ok (.iconst 0, 1) := dk_3 (dk_at dksX9_bestParcel_0 1 rfl rfl)
theorem dX9_bestParcel_2 : decode cX9_bestParcel 2 = .ok (.putfield 38, 3) := dk_181 0 38 (dk_at dksX9_bestParcel_0 2 rfl rfl)
theorem dX9_bestParcel_5 : decode cX9_bestParcel 5 = .ok (.iload_n 1, 1) := dk_27 (dk_at dksX9_bestParcel_0 5 rfl rfl)
theorem dX9_bestParcel_6 : decode cX9_bestParcel 6 = .ok (.invokestatic 134, 3) := dk_184 0 134 (dk_at dksX9_bestParcel_0 6 rfl rfl)
theorem dX9_bestParcel_9 : decode cX9_bestParcel 9 = .ok (.ifCond .ne 9, 3) := dk_154 0 9 (dk_at dksX9_bestParcel_0 9 rfl rfl)
theorem dX9_bestParcel_12 : decode cX9_bestParcel 12 = .ok (.aload_n 0, 1) := dk_42 (dk_at dksX9_bestParcel_0 12 rfl rfl)
theorem dX9_bestParcel_13 : decode cX9_bestParcel 13 = .ok (.iconst 1, 1) := dk_4 (dk_at dksX9_bestParcel_0 13 rfl rfl)
theorem dX9_bestParcel_14 : decode cX9_bestParcel 14 = .ok (.invokevirtual 122, 3) := dk_182 0 122 (dk_at dksX9_bestParcel_0 14 rfl rfl)
theorem dX9_bestParcel_17 : decode cX9_bestParcel 17 = .ok (.ireturn, 1) := dk_172 (dk_at dksX9_bestParcel_0 17 rfl rfl)
theorem dX9_bestParcel_18 : decode cX9_bestParcel 18 = .ok (.iconst (-1), 1) := dk_2 (dk_at dksX9_bestParcel_0 18 rfl rfl)
theorem dX9_bestParcel_19 : decode cX9_bestParcel 19 = .ok (.istore_n 2, 1) := dk_61 (dk_at dksX9_bestParcel_0 19 rfl rfl)
theorem dX9_bestParcel_20 : decode cX9_bestParcel 20 = .ok (.iconst 0, 1) := dk_3 (dk_at dksX9_bestParcel_0 20 rfl rfl)
theorem dX9_bestParcel_21 : decode cX9_bestParcel 21 = .ok (.istore_n 3, 1) := dk_62 (dk_at dksX9_bestParcel_0 21 rfl rfl)
theorem dX9_bestParcel_22 : decode cX9_bestParcel 22 = .ok (.iconst 0, 1) := dk_3 (dk_at dksX9_bestParcel_0 22 rfl rfl)
theorem dX9_bestParcel_23 : decode cX9_bestParcel 23 = .ok (.istore 4, 2) := dk_54 4 (dk_at dksX9_bestParcel_1 0 rfl rfl)
theorem dX9_bestParcel_25 : decode cX9_bestParcel 25 = .ok (.iload 4, 2) := dk_21 4 (dk_at dksX9_bestParcel_1 2 rfl rfl)
theorem dX9_bestParcel_27 : decode cX9_bestParcel 27 = .ok (.aload_n 0, 1) := dk_42 (dk_at dksX9_bestParcel_1 4 rfl rfl)
theorem dX9_bestParcel_28 : decode cX9_bestParcel 28 = .ok (.getfield 7, 3) := dk_180 0 7 (dk_at dksX9_bestParcel_1 5 rfl rfl)
theorem dX9_bestParcel_31 : decode cX9_bestParcel 31 = .ok (.bipush 117, 2) := dk_16 117 (dk_at dksX9_bestParcel_1 8 rfl rfl)
theorem dX9_bestParcel_33 : decode cX9_bestParcel 33 = .ok (.iaload, 1) := dk_46 (dk_at dksX9_bestParcel_1 10 rfl rfl)
theorem dX9_bestParcel_34 : decode cX9_bestParcel 34 = .ok (.if_icmp .ge 145, 3) := dk_162 0 145 (dk_at dksX9_bestParcel_1 11 rfl rfl)
theorem dX9_bestParcel_37 : decode cX9_bestParcel 37 = .ok (.aload_n 0, 1) := dk_42 (dk_at dksX9_bestParcel_1 14 rfl rfl)
theorem dX9_bestParcel_38 : decode cX9_bestParcel 38 = .ok (.iload_n 1, 1) := dk_27 (dk_at dksX9_bestParcel_1 15 rfl rfl)
theorem dX9_bestParcel_39 : decode cX9_bestParcel 39 = .ok (.aload_n 0, 1) := dk_42 (dk_at dksX9_bestParcel_1 16 rfl rfl)
theorem dX9_bestParcel_40 : decode cX9_bestParcel 40 = .ok (.iload_n 1, 1) := dk_27 (dk_at dksX9_bestParcel_1 17 rfl rfl)
theorem dX9_bestParcel_41 : decode cX9_bestParcel 41 = .ok (.iconst 0, 1) := dk_3 (dk_at dksX9_bestParcel_1 18 rfl rfl)
theorem dX9_bestParcel_42 : decode cX9_bestParcel 42 = .ok (.invokevirtual 53, 3) := dk_182 0 53 (dk_at dksX9_bestParcel_1 19 rfl rfl)
theorem dX9_bestParcel_45 : decode cX9_bestParcel 45 = .ok (.aload_n 0, 1) := dk_42 (dk_at dksX9_bestParcel_1 22 rfl rfl)
theorem dX9_bestParcel_46 : decode cX9_bestParcel 46 = .ok (.iload 4, 2) := dk_21 4 (dk_at dksX9_bestParcel_2 0 rfl rfl)
theorem dX9_bestParcel_48 : decode cX9_bestParcel 48 = .ok (.iconst 0, 1) := dk_3 (dk_at dksX9_bestParcel_2 2 rfl rfl)
theorem dX9_bestParcel_49 : decode cX9_bestParcel 49 = .ok (.invokevirtual 49, 3) := dk_182 0 49 (dk_at dksX9_bestParcel_2 3 rfl rfl)
theorem dX9_bestParcel_52 : decode cX9_bestParcel 52 = .ok (.invokevirtual 192, 3) := dk_182 0 192 (dk_at dksX9_bestParcel_2 6 rfl rfl)
theorem dX9_bestParcel_55 : decode cX9_bestParcel 55 = .ok (.istore 5, 2) := dk_54 5 (dk_at dksX9_bestParcel_2 9 rfl rfl)
theorem dX9_bestParcel_57 : decode cX9_bestParcel 57 = .ok (.aload_n 0, 1) := dk_42 (dk_at dksX9_bestParcel_2 11 rfl rfl)
theorem dX9_bestParcel_58 : decode cX9_bestParcel 58 = .ok (.iload_n 1, 1) := dk_27 (dk_at dksX9_bestParcel_2 12 rfl rfl)
theorem dX9_bestParcel_59 : decode cX9_bestParcel 59 = .ok (.aload_n 0, 1) := dk_42 (dk_at dksX9_bestParcel_2 13 rfl rfl)
theorem dX9_bestParcel_60 : decode cX9_bestParcel 60 = .ok (.iload 4, 2) := dk_21 4 (dk_at dksX9_bestParcel_2 14 rfl rfl)
theorem dX9_bestParcel_62 : decode cX9_bestParcel 62 = .ok (.iconst 0, 1) := dk_3 (dk_at dksX9_bestParcel_2 16 rfl rfl)
theorem dX9_bestParcel_63 : decode cX9_bestParcel 63 = .ok (.invokevirtual 49, 3) := dk_182 0 49 (dk_at dksX9_bestParcel_2 17 rfl rfl)
theorem dX9_bestParcel_66 : decode cX9_bestParcel 66 = .ok (.aload_n 0, 1) := dk_42 (dk_at dksX9_bestParcel_2 20 rfl rfl)
theorem dX9_bestParcel_67 : decode cX9_bestParcel 67 = .ok (.iload 4, 2) := dk_21 4 (dk_at dksX9_bestParcel_2 21 rfl rfl)
theorem dX9_bestParcel_69 : decode cX9_bestParcel 69 = .ok (.iconst 1, 1) := dk_4 (dk_at dksX9_bestParcel_2 23 rfl rfl)
theorem dX9_bestParcel_70 : decode cX9_bestParcel 70 = .ok (.invokevirtual 49, 3) := dk_182 0 49 (dk_at dksX9_bestParcel_3 0 rfl rfl)
theorem dX9_bestParcel_73 : decode cX9_bestParcel 73 = .ok (.invokevirtual 192, 3) := dk_182 0 192 (dk_at dksX9_bestParcel_3 3 rfl rfl)
theorem dX9_bestParcel_76 : decode cX9_bestParcel 76 = .ok (.istore 6, 2) := dk_54 6 (dk_at dksX9_bestParcel_3 6 rfl rfl)
theorem dX9_bestParcel_78 : decode cX9_bestParcel 78 = .ok (.aload_n 0, 1) := dk_42 (dk_at dksX9_bestParcel_3 8 rfl rfl)
theorem dX9_bestParcel_79 : decode cX9_bestParcel 79 = .ok (.iload 4, 2) := dk_21 4 (dk_at dksX9_bestParcel_3 9 rfl rfl)
theorem dX9_bestParcel_81 : decode cX9_bestParcel 81 = .ok (.iconst 4, 1) := dk_7 (dk_at dksX9_bestParcel_3 11 rfl rfl)
theorem dX9_bestParcel_82 : decode cX9_bestParcel 82 = .ok (.invokevirtual 49, 3) := dk_182 0 49 (dk_at dksX9_bestParcel_3 12 rfl rfl)
theorem dX9_bestParcel_85 : decode cX9_bestParcel 85 = .ok (.ifCond .ne 34, 3) := dk_154 0 34 (dk_at dksX9_bestParcel_3 15 rfl rfl)
theorem dX9_bestParcel_88 : decode cX9_bestParcel 88 = .ok (.iload 5, 2) := dk_21 5 (dk_at dksX9_bestParcel_3 18 rfl rfl)
theorem dX9_bestParcel_90 : decode cX9_bestParcel 90 = .ok (.iconst (-1), 1) := dk_2 (dk_at dksX9_bestParcel_3 20 rfl rfl)
theorem dX9_bestParcel_91 : decode cX9_bestParcel 91 = .ok (.if_icmp .eq 28, 3) := dk_159 0 28 (dk_at dksX9_bestParcel_3 21 rfl rfl)
theorem dX9_bestParcel_94 : decode cX9_bestParcel 94 = .ok (.iload 6, 2) := dk_21 6 (dk_at dksX9_bestParcel_4 0 rfl rfl)
theorem dX9_bestParcel_96 : decode cX9_bestParcel 96 = .ok (.iconst (-1), 1) := dk_2 (dk_at dksX9_bestParcel_4 2 rfl rfl)
theorem dX9_bestParcel_97 : decode cX9_bestParcel 97 = .ok (.if_icmp .eq 22, 3) := dk_159 0 22 (dk_at dksX9_bestParcel_4 3 rfl rfl)
theorem dX9_bestParcel_100 : decode cX9_bestParcel 100 = .ok (.aload_n 0, 1) := dk_42 (dk_at dksX9_bestParcel_4 6 rfl rfl)
theorem dX9_bestParcel_101 : decode cX9_bestParcel 101 = .ok (.iload 4, 2) := dk_21 4 (dk_at dksX9_bestParcel_4 7 rfl rfl)
theorem dX9_bestParcel_103 : decode cX9_bestParcel 103 = .ok (.iconst 2, 1) := dk_5 (dk_at dksX9_bestParcel_4 9 rfl rfl)
theorem dX9_bestParcel_104 : decode cX9_bestParcel 104 = .ok (.invokevirtual 49, 3) := dk_182 0 49 (dk_at dksX9_bestParcel_4 10 rfl rfl)
theorem dX9_bestParcel_107 : decode cX9_bestParcel 107 = .ok (.aload_n 0, 1) := dk_42 (dk_at dksX9_bestParcel_4 13 rfl rfl)
theorem dX9_bestParcel_108 : decode cX9_bestParcel 108 = .ok (.iload_n 1, 1) := dk_27 (dk_at dksX9_bestParcel_4 14 rfl rfl)
theorem dX9_bestParcel_109 : decode cX9_bestParcel 109 = .ok (.invokevirtual 109, 3) := dk_182 0 109 (dk_at dksX9_bestParcel_4 15 rfl rfl)
theorem dX9_bestParcel_112 : decode cX9_bestParcel 112 = .ok (.if_icmp .gt 7, 3) := dk_163 0 7 (dk_at dksX9_bestParcel_4 18 rfl rfl)
theorem dX9_bestParcel_115 : decode cX9_bestParcel 115 = .ok (.iconst 1, 1) := dk_4 (dk_at dksX9_bestParcel_4 21 rfl rfl)
theorem dX9_bestParcel_116 : decode cX9_bestParcel 116 = .ok (.goto 4, 3) := dk_167 0 4 (dk_at dksX9_bestParcel_5 0 rfl rfl)
theorem dX9_bestParcel_119 : decode cX9_bestParcel 119 = .ok (.iconst 0, 1) := dk_3 (dk_at dksX9_bestParcel_5 3 rfl rfl)
theorem dX9_bestParcel_120 : decode cX9_bestParcel 120 = .ok (.istore 7, 2) := dk_54 7 (dk_at dksX9_bestParcel_5 4 rfl rfl)
theorem dX9_bestParcel_122 : decode cX9_bestParcel 122 = .ok (.iload 5, 2) := dk_21 5 (dk_at dksX9_bestParcel_5 6 rfl rfl)
theorem dX9_bestParcel_124 : decode cX9_bestParcel 124 = .ok (.iload 6, 2) := dk_21 6 (dk_at dksX9_bestParcel_5 8 rfl rfl)
theorem dX9_bestParcel_126 : decode cX9_bestParcel 126 = .ok (.iadd, 1) := dk_96 (dk_at dksX9_bestParcel_5 10 rfl rfl)
theorem dX9_bestParcel_127 : decode cX9_bestParcel 127 = .ok (.istore 8, 2) := dk_54 8 (dk_at dksX9_bestParcel_5 11 rfl rfl)
theorem dX9_bestParcel_129 : decode cX9_bestParcel 129 = .ok (.iload 7, 2) := dk_21 7 (dk_at dksX9_bestParcel_5 13 rfl rfl)
theorem dX9_bestParcel_131 : decode cX9_bestParcel 131 = .ok (.ifCond .eq 42, 3) := dk_153 0 42 (dk_at dksX9_bestParcel_5 15 rfl rfl)
theorem dX9_bestParcel_134 : decode cX9_bestParcel 134 = .ok (.iload_n 2, 1) := dk_28 (dk_at dksX9_bestParcel_5 18 rfl rfl)
theorem dX9_bestParcel_135 : decode cX9_bestParcel 135 = .ok (.iconst (-1), 1) := dk_2 (dk_at dksX9_bestParcel_5 19 rfl rfl)
theorem dX9_bestParcel_136 : decode cX9_bestParcel 136 = .ok (.if_icmp .eq 31, 3) := dk_159 0 31 (dk_at dksX9_bestParcel_5 20 rfl rfl)
theorem dX9_bestParcel_139 : decode cX9_bestParcel 139 = .ok (.iload 8, 2) := dk_21 8 (dk_at dksX9_bestParcel_6 0 rfl rfl)
theorem dX9_bestParcel_141 : decode cX9_bestParcel 141 = .ok (.iload_n 3, 1) := dk_29 (dk_at dksX9_bestParcel_6 2 rfl rfl)
theorem dX9_bestParcel_142 : decode cX9_bestParcel 142 = .ok (.if_icmp .lt 25, 3) := dk_161 0 25 (dk_at dksX9_bestParcel_6 3 rfl rfl)
theorem dX9_bestParcel_145 : decode cX9_bestParcel 145 = .ok (.iload 8, 2) := dk_21 8 (dk_at dksX9_bestParcel_6 6 rfl rfl)
theorem dX9_bestParcel_147 : decode cX9_bestParcel 147 = .ok (.iload_n 3, 1) := dk_29 (dk_at dksX9_bestParcel_6 8 rfl rfl)
theorem dX9_bestParcel_148 : decode cX9_bestParcel 148 = .ok (.if_icmp .ne 25, 3) := dk_160 0 25 (dk_at dksX9_bestParcel_6 9 rfl rfl)
theorem dX9_bestParcel_151 : decode cX9_bestParcel 151 = .ok (.aload_n 0, 1) := dk_42 (dk_at dksX9_bestParcel_6 12 rfl rfl)
theorem dX9_bestParcel_152 : decode cX9_bestParcel 152 = .ok (.iload 4, 2) := dk_21 4 (dk_at dksX9_bestParcel_6 13 rfl rfl)
theorem dX9_bestParcel_154 : decode cX9_bestParcel 154 = .ok (.iconst 3, 1) := dk_6 (dk_at dksX9_bestParcel_6 15 rfl rfl)
theorem dX9_bestParcel_155 : decode cX9_bestParcel 155 = .ok (.invokevirtual 49, 3) := dk_182 0 49 (dk_at dksX9_bestParcel_6 16 rfl rfl)
theorem dX9_bestParcel_158 : decode cX9_bestParcel 158 = .ok (.aload_n 0, 1) := dk_42 (dk_at dksX9_bestParcel_6 19 rfl rfl)
theorem dX9_bestParcel_159 : decode cX9_bestParcel 159 = .ok (.iload_n 2, 1) := dk_28 (dk_at dksX9_bestParcel_6 20 rfl rfl)
theorem dX9_bestParcel_160 : decode cX9_bestParcel 160 = .ok (.iconst 3, 1) := dk_6 (dk_at dksX9_bestParcel_6 21 rfl rfl)
theorem dX9_bestParcel_161 : decode cX9_bestParcel 161 = .ok (.invokevirtual 49, 3) := dk_182 0 49 (dk_at dksX9_bestParcel_7 0 rfl rfl)
theorem dX9_bestParcel_164 : decode cX9_bestParcel 164 = .ok (.if_icmp .le 9, 3) := dk_164 0 9 (dk_at dksX9_bestParcel_7 3 rfl rfl)
theorem dX9_bestParcel_167 : decode cX9_bestParcel 167 = .ok (.iload 4, 2) := dk_21 4 (dk_at dksX9_bestParcel_7 6 rfl rfl)
theorem dX9_bestParcel_169 : decode cX9_bestParcel 169 = .ok (.istore_n 2, 1) := dk_61 (dk_at dksX9_bestParcel_7 8 rfl rfl)
theorem dX9_bestParcel_170 : decode cX9_bestParcel 170 = .ok (.iload 8, 2) := dk_21 8 (dk_at dksX9_bestParcel_7 9 rfl rfl)
theorem dX9_bestParcel_172 : decode cX9_bestParcel 172 = .ok (.istore_n 3, 1) := dk_62 (dk_at dksX9_bestParcel_7 11 rfl rfl)
theorem dX9_bestParcel_173 : decode cX9_bestParcel 173 = .ok (.iinc 4 1, 3) := dk_132 4 1 (dk_at dksX9_bestParcel_7 12 rfl rfl)
theorem dX9_bestParcel_176 : decode cX9_bestParcel 176 = .ok (.goto (-151), 3) := dk_167 255 105 (dk_at dksX9_bestParcel_7 15 rfl rfl)
theorem dX9_bestParcel_179 : decode cX9_bestParcel 179 = .ok (.iload_n 2, 1) := dk_28 (dk_at dksX9_bestParcel_7 18 rfl rfl)
theorem dX9_bestParcel_180 : decode cX9_bestParcel 180 = .ok (.iconst (-1), 1) := dk_2 (dk_at dksX9_bestParcel_7 19 rfl rfl)
theorem dX9_bestParcel_181 : decode cX9_bestParcel 181 = .ok (.if_icmp .ne 11, 3) := dk_160 0 11 (dk_at dksX9_bestParcel_7 20 rfl rfl)
theorem dX9_bestParcel_184 : decode cX9_bestParcel 184 = .ok (.aload_n 0, 1) := dk_42 (dk_at dksX9_bestParcel_7 23 rfl rfl)
theorem dX9_bestParcel_185 : decode cX9_bestParcel 185 = .ok (.iconst 2, 1) := dk_5 (dk_at dksX9_bestParcel_8 0 rfl rfl)
theorem dX9_bestParcel_186 : decode cX9_bestParcel 186 = .ok (.invokevirtual 122, 3) := dk_182 0 122 (dk_at dksX9_bestParcel_8 1 rfl rfl)
theorem dX9_bestParcel_189 : decode cX9_bestParcel 189 = .ok (.goto 4, 3) := dk_167 0 4 (dk_at dksX9_bestParcel_8 4 rfl rfl)
theorem dX9_bestParcel_192 : decode cX9_bestParcel 192 = .ok (.iload_n 2, 1) := dk_28 (dk_at dksX9_bestParcel_8 7 rfl rfl)
theorem dX9_bestParcel_193 : decode cX9_bestParcel 193 = .ok (.ireturn, 1) := dk_172 (dk_at dksX9_bestParcel_8 8 rfl rfl)
abbrev cX9_whyNoOrder : ByteArray := prog_17_method_95_code
def yX9_whyNoOrder : MethodName := ⟨RX9, "whyNoOrder", "(II)I"⟩
def dkwX9_whyNoOrder_1 : List UInt8 := [182, 0, 140, 167, 0, 8, 42, 4, 182, 0, 122, 172]
abbrev dktX9_whyNoOrder_1 : List UInt8 := dkwX9_whyNoOrder_1 ++ []
def dkwX9_whyNoOrder_0 : List UInt8 := [42, 3, 181, 0, 38, 27, 184, 0, 134, 153, 0, 20, 42, 28, 182, 0, 128, 153, 0, 12, 42, 27, 28]
abbrev dktX9_whyNoOrder_0 : List UInt8 := dkwX9_whyNoOrder_0 ++ dktX9_whyNoOrder_1
theorem dksX9_whyNoOrder_0 : cX9_whyNoOrder.data.toList.drop 0 = dktX9_whyNoOrder_0 := by decide +kernel
theorem dksX9_whyNoOrder_1 : cX9_whyNoOrder.data.toList.drop 23 = dktX9_whyNoOrder_1 := dk_seg dksX9_whyNoOrder_0 23 rfl rfl
theorem dX9_whyNoOrder_0 : decode cX9_whyNoOrder 0 = .ok (.aload_n 0, 1) := dk_42 (dk_at dksX9_whyNoOrder_0 0 rfl rfl)
theorem dX9_whyNoOrder_1 : decode cX9_whyNoOrder 1 = .ok (.iconst 0, 1) := dk_3 (dk_at dksX9_whyNoOrder_0 1 rfl rfl)
theorem dX9_whyNoOrder_2 : decode cX9_whyNoOrder 2 = .ok (.putfield 38, 3) := dk_181 0 38 (dk_at dksX9_whyNoOrder_0 2 rfl rfl)
theorem dX9_whyNoOrder_5 : decode cX9_whyNoOrder 5 = .ok (.iload_n 1, 1) := dk_27 (dk_at dksX9_whyNoOrder_0 5 rfl rfl)
theorem dX9_whyNoOrder_6 : decode cX9_whyNoOrder 6 = .ok (.invokestatic 134, 3) := dk_184 0 134 (dk_at dksX9_whyNoOrder_0 6 rfl rfl)
theorem dX9_whyNoOrder_9 : decode cX9_whyNoOrder 9 = .ok (.ifCond .eq 20, 3) := dk_153 0 20 (dk_at dksX9_whyNoOrder_0 9 rfl rfl)
theorem dX9_whyNoOrder_12 : decode cX9_whyNoOrder 12 = .ok (.aload_n 0, 1) := dk_42 (dk_at dksX9_whyNoOrder_0 12 rfl rfl)
theorem dX9_whyNoOrder_13 : decode cX9_whyNoOrder 13 = .ok (.iload_n 2, 1) := dk_28 (dk_at dksX9_whyNoOrder_0 13 rfl rfl)
theorem dX9_whyNoOrder_14 : decode cX9_whyNoOrder 14 = .ok (.invokevirtual 128, 3) := dk_182 0 128 (dk_at dksX9_whyNoOrder_0 14 rfl rfl)
theorem dX9_whyNoOrder_17 : decode cX9_whyNoOrder 17 = .ok (.ifCond .eq 12, 3) := dk_153 0 12 (dk_at dksX9_whyNoOrder_0 17 rfl rfl)
theorem dX9_whyNoOrder_20 : decode cX9_whyNoOrder 20 = .ok (.aload_n 0, 1) := dk_42 (dk_at dksX9_whyNoOrder_0 20 rfl rfl)
theorem dX9_whyNoOrder_21 : decode cX9_whyNoOrder 21 = .ok (.iload_n 1, 1) := dk_27 (dk_at dksX9_whyNoOrder_0 21 rfl rfl)
theorem dX9_whyNoOrder_22 : decode cX9_whyNoOrder 22 = .ok (.iload_n 2, 1) := dk_28 (dk_at dksX9_whyNoOrder_0 22 rfl rfl)
theorem dX9_whyNoOrder_23 : decode cX9_whyNoOrder 23 = .ok (.invokevirtual 140, 3) := dk_182 0 140 (dk_at dksX9_whyNoOrder_1 0 rfl rfl)
theorem dX9_whyNoOrder_26 : decode cX9_whyNoOrder 26 = .ok (.goto 8, 3) := dk_167 0 8 (dk_at dksX9_whyNoOrder_1 3 rfl rfl)
theorem dX9_whyNoOrder_29 : decode cX9_whyNoOrder 29 = .ok (.aload_n 0, 1) := dk_42 (dk_at dksX9_whyNoOrder_1 6 rfl rfl)
theorem dX9_whyNoOrder_30 : decode cX9_whyNoOrder 30 = .ok (.iconst 1, 1) := dk_4 (dk_at dksX9_whyNoOrder_1 7 rfl rfl)
theorem dX9_whyNoOrder_31 : decode cX9_whyNoOrder 31 = .ok (.invokevirtual 122, 3) := dk_182 0 122 (dk_at dksX9_whyNoOrder_1 8 rfl rfl)
theorem dX9_whyNoOrder_34 : decode cX9_whyNoOrder 34 = .ok (.ireturn, 1) := dk_172 (dk_at dksX9_whyNoOrder_1 11 rfl rfl)
abbrev cX9_wouldGo : ByteArray := prog_17_method_96_code
def yX9_wouldGo : MethodName := ⟨RX9, "wouldGo", "(I)I"⟩
def dkwX9_wouldGo_1 : List UInt8 := [167, 0, 8, 42, 4, 182, 0, 122, 172]
abbrev dktX9_wouldGo_1 : List UInt8 := dkwX9_wouldGo_1 ++ []
def dkwX9_wouldGo_0 : List UInt8 := [42, 3, 181, 0, 38, 42, 182, 0, 112, 27, 184, 0, 134, 153, 0, 12, 42, 180, 0, 22, 27, 46]
abbrev dktX9_wouldGo_0 : List UInt8 := dkwX9_wouldGo_0 ++ dktX9_wouldGo_1
theorem dksX9_wouldGo_0 : cX9_wouldGo.data.toList.drop 0 = dktX9_wouldGo_0 := by decide +kernel
theorem dksX9_wouldGo_1 : cX9_wouldGo.data.toList.drop 22 = dktX9_wouldGo_1 := dk_seg dksX9_wouldGo_0 22 rfl rfl
theorem dX9_wouldGo_0 : decode cX9_wouldGo 0 = .ok (.aload_n 0, 1) := dk_42 (dk_at dksX9_wouldGo_0 0 rfl rfl)
theorem dX9_wouldGo_1 : decode cX9_wouldGo 1 = .ok (.iconst 0, 1) := dk_3 (dk_at dksX9_wouldGo_0 1 rfl rfl)
theorem dX9_wouldGo_2 : decode cX9_wouldGo 2 = .ok (.putfield 38, 3) := dk_181 0 38 (dk_at dksX9_wouldGo_0 2 rfl rfl)
theorem dX9_wouldGo_5 : decode cX9_wouldGo 5 = .ok (.aload_n 0, 1) := dk_42 (dk_at dksX9_wouldGo_0 5 rfl rfl)
theorem dX9_wouldGo_6 : decode cX9_wouldGo 6 = .ok (.invokevirtual 112, 3) := dk_182 0 112 (dk_at dksX9_wouldGo_0 6 rfl rfl)
theorem dX9_wouldGo_9 : decode cX9_wouldGo 9 = .ok (.iload_n 1, 1) := dk_27 (dk_at dksX9_wouldGo_0 9 rfl rfl)
theorem dX9_wouldGo_10 : decode cX9_wouldGo 10 = .ok (.invokestatic 134, 3) := dk_184 0 134 (dk_at dksX9_wouldGo_0 10 rfl rfl)
theorem dX9_wouldGo_13 : decode cX9_wouldGo 13 = .ok (.ifCond .eq 12, 3) := dk_153 0 12 (dk_at dksX9_wouldGo_0 13 rfl rfl)
theorem dX9_wouldGo_16 : decode cX9_wouldGo 16 = .ok (.aload_n 0, 1) := dk_42 (dk_at dksX9_wouldGo_0 16 rfl rfl)
theorem dX9_wouldGo_17 : decode cX9_wouldGo 17 = .ok (.getfield 22, 3) := dk_180 0 22 (dk_at dksX9_wouldGo_0 17 rfl rfl)
theorem dX9_wouldGo_20 : decode cX9_wouldGo 20 = .ok (.iload_n 1, 1) := dk_27 (dk_at dksX9_wouldGo_0 20 rfl rfl)
theorem dX9_wouldGo_21 : decode cX9_wouldGo 21 = .ok (.iaload, 1) := dk_46 (dk_at dksX9_wouldGo_0 21 rfl rfl)
theorem dX9_wouldGo_22 : decode cX9_wouldGo 22 = .ok (.goto 8, 3) := dk_167 0 8 (dk_at dksX9_wouldGo_1 0 rfl rfl)
theorem dX9_wouldGo_25 : decode cX9_wouldGo 25 = .ok (.aload_n 0, 1) := dk_42 (dk_at dksX9_wouldGo_1 3 rfl rfl)
theorem dX9_wouldGo_26 : decode cX9_wouldGo 26 = .ok (.iconst 1, 1) := dk_4 (dk_at dksX9_wouldGo_1 4 rfl rfl)
theorem dX9_wouldGo_27 : decode cX9_wouldGo 27 = .ok (.invokevirtual 122, 3) := dk_182 0 122 (dk_at dksX9_wouldGo_1 5 rfl rfl)
theorem dX9_wouldGo_30 : decode cX9_wouldGo 30 = .ok (.ireturn, 1) := dk_172 (dk_at dksX9_wouldGo_1 8 rfl rfl)
abbrev cX9_meanLoad : ByteArray := prog_17_method_99_code
def yX9_meanLoad : MethodName := ⟨RX9, "meanLoad", "()F"⟩
def dkwX9_meanLoad_0 : List UInt8 := [42, 3, 181, 0, 38, 42, 182, 0, 196, 174]
abbrev dktX9_meanLoad_0 : List UInt8 := dkwX9_meanLoad_0 ++ []
theorem dksX9_meanLoad_0 : cX9_meanLoad.data.toList.drop 0 = dktX9_meanLoad_0 := by decide +kernel
theorem dX9_meanLoad_0 : decode cX9_meanLoad 0 = .ok (.aload_n 0, 1) := dk_42 (dk_at dksX9_meanLoad_0 0 rfl rfl)
theorem dX9_meanLoad_1 : decode cX9_meanLoad 1 = .ok (.iconst 0, 1) := dk_3 (dk_at dksX9_meanLoad_0 1 rfl rfl)
theorem dX9_meanLoad_2 : decode cX9_meanLoad 2 = .ok (.putfield 38, 3) := dk_181 0 38 (dk_at dksX9_meanLoad_0 2 rfl rfl)
theorem dX9_meanLoad_5 : decode cX9_meanLoad 5 = .ok (.aload_n 0, 1) := dk_42 (dk_at dksX9_meanLoad_0 5 rfl rfl)
theorem dX9_meanLoad_6 : decode cX9_meanLoad 6 = .ok (.invokevirtual 196, 3) := dk_182 0 196 (dk_at dksX9_meanLoad_0 6 rfl rfl)
theorem dX9_meanLoad_9 : decode cX9_meanLoad 9 = .ok (.freturn, 1) := dk_174 (dk_at dksX9_meanLoad_0 9 rfl rfl)
abbrev cX9_mean : ByteArray := prog_17_method_97_code
def yX9_mean : MethodName := ⟨RX9, "mean", "()F"⟩
def dkwX9_mean_1 : List UInt8 := [18, 195, 110, 174]
abbrev dktX9_mean_1 : List UInt8 := dkwX9_mean_1 ++ []
def dkwX9_mean_0 : List UInt8 := [42, 3, 182, 0, 94, 42, 4, 182, 0, 94, 96, 42, 5, 182, 0, 94, 96, 42, 6, 182, 0, 94, 96, 134]
abbrev dktX9_mean_0 : List UInt8 := dkwX9_mean_0 ++ dktX9_mean_1
theorem dksX9_mean_0 : cX9_mean.data.toList.drop 0 = dktX9_mean_0 := by decide +kernel
theorem dksX9_mean_1 : cX9_mean.data.toList.drop 24 = dktX9_mean_1 := dk_seg dksX9_mean_0 24 rfl rfl
theorem dX9_mean_0 : decode cX9_mean 0 = .ok (.aload_n 0, 1) := dk_42 (dk_at dksX9_mean_0 0 rfl rfl)
theorem dX9_mean_1 : decode cX9_mean 1 = .ok (.iconst 0, 1) := dk_3 (dk_at dksX9_mean_0 1 rfl rfl)
theorem dX9_mean_2 : decode cX9_mean 2 = .ok (.invokevirtual 94, 3) := dk_182 0 94 (dk_at dksX9_mean_0 2 rfl rfl)
theorem dX9_mean_5 : decode cX9_mean 5 = .ok (.aload_n 0, 1) := dk_42 (dk_at dksX9_mean_0 5 rfl rfl)
theorem dX9_mean_6 : decode cX9_mean 6 = .ok (.iconst 1, 1) := dk_4 (dk_at dksX9_mean_0 6 rfl rfl)
theorem dX9_mean_7 : decode cX9_mean 7 = .ok (.invokevirtual 94, 3) := dk_182 0 94 (dk_at dksX9_mean_0 7 rfl rfl)
theorem dX9_mean_10 : decode cX9_mean 10 = .ok (.iadd, 1) := dk_96 (dk_at dksX9_mean_0 10 rfl rfl)
theorem dX9_mean_11 : decode cX9_mean 11 = .ok (.aload_n 0, 1) := dk_42 (dk_at dksX9_mean_0 11 rfl rfl)
theorem dX9_mean_12 : decode cX9_mean 12 = .ok (.iconst 2, 1) := dk_5 (dk_at dksX9_mean_0 12 rfl rfl)
theorem dX9_mean_13 : decode cX9_mean 13 = .ok (.invokevirtual 94, 3) := dk_182 0 94 (dk_at dksX9_mean_0 13 rfl rfl)
theorem dX9_mean_16 : decode cX9_mean 16 = .ok (.iadd, 1) := dk_96 (dk_at dksX9_mean_0 16 rfl rfl)
theorem dX9_mean_17 : decode cX9_mean 17 = .ok (.aload_n 0, 1) := dk_42 (dk_at dksX9_mean_0 17 rfl rfl)
theorem dX9_mean_18 : decode cX9_mean 18 = .ok (.iconst 3, 1) := dk_6 (dk_at dksX9_mean_0 18 rfl rfl)
theorem dX9_mean_19 : decode cX9_mean 19 = .ok (.invokevirtual 94, 3) := dk_182 0 94 (dk_at dksX9_mean_0 19 rfl rfl)
theorem dX9_mean_22 : decode cX9_mean 22 = .ok (.iadd, 1) := dk_96 (dk_at dksX9_mean_0 22 rfl rfl)
theorem dX9_mean_23 : decode cX9_mean 23 = .ok (.i2f, 1) := dk_134 (dk_at dksX9_mean_0 23 rfl rfl)
theorem dX9_mean_24 : decode cX9_mean 24 = .ok (.ldc 195, 2) := dk_18 195 (dk_at dksX9_mean_1 0 rfl rfl)
theorem dX9_mean_26 : decode cX9_mean 26 = .ok (.fdiv, 1) := dk_110 (dk_at dksX9_mean_1 2 rfl rfl)
theorem dX9_mean_27 : decode cX9_mean 27 = .ok (.freturn, 1) := dk_174 (dk_at dksX9_mean_1 3 rfl rfl)
abbrev cX9_deliveredShare : ByteArray := prog_17_method_100_code
def yX9_deliveredShare : MethodName := ⟨RX9, "deliveredShare", "()D"⟩
def dkwX9_deliveredShare_0 : List UInt8 := [42, 3, 181, 0, 38, 42, 182, 0, 200, 175]
abbrev dktX9_deliveredShare_0 : List UInt8 := dkwX9_deliveredShare_0 ++ []
theorem dksX9_deliveredShare_0 : cX9_deliveredShare.data.toList.drop 0 = dktX9_deliveredShare_0 := by decide +kernel
theorem dX9_deliveredShare_0 : decode cX9_deliveredShare 0 = .ok (.aload_n 0, 1) := dk_42 (dk_at dksX9_deliveredShare_0 0 rfl rfl)
theorem dX9_deliveredShare_1 : decode cX9_deliveredShare 1 = .ok (.iconst 0, 1) := dk_3 (dk_at dksX9_deliveredShare_0 1 rfl rfl)
theorem dX9_deliveredShare_2 : decode cX9_deliveredShare 2 = .ok (.putfield 38, 3) := dk_181 0 38 (dk_at dksX9_deliveredShare_0 2 rfl rfl)
theorem dX9_deliveredShare_5 : decode cX9_deliveredShare 5 = .ok (.aload_n 0, 1) := dk_42 (dk_at dksX9_deliveredShare_0 5 rfl rfl)
theorem dX9_deliveredShare_6 : decode cX9_deliveredShare 6 = .ok (.invokevirtual 200, 3) := dk_182 0 200 (dk_at dksX9_deliveredShare_0 6 rfl rfl)
theorem dX9_deliveredShare_9 : decode cX9_deliveredShare 9 = .ok (.dreturn, 1) := dk_175 (dk_at dksX9_deliveredShare_0 9 rfl rfl)
abbrev cX9_share : ByteArray := prog_17_method_98_code
def yX9_share : MethodName := ⟨RX9, "share", "()D"⟩
def dkwX9_share_2 : List UInt8 := [154, 0, 7, 14, 167, 0, 14, 27, 135, 42, 180, 0, 7, 16, 117, 46, 135, 111, 175]
abbrev dktX9_share_2 : List UInt8 := dkwX9_share_2 ++ []
def dkwX9_share_1 : List UInt8 := [160, 0, 7, 4, 167, 0, 4, 3, 96, 60, 132, 2, 1, 167, 255, 224, 42, 180, 0, 7, 16, 117, 46]
abbrev dktX9_share_1 : List UInt8 := dkwX9_share_1 ++ dktX9_share_2
def dkwX9_share_0 : List UInt8 := [3, 60, 3, 61, 28, 42, 180, 0, 7, 16, 117, 46, 162, 0, 27, 27, 42, 28, 7, 182, 0, 49, 5]
abbrev dktX9_share_0 : List UInt8 := dkwX9_share_0 ++ dktX9_share_1
theorem dksX9_share_0 : cX9_share.data.toList.drop 0 = dktX9_share_0 := by decide +kernel
theorem dksX9_share_1 : cX9_share.data.toList.drop 23 = dktX9_share_1 := dk_seg dksX9_share_0 23 rfl rfl
theorem dksX9_share_2 : cX9_share.data.toList.drop 46 = dktX9_share_2 := dk_seg dksX9_share_1 23 rfl rfl
theorem dX9_share_0 : decode cX9_share 0 = .ok (.iconst 0, 1) := dk_3 (dk_at dksX9_share_0 0 rfl rfl)
theorem dX9_share_1 : decode cX9_share 1 = .ok (.istore_n 1, 1) := dk_60 (dk_at dksX9_share_0 1 rfl rfl)
theorem dX9_share_2 : decode cX9_share 2 = .ok (.iconst 0, 1) := dk_3 (dk_at dksX9_share_0 2 rfl rfl)
theorem dX9_share_3 : decode cX9_share 3 = .ok (.istore_n 2, 1) := dk_61 (dk_at dksX9_share_0 3 rfl rfl)
theorem dX9_share_4 : decode cX9_share 4 = .ok (.iload_n 2, 1) := dk_28 (dk_at dksX9_share_0 4 rfl rfl)
theorem dX9_share_5 : decode cX9_share 5 = .ok (.aload_n 0, 1) := dk_42 (dk_at dksX9_share_0 5 rfl rfl)
theorem dX9_share_6 : decode cX9_share 6 = .ok (.getfield 7, 3) := dk_180 0 7 (dk_at dksX9_share_0 6 rfl rfl)
theorem dX9_share_9 : decode cX9_share 9 = .ok (.bipush 117, 2) := dk_16 117 (dk_at dksX9_share_0 9 rfl rfl)
theorem dX9_share_11 : decode cX9_share 11 = .ok (.iaload, 1) := dk_46 (dk_at dksX9_share_0 11 rfl rfl)
theorem dX9_share_12 : decode cX9_share 12 = .ok (.if_icmp .ge 27, 3) := dk_162 0 27 (dk_at dksX9_share_0 12 rfl rfl)
theorem dX9_share_15 : decode cX9_share 15 = .ok (.iload_n 1, 1) := dk_27 (dk_at dksX9_share_0 15 rfl rfl)
theorem dX9_share_16 : decode cX9_share 16 = .ok (.aload_n 0, 1) := dk_42 (dk_at dksX9_share_0 16 rfl rfl)
theorem dX9_share_17 : decode cX9_share 17 = .ok (.iload_n 2, 1) := dk_28 (dk_at dksX9_share_0 17 rfl rfl)
theorem dX9_share_18 : decode cX9_share 18 = .ok (.iconst 4, 1) := dk_7 (dk_at dksX9_share_0 18 rfl rfl)
theorem dX9_share_19 : decode cX9_share 19 = .ok (.invokevirtual 49, 3) := dk_182 0 49 (dk_at dksX9_share_0 19 rfl rfl)
theorem dX9_share_22 : decode cX9_share 22 = .ok (.iconst 2, 1) := dk_5 (dk_at dksX9_share_0 22 rfl rfl)
theorem dX9_share_23 : decode cX9_share 23 = .ok (.if_icmp .ne 7, 3) := dk_160 0 7 (dk_at dksX9_share_1 0 rfl rfl)
theorem dX9_share_26 : decode cX9_share 26 = .ok (.iconst 1, 1) := dk_4 (dk_at dksX9_share_1 3 rfl rfl)
theorem dX9_share_27 : decode cX9_share 27 = .ok (.goto 4, 3) := dk_167 0 4 (dk_at dksX9_share_1 4 rfl rfl)
theorem dX9_share_30 : decode cX9_share 30 = .ok (.iconst 0, 1) := dk_3 (dk_at dksX9_share_1 7 rfl rfl)
theorem dX9_share_31 : decode cX9_share 31 = .ok (.iadd, 1) := dk_96 (dk_at dksX9_share_1 8 rfl rfl)
theorem dX9_share_32 : decode cX9_share 32 = .ok (.istore_n 1, 1) := dk_60 (dk_at dksX9_share_1 9 rfl rfl)
theorem dX9_share_33 : decode cX9_share 33 = .ok (.iinc 2 1, 3) := dk_132 2 1 (dk_at dksX9_share_1 10 rfl rfl)
theorem dX9_share_36 : decode cX9_share 36 = .ok (.goto (-32), 3) := dk_167 255 224 (dk_at dksX9_share_1 13 rfl rfl)
theorem dX9_share_39 : decode cX9_share 39 = .ok (.aload_n 0, 1) := dk_42 (dk_at dksX9_share_1 16 rfl rfl)
theorem dX9_share_40 : decode cX9_share 40 = .ok (.getfield 7, 3) := dk_180 0 7 (dk_at dksX9_share_1 17 rfl rfl)
theorem dX9_share_43 : decode cX9_share 43 = .ok (.bipush 117, 2) := dk_16 117 (dk_at dksX9_share_1 20 rfl rfl)
theorem dX9_share_45 : decode cX9_share 45 = .ok (.iaload, 1) := dk_46 (dk_at dksX9_share_1 22 rfl rfl)
theorem dX9_share_46 : decode cX9_share 46 = .ok (.ifCond .ne 7, 3) := dk_154 0 7 (dk_at dksX9_share_2 0 rfl rfl)
theorem dX9_share_49 : decode cX9_share 49 = .ok (.dconst 0, 1) := dk_14 (dk_at dksX9_share_2 3 rfl rfl)
theorem dX9_share_50 : decode cX9_share 50 = .ok (.goto 14, 3) := dk_167 0 14 (dk_at dksX9_share_2 4 rfl rfl)
theorem dX9_share_53 : decode cX9_share 53 = .ok (.iload_n 1, 1) := dk_27 (dk_at dksX9_share_2 7 rfl rfl)
theorem dX9_share_54 : decode cX9_share 54 = .ok (.i2d, 1) := dk_135 (dk_at dksX9_share_2 8 rfl rfl)
theorem dX9_share_55 : decode cX9_share 55 = .ok (.aload_n 0, 1) := dk_42 (dk_at dksX9_share_2 9 rfl rfl)
theorem dX9_share_56 : decode cX9_share 56 = .ok (.getfield 7, 3) := dk_180 0 7 (dk_at dksX9_share_2 10 rfl rfl)
theorem dX9_share_59 : decode cX9_share 59 = .ok (.bipush 117, 2) := dk_16 117 (dk_at dksX9_share_2 13 rfl rfl)
theorem dX9_share_61 : decode cX9_share 61 = .ok (.iaload, 1) := dk_46 (dk_at dksX9_share_2 15 rfl rfl)
theorem dX9_share_62 : decode cX9_share 62 = .ok (.i2d, 1) := dk_135 (dk_at dksX9_share_2 16 rfl rfl)
theorem dX9_share_63 : decode cX9_share 63 = .ok (.ddiv, 1) := dk_111 (dk_at dksX9_share_2 17 rfl rfl)
theorem dX9_share_64 : decode cX9_share 64 = .ok (.dreturn, 1) := dk_175 (dk_at dksX9_share_2 18 rfl rfl)
abbrev cX9_digest : ByteArray := prog_17_method_104_code
def yX9_digest : MethodName := ⟨RX9, "digest", "()J"⟩
def dkwX9_digest_25 : List UInt8 := [173]
abbrev dktX9_digest_25 : List UInt8 := dkwX9_digest_25 ++ []
def dkwX9_digest_24 : List UInt8 := [162, 0, 20, 42, 42, 180, 0, 19, 27, 46, 133, 182, 0, 214, 132, 1, 1, 167, 255, 234, 42, 180, 0, 210]
abbrev dktX9_digest_24 : List UInt8 := dkwX9_digest_24 ++ dktX9_digest_25
def dkwX9_digest_23 : List UInt8 := [184, 0, 224, 182, 0, 214, 42, 42, 180, 0, 146, 133, 182, 0, 214, 3, 60, 27, 42, 180, 0, 146]
abbrev dktX9_digest_23 : List UInt8 := dkwX9_digest_23 ++ dktX9_digest_24
def dkwX9_digest_22 : List UInt8 := [182, 0, 196, 141, 16, 23, 16, 127, 184, 0, 224, 182, 0, 214, 42, 42, 182, 0, 200, 16, 52, 17, 3, 255]
abbrev dktX9_digest_22 : List UInt8 := dkwX9_digest_22 ++ dktX9_digest_23
def dkwX9_digest_21 : List UInt8 := [17, 0, 172, 46, 4, 160, 0, 16, 42, 42, 180, 0, 7, 17, 0, 173, 46, 133, 182, 0, 214, 42, 42]
abbrev dktX9_digest_21 : List UInt8 := dkwX9_digest_21 ++ dktX9_digest_22
def dkwX9_digest_20 : List UInt8 := [42, 180, 0, 7, 17, 0, 172, 46, 4, 160, 0, 7, 4, 167, 0, 4, 3, 182, 0, 220, 42, 180, 0, 7]
abbrev dktX9_digest_20 : List UInt8 := dkwX9_digest_20 ++ dktX9_digest_21
def dkwX9_digest_19 : List UInt8 := [182, 0, 49, 153, 0, 14, 42, 42, 27, 8, 182, 0, 49, 133, 182, 0, 214, 132, 1, 1, 167, 255, 175, 42]
abbrev dktX9_digest_19 : List UInt8 := dkwX9_digest_19 ++ dktX9_digest_20
def dkwX9_digest_18 : List UInt8 := [160, 0, 7, 4, 167, 0, 4, 3, 182, 0, 220, 42, 42, 27, 182, 0, 179, 133, 182, 0, 214, 42, 27, 7]
abbrev dktX9_digest_18 : List UInt8 := dkwX9_digest_18 ++ dktX9_digest_19
def dkwX9_digest_17 : List UInt8 := [182, 0, 49, 154, 0, 7, 4, 167, 0, 4, 3, 182, 0, 220, 42, 42, 27, 7, 182, 0, 49, 5]
abbrev dktX9_digest_17 : List UInt8 := dkwX9_digest_17 ++ dktX9_digest_18
def dkwX9_digest_16 : List UInt8 := [132, 1, 1, 167, 255, 92, 3, 60, 27, 42, 180, 0, 7, 16, 117, 46, 162, 0, 76, 42, 42, 27, 7]
abbrev dktX9_digest_16 : List UInt8 := dkwX9_digest_16 ++ dktX9_digest_17
def dkwX9_digest_15 : List UInt8 := [16, 10, 162, 0, 20, 42, 42, 180, 0, 28, 29, 46, 133, 182, 0, 214, 132, 3, 1, 167, 255, 236]
abbrev dktX9_digest_15 : List UInt8 := dkwX9_digest_15 ++ dktX9_digest_16
def dkwX9_digest_14 : List UInt8 := [182, 0, 214, 42, 28, 133, 182, 0, 214, 42, 42, 180, 0, 22, 27, 46, 133, 182, 0, 214, 3, 62, 29]
abbrev dktX9_digest_14 : List UInt8 := dkwX9_digest_14 ++ dktX9_digest_15
def dkwX9_digest_13 : List UInt8 := [182, 0, 214, 42, 42, 27, 7, 182, 0, 53, 133, 182, 0, 214, 42, 27, 182, 0, 189, 61, 42, 28, 133]
abbrev dktX9_digest_13 : List UInt8 := dkwX9_digest_13 ++ dktX9_digest_14
def dkwX9_digest_12 : List UInt8 := [159, 0, 14, 42, 42, 27, 5, 182, 0, 53, 133, 182, 0, 214, 42, 42, 27, 6, 182, 0, 53, 133]
abbrev dktX9_digest_12 : List UInt8 := dkwX9_digest_12 ++ dktX9_digest_13
def dkwX9_digest_11 : List UInt8 := [5, 182, 0, 53, 2, 159, 0, 7, 4, 167, 0, 4, 3, 182, 0, 220, 42, 27, 5, 182, 0, 53, 2]
abbrev dktX9_digest_11 : List UInt8 := dkwX9_digest_11 ++ dktX9_digest_12
def dkwX9_digest_10 : List UInt8 := [160, 0, 7, 4, 167, 0, 4, 3, 182, 0, 220, 42, 42, 27, 182, 0, 94, 133, 182, 0, 214, 42, 42, 27]
abbrev dktX9_digest_10 : List UInt8 := dkwX9_digest_10 ++ dktX9_digest_11
def dkwX9_digest_9 : List UInt8 := [162, 0, 165, 42, 42, 27, 3, 182, 0, 53, 133, 182, 0, 214, 42, 42, 27, 4, 182, 0, 53, 4]
abbrev dktX9_digest_9 : List UInt8 := dkwX9_digest_9 ++ dktX9_digest_10
def dkwX9_digest_8 : List UInt8 := [133, 182, 0, 214, 42, 42, 27, 182, 0, 80, 182, 0, 220, 132, 1, 1, 167, 255, 214, 3, 60, 27, 7]
abbrev dktX9_digest_8 : List UInt8 := dkwX9_digest_8 ++ dktX9_digest_9
def dkwX9_digest_7 : List UInt8 := [180, 0, 7, 3, 46, 162, 0, 38, 42, 42, 27, 182, 0, 77, 133, 182, 0, 214, 42, 42, 27, 182, 0, 91]
abbrev dktX9_digest_7 : List UInt8 := dkwX9_digest_7 ++ dktX9_digest_8
def dkwX9_digest_6 : List UInt8 := [180, 0, 7, 17, 0, 171, 46, 133, 182, 0, 214, 42, 42, 180, 0, 46, 133, 182, 0, 214, 3, 60, 27, 42]
abbrev dktX9_digest_6 : List UInt8 := dkwX9_digest_6 ++ dktX9_digest_7
def dkwX9_digest_5 : List UInt8 := [17, 0, 170, 46, 133, 182, 0, 214, 42, 42, 180, 0, 7, 17, 0, 171, 46, 133, 182, 0, 214, 42, 42]
abbrev dktX9_digest_5 : List UInt8 := dkwX9_digest_5 ++ dktX9_digest_6
def dkwX9_digest_4 : List UInt8 := [133, 182, 0, 214, 42, 42, 180, 0, 7, 17, 0, 170, 46, 133, 182, 0, 214, 42, 42, 180, 0, 7]
abbrev dktX9_digest_4 : List UInt8 := dkwX9_digest_4 ++ dktX9_digest_5
def dkwX9_digest_3 : List UInt8 := [182, 0, 68, 182, 0, 71, 133, 182, 0, 214, 42, 42, 182, 0, 182, 133, 182, 0, 214, 42, 42, 182, 0, 74]
abbrev dktX9_digest_3 : List UInt8 := dkwX9_digest_3 ++ dktX9_digest_4
def dkwX9_digest_2 : List UInt8 := [133, 182, 0, 214, 42, 42, 180, 0, 7, 17, 0, 169, 46, 133, 182, 0, 214, 42, 42, 42, 182, 0, 64, 42]
abbrev dktX9_digest_2 : List UInt8 := dkwX9_digest_2 ++ dktX9_digest_3
def dkwX9_digest_1 : List UInt8 := [182, 0, 214, 42, 42, 180, 0, 7, 16, 117, 46, 133, 182, 0, 214, 42, 42, 180, 0, 7, 17, 0, 168, 46]
abbrev dktX9_digest_1 : List UInt8 := dkwX9_digest_1 ++ dktX9_digest_2
def dkwX9_digest_0 : List UInt8 := [42, 3, 181, 0, 38, 42, 182, 0, 112, 42, 20, 0, 218, 181, 0, 210, 42, 42, 180, 0, 7, 3, 46, 133]
abbrev dktX9_digest_0 : List UInt8 := dkwX9_digest_0 ++ dktX9_digest_1
theorem dksX9_digest_0 : cX9_digest.data.toList.drop 0 = dktX9_digest_0 := by decide +kernel
theorem dksX9_digest_1 : cX9_digest.data.toList.drop 24 = dktX9_digest_1 := dk_seg dksX9_digest_0 24 rfl rfl
theorem dksX9_digest_2 : cX9_digest.data.toList.drop 48 = dktX9_digest_2 := dk_seg dksX9_digest_1 24 rfl rfl
theorem dksX9_digest_3 : cX9_digest.data.toList.drop 72 = dktX9_digest_3 := dk_seg dksX9_digest_2 24 rfl rfl
theorem dksX9_digest_4 : cX9_digest.data.toList.drop 96 = dktX9_digest_4 := dk_seg dksX9_digest_3 24 rfl rfl
theorem dksX9_digest_5 : cX9_digest.data.toList.drop 118 = dktX9_digest_5 := dk_seg dksX9_digest_4 22 rfl rfl
theorem dksX9_digest_6 : cX9_digest.data.toList.drop 141 = dktX9_digest_6 := dk_seg dksX9_digest_5 23 rfl rfl
theorem dksX9_digest_7 : cX9_digest.data.toList.drop 165 = dktX9_digest_7 := dk_seg dksX9_digest_6 24 rfl rfl
theorem dksX9_digest_8 : cX9_digest.data.toList.drop 189 = dktX9_digest_8 := dk_seg dksX9_digest_7 24 rfl rfl
theorem dksX9_digest_9 : cX9_digest.data.toList.drop 212 = dktX9_digest_9 := dk_seg dksX9_digest_8 23 rfl rfl
theorem dksX9_digest_10 : cX9_digest.data.toList.drop 234 = dktX9_digest_10 := dk_seg dksX9_digest_9 22 rfl rfl
theorem dksX9_digest_11 : cX9_digest.data.toList.drop 258 = dktX9_digest_11 := dk_seg dksX9_digest_10 24 rfl rfl
theorem dksX9_digest_12 : cX9_digest.data.toList.drop 281 = dktX9_digest_12 := dk_seg dksX9_digest_11 23 rfl rfl
theorem dksX9_digest_13 : cX9_digest.data.toList.drop 303 = dktX9_digest_13 := dk_seg dksX9_digest_12 22 rfl rfl
theorem dksX9_digest_14 : cX9_digest.data.toList.drop 326 = dktX9_digest_14 := dk_seg dksX9_digest_13 23 rfl rfl
theorem dksX9_digest_15 : cX9_digest.data.toList.drop 349 = dktX9_digest_15 := dk_seg dksX9_digest_14 23 rfl rfl
theorem dksX9_digest_16 : cX9_digest.data.toList.drop 371 = dktX9_digest_16 := dk_seg dksX9_digest_15 22 rfl rfl
theorem dksX9_digest_17 : cX9_digest.data.toList.drop 394 = dktX9_digest_17 := dk_seg dksX9_digest_16 23 rfl rfl
theorem dksX9_digest_18 : cX9_digest.data.toList.drop 416 = dktX9_digest_18 := dk_seg dksX9_digest_17 22 rfl rfl
theorem dksX9_digest_19 : cX9_digest.data.toList.drop 440 = dktX9_digest_19 := dk_seg dksX9_digest_18 24 rfl rfl
theorem dksX9_digest_20 : cX9_digest.data.toList.drop 464 = dktX9_digest_20 := dk_seg dksX9_digest_19 24 rfl rfl
theorem dksX9_digest_21 : cX9_digest.data.toList.drop 488 = dktX9_digest_21 := dk_seg dksX9_digest_20 24 rfl rfl
theorem dksX9_digest_22 : cX9_digest.data.toList.drop 511 = dktX9_digest_22 := dk_seg dksX9_digest_21 23 rfl rfl
theorem dksX9_digest_23 : cX9_digest.data.toList.drop 535 = dktX9_digest_23 := dk_seg dksX9_digest_22 24 rfl rfl
theorem dksX9_digest_24 : cX9_digest.data.toList.drop 557 = dktX9_digest_24 := dk_seg dksX9_digest_23 22 rfl rfl
theorem dksX9_digest_25 : cX9_digest.data.toList.drop 581 = dktX9_digest_25 := dk_seg dksX9_digest_24 24 rfl rfl
theorem dX9_digest_0 : decode cX9_digest 0 = .ok (.aload_n 0, 1) := dk_42 (dk_at dksX9_digest_0 0 rfl rfl)
theorem dX9_digest_1 : decode cX9_digest 1 = .ok (.iconst 0, 1) := dk_3 (dk_at dksX9_digest_0 1 rfl rfl)
theorem dX9_digest_2 : decode cX9_digest 2 = .ok (.putfield 38, 3) := dk_181 0 38 (dk_at dksX9_digest_0 2 rfl rfl)
theorem dX9_digest_5 : decode cX9_digest 5 = .ok (.aload_n 0, 1) := dk_42 (dk_at dksX9_digest_0 5 rfl rfl)
theorem dX9_digest_6 : decode cX9_digest 6 = .ok (.invokevirtual 112, 3) := dk_182 0 112 (dk_at dksX9_digest_0 6 rfl rfl)
theorem dX9_digest_9 : decode cX9_digest 9 = .ok (.aload_n 0, 1) := dk_42 (dk_at dksX9_digest_0 9 rfl rfl)
theorem dX9_digest_10 : decode cX9_digest 10 = .ok (.ldc2_w 218, 3) := dk_20 0 218 (dk_at dksX9_digest_0 10 rfl rfl)
theorem dX9_digest_13 : decode cX9_digest 13 = .ok (.putfield 210, 3) := dk_181 0 210 (dk_at dksX9_digest_0 13 rfl rfl)
theorem dX9_digest_16 : decode cX9_digest 16 = .ok (.aload_n 0, 1) := dk_42 (dk_at dksX9_digest_0 16 rfl rfl)
theorem dX9_digest_17 : decode cX9_digest 17 = .ok (.aload_n 0, 1) := dk_42 (dk_at dksX9_digest_0 17 rfl rfl)
theorem dX9_digest_18 : decode cX9_digest 18 = .ok (.getfield 7, 3) := dk_180 0 7 (dk_at dksX9_digest_0 18 rfl rfl)
theorem dX9_digest_21 : decode cX9_digest 21 = .ok (.iconst 0, 1) := dk_3 (dk_at dksX9_digest_0 21 rfl rfl)
theorem dX9_digest_22 : decode cX9_digest 22 = .ok (.iaload, 1) := dk_46 (dk_at dksX9_digest_0 22 rfl rfl)
theorem dX9_digest_23 : decode cX9_digest 23 = .ok (.i2l, 1) := dk_133 (dk_at dksX9_digest_0 23 rfl rfl)
theorem dX9_digest_24 : decode cX9_digest 24 = .ok (.invokevirtual 214, 3) := dk_182 0 214 (dk_at dksX9_digest_1 0 rfl rfl)
theorem dX9_digest_27 : decode cX9_digest 27 = .ok (.aload_n 0, 1) := dk_42 (dk_at dksX9_digest_1 3 rfl rfl)
theorem dX9_digest_28 : decode cX9_digest 28 = .ok (.aload_n 0, 1) := dk_42 (dk_at dksX9_digest_1 4 rfl rfl)
theorem dX9_digest_29 : decode cX9_digest 29 = .ok (.getfield 7, 3) := dk_180 0 7 (dk_at dksX9_digest_1 5 rfl rfl)
theorem dX9_digest_32 : decode cX9_digest 32 = .ok (.bipush 117, 2) := dk_16 117 (dk_at dksX9_digest_1 8 rfl rfl)
theorem dX9_digest_34 : decode cX9_digest 34 = .ok (.iaload, 1) := dk_46 (dk_at dksX9_digest_1 10 rfl rfl)
theorem dX9_digest_35 : decode cX9_digest 35 = .ok (.i2l, 1) := dk_133 (dk_at dksX9_digest_1 11 rfl rfl)
theorem dX9_digest_36 : decode cX9_digest 36 = .ok (.invokevirtual 214, 3) := dk_182 0 214 (dk_at dksX9_digest_1 12 rfl rfl)
theorem dX9_digest_39 : decode cX9_digest 39 = .ok (.aload_n 0, 1) := dk_42 (dk_at dksX9_digest_1 15 rfl rfl)
theorem dX9_digest_40 : decode cX9_digest 40 = .ok (.aload_n 0, 1) := dk_42 (dk_at dksX9_digest_1 16 rfl rfl)
theorem dX9_digest_41 : decode cX9_digest 41 = .ok (.getfield 7, 3) := dk_180 0 7 (dk_at dksX9_digest_1 17 rfl rfl)
theorem dX9_digest_44 : decode cX9_digest 44 = .ok (.sipush 168, 3) := dk_17 0 168 (dk_at dksX9_digest_1 20 rfl rfl)
theorem dX9_digest_47 : decode cX9_digest 47 = .ok (.iaload, 1) := dk_46 (dk_at dksX9_digest_1 23 rfl rfl)
theorem dX9_digest_48 : decode cX9_digest 48 = .ok (.i2l, 1) := dk_133 (dk_at dksX9_digest_2 0 rfl rfl)
theorem dX9_digest_49 : decode cX9_digest 49 = .ok (.invokevirtual 214, 3) := dk_182 0 214 (dk_at dksX9_digest_2 1 rfl rfl)
theorem dX9_digest_52 : decode cX9_digest 52 = .ok (.aload_n 0, 1) := dk_42 (dk_at dksX9_digest_2 4 rfl rfl)
theorem dX9_digest_53 : decode cX9_digest 53 = .ok (.aload_n 0, 1) := dk_42 (dk_at dksX9_digest_2 5 rfl rfl)
theorem dX9_digest_54 : decode cX9_digest 54 = .ok (.getfield 7, 3) := dk_180 0 7 (dk_at dksX9_digest_2 6 rfl rfl)
theorem dX9_digest_57 : decode cX9_digest 57 = .ok (.sipush 169, 3) := dk_17 0 169 (dk_at dksX9_digest_2 9 rfl rfl)
theorem dX9_digest_60 : decode cX9_digest 60 = .ok (.iaload, 1) := dk_46 (dk_at dksX9_digest_2 12 rfl rfl)
theorem dX9_digest_61 : decode cX9_digest 61 = .ok (.i2l, 1) := dk_133 (dk_at dksX9_digest_2 13 rfl rfl)
theorem dX9_digest_62 : decode cX9_digest 62 = .ok (.invokevirtual 214, 3) := dk_182 0 214 (dk_at dksX9_digest_2 14 rfl rfl)
theorem dX9_digest_65 : decode cX9_digest 65 = .ok (.aload_n 0, 1) := dk_42 (dk_at dksX9_digest_2 17 rfl rfl)
theorem dX9_digest_66 : decode cX9_digest 66 = .ok (.aload_n 0, 1) := dk_42 (dk_at dksX9_digest_2 18 rfl rfl)
theorem dX9_digest_67 : decode cX9_digest 67 = .ok (.aload_n 0, 1) := dk_42 (dk_at dksX9_digest_2 19 rfl rfl)
theorem dX9_digest_68 : decode cX9_digest 68 = .ok (.invokevirtual 64, 3) := dk_182 0 64 (dk_at dksX9_digest_2 20 rfl rfl)
theorem dX9_digest_71 : decode cX9_digest 71 = .ok (.aload_n 0, 1) := dk_42 (dk_at dksX9_digest_2 23 rfl rfl)
theorem dX9_digest_72 : decode cX9_digest 72 = .ok (.invokevirtual 68, 3) := dk_182 0 68 (dk_at dksX9_digest_3 0 rfl rfl)
theorem dX9_digest_75 : decode cX9_digest 75 = .ok (.invokevirtual 71, 3) := dk_182 0 71 (dk_at dksX9_digest_3 3 rfl rfl)
theorem dX9_digest_78 : decode cX9_digest 78 = .ok (.i2l, 1) := dk_133 (dk_at dksX9_digest_3 6 rfl rfl)
theorem dX9_digest_79 : decode cX9_digest 79 = .ok (.invokevirtual 214, 3) := dk_182 0 214 (dk_at dksX9_digest_3 7 rfl rfl)
theorem dX9_digest_82 : decode cX9_digest 82 = .ok (.aload_n 0, 1) := dk_42 (dk_at dksX9_digest_3 10 rfl rfl)
theorem dX9_digest_83 : decode cX9_digest 83 = .ok (.aload_n 0, 1) := dk_42 (dk_at dksX9_digest_3 11 rfl rfl)
theorem dX9_digest_84 : decode cX9_digest 84 = .ok (.invokevirtual 182, 3) := dk_182 0 182 (dk_at dksX9_digest_3 12 rfl rfl)
theorem dX9_digest_87 : decode cX9_digest 87 = .ok (.i2l, 1) := dk_133 (dk_at dksX9_digest_3 15 rfl rfl)
theorem dX9_digest_88 : decode cX9_digest 88 = .ok (.invokevirtual 214, 3) := dk_182 0 214 (dk_at dksX9_digest_3 16 rfl rfl)
theorem dX9_digest_91 : decode cX9_digest 91 = .ok (.aload_n 0, 1) := dk_42 (dk_at dksX9_digest_3 19 rfl rfl)
theorem dX9_digest_92 : decode cX9_digest 92 = .ok (.aload_n 0, 1) := dk_42 (dk_at dksX9_digest_3 20 rfl rfl)
theorem dX9_digest_93 : decode cX9_digest 93 = .ok (.invokevirtual 74, 3) := dk_182 0 74 (dk_at dksX9_digest_3 21 rfl rfl)
theorem dX9_digest_96 : decode cX9_digest 96 = .ok (.i2l, 1) := dk_133 (dk_at dksX9_digest_4 0 rfl rfl)
theorem dX9_digest_97 : decode cX9_digest 97 = .ok (.invokevirtual 214, 3) := dk_182 0 214 (dk_at dksX9_digest_4 1 rfl rfl)
theorem dX9_digest_100 : decode cX9_digest 100 = .ok (.aload_n 0, 1) := dk_42 (dk_at dksX9_digest_4 4 rfl rfl)
theorem dX9_digest_101 : decode cX9_digest 101 = .ok (.aload_n 0, 1) := dk_42 (dk_at dksX9_digest_4 5 rfl rfl)
theorem dX9_digest_102 : decode cX9_digest 102 = .ok (.getfield 7, 3) := dk_180 0 7 (dk_at dksX9_digest_4 6 rfl rfl)
theorem dX9_digest_105 : decode cX9_digest 105 = .ok (.sipush 170, 3) := dk_17 0 170 (dk_at dksX9_digest_4 9 rfl rfl)
theorem dX9_digest_108 : decode cX9_digest 108 = .ok (.iaload, 1) := dk_46 (dk_at dksX9_digest_4 12 rfl rfl)
theorem dX9_digest_109 : decode cX9_digest 109 = .ok (.i2l, 1) := dk_133 (dk_at dksX9_digest_4 13 rfl rfl)
theorem dX9_digest_110 : decode cX9_digest 110 = .ok (.invokevirtual 214, 3) := dk_182 0 214 (dk_at dksX9_digest_4 14 rfl rfl)
theorem dX9_digest_113 : decode cX9_digest 113 = .ok (.aload_n 0, 1) := dk_42 (dk_at dksX9_digest_4 17 rfl rfl)
theorem dX9_digest_114 : decode cX9_digest 114 = .ok (.aload_n 0, 1) := dk_42 (dk_at dksX9_digest_4 18 rfl rfl)
theorem dX9_digest_115 : decode cX9_digest 115 = .ok (.getfield 7, 3) := dk_180 0 7 (dk_at dksX9_digest_4 19 rfl rfl)
theorem dX9_digest_118 : decode cX9_digest 118 = .ok (.sipush 170, 3) := dk_17 0 170 (dk_at dksX9_digest_5 0 rfl rfl)
theorem dX9_digest_121 : decode cX9_digest 121 = .ok (.iaload, 1) := dk_46 (dk_at dksX9_digest_5 3 rfl rfl)
theorem dX9_digest_122 : decode cX9_digest 122 = .ok (.i2l, 1) := dk_133 (dk_at dksX9_digest_5 4 rfl rfl)
theorem dX9_digest_123 : decode cX9_digest 123 = .ok (.invokevirtual 214, 3) := dk_182 0 214 (dk_at dksX9_digest_5 5 rfl rfl)
theorem dX9_digest_126 : decode cX9_digest 126 = .ok (.aload_n 0, 1) := dk_42 (dk_at dksX9_digest_5 8 rfl rfl)
theorem dX9_digest_127 : decode cX9_digest 127 = .ok (.aload_n 0, 1) := dk_42 (dk_at dksX9_digest_5 9 rfl rfl)
theorem dX9_digest_128 : decode cX9_digest 128 = .ok (.getfield 7, 3) := dk_180 0 7 (dk_at dksX9_digest_5 10 rfl rfl)
theorem dX9_digest_131 : decode cX9_digest 131 = .ok (.sipush 171, 3) := dk_17 0 171 (dk_at dksX9_digest_5 13 rfl rfl)
theorem dX9_digest_134 : decode cX9_digest 134 = .ok (.iaload, 1) := dk_46 (dk_at dksX9_digest_5 16 rfl rfl)
theorem dX9_digest_135 : decode cX9_digest 135 = .ok (.i2l, 1) := dk_133 (dk_at dksX9_digest_5 17 rfl rfl)
theorem dX9_digest_136 : decode cX9_digest 136 = .ok (.invokevirtual 214, 3) := dk_182 0 214 (dk_at dksX9_digest_5 18 rfl rfl)
theorem dX9_digest_139 : decode cX9_digest 139 = .ok (.aload_n 0, 1) := dk_42 (dk_at dksX9_digest_5 21 rfl rfl)
theorem dX9_digest_140 : decode cX9_digest 140 = .ok (.aload_n 0, 1) := dk_42 (dk_at dksX9_digest_5 22 rfl rfl)
theorem dX9_digest_141 : decode cX9_digest 141 = .ok (.getfield 7, 3) := dk_180 0 7 (dk_at dksX9_digest_6 0 rfl rfl)
theorem dX9_digest_144 : decode cX9_digest 144 = .ok (.sipush 171, 3) := dk_17 0 171 (dk_at dksX9_digest_6 3 rfl rfl)
theorem dX9_digest_147 : decode cX9_digest 147 = .ok (.iaload, 1) := dk_46 (dk_at dksX9_digest_6 6 rfl rfl)
theorem dX9_digest_148 : decode cX9_digest 148 = .ok (.i2l, 1) := dk_133 (dk_at dksX9_digest_6 7 rfl rfl)
theorem dX9_digest_149 : decode cX9_digest 149 = .ok (.invokevirtual 214, 3) := dk_182 0 214 (dk_at dksX9_digest_6 8 rfl rfl)
theorem dX9_digest_152 : decode cX9_digest 152 = .ok (.aload_n 0, 1) := dk_42 (dk_at dksX9_digest_6 11 rfl rfl)
theorem dX9_digest_153 : decode cX9_digest 153 = .ok (.aload_n 0, 1) := dk_42 (dk_at dksX9_digest_6 12 rfl rfl)
theorem dX9_digest_154 : decode cX9_digest 154 = .ok (.getfield 46, 3) := dk_180 0 46 (dk_at dksX9_digest_6 13 rfl rfl)
theorem dX9_digest_157 : decode cX9_digest 157 = .ok (.i2l, 1) := dk_133 (dk_at dksX9_digest_6 16 rfl rfl)
theorem dX9_digest_158 : decode cX9_digest 158 = .ok (.invokevirtual 214, 3) := dk_182 0 214 (dk_at dksX9_digest_6 17 rfl rfl)
theorem dX9_digest_161 : decode cX9_digest 161 = .ok (.iconst 0, 1) := dk_3 (dk_at dksX9_digest_6 20 rfl rfl)
theorem dX9_digest_162 : decode cX9_digest 162 = .ok (.istore_n 1, 1) := dk_60 (dk_at dksX9_digest_6 21 rfl rfl)
theorem dX9_digest_163 : decode cX9_digest 163 = .ok (.iload_n 1, 1) := dk_27 (dk_at dksX9_digest_6 22 rfl rfl)
theorem dX9_digest_164 : decode cX9_digest 164 = .ok (.aload_n 0, 1) := dk_42 (dk_at dksX9_digest_6 23 rfl rfl)
theorem dX9_digest_165 : decode cX9_digest 165 = .ok (.getfield 7, 3) := dk_180 0 7 (dk_at dksX9_digest_7 0 rfl rfl)
theorem dX9_digest_168 : decode cX9_digest 168 = .ok (.iconst 0, 1) := dk_3 (dk_at dksX9_digest_7 3 rfl rfl)
theorem dX9_digest_169 : decode cX9_digest 169 = .ok (.iaload, 1) := dk_46 (dk_at dksX9_digest_7 4 rfl rfl)
theorem dX9_digest_170 : decode cX9_digest 170 = .ok (.if_icmp .ge 38, 3) := dk_162 0 38 (dk_at dksX9_digest_7 5 rfl rfl)
theorem dX9_digest_173 : decode cX9_digest 173 = .ok (.aload_n 0, 1) := dk_42 (dk_at dksX9_digest_7 8 rfl rfl)
theorem dX9_digest_174 : decode cX9_digest 174 = .ok (.aload_n 0, 1) := dk_42 (dk_at dksX9_digest_7 9 rfl rfl)
theorem dX9_digest_175 : decode cX9_digest 175 = .ok (.iload_n 1, 1) := dk_27 (dk_at dksX9_digest_7 10 rfl rfl)
theorem dX9_digest_176 : decode cX9_digest 176 = .ok (.invokevirtual 77, 3) := dk_182 0 77 (dk_at dksX9_digest_7 11 rfl rfl)
theorem dX9_digest_179 : decode cX9_digest 179 = .ok (.i2l, 1) := dk_133 (dk_at dksX9_digest_7 14 rfl rfl)
theorem dX9_digest_180 : decode cX9_digest 180 = .ok (.invokevirtual 214, 3) := dk_182 0 214 (dk_at dksX9_digest_7 15 rfl rfl)
theorem dX9_digest_183 : decode cX9_digest 183 = .ok (.aload_n 0, 1) := dk_42 (dk_at dksX9_digest_7 18 rfl rfl)
theorem dX9_digest_184 : decode cX9_digest 184 = .ok (.aload_n 0, 1) := dk_42 (dk_at dksX9_digest_7 19 rfl rfl)
theorem dX9_digest_185 : decode cX9_digest 185 = .ok (.iload_n 1, 1) := dk_27 (dk_at dksX9_digest_7 20 rfl rfl)
theorem dX9_digest_186 : decode cX9_digest 186 = .ok (.invokevirtual 91, 3) := dk_182 0 91 (dk_at dksX9_digest_7 21 rfl rfl)
theorem dX9_digest_189 : decode cX9_digest 189 = .ok (.i2l, 1) := dk_133 (dk_at dksX9_digest_8 0 rfl rfl)
theorem dX9_digest_190 : decode cX9_digest 190 = .ok (.invokevirtual 214, 3) := dk_182 0 214 (dk_at dksX9_digest_8 1 rfl rfl)
theorem dX9_digest_193 : decode cX9_digest 193 = .ok (.aload_n 0, 1) := dk_42 (dk_at dksX9_digest_8 4 rfl rfl)
theorem dX9_digest_194 : decode cX9_digest 194 = .ok (.aload_n 0, 1) := dk_42 (dk_at dksX9_digest_8 5 rfl rfl)
theorem dX9_digest_195 : decode cX9_digest 195 = .ok (.iload_n 1, 1) := dk_27 (dk_at dksX9_digest_8 6 rfl rfl)
theorem dX9_digest_196 : decode cX9_digest 196 = .ok (.invokevirtual 80, 3) := dk_182 0 80 (dk_at dksX9_digest_8 7 rfl rfl)
theorem dX9_digest_199 : decode cX9_digest 199 = .ok (.invokevirtual 220, 3) := dk_182 0 220 (dk_at dksX9_digest_8 10 rfl rfl)
theorem dX9_digest_202 : decode cX9_digest 202 = .ok (.iinc 1 1, 3) := dk_132 1 1 (dk_at dksX9_digest_8 13 rfl rfl)
theorem dX9_digest_205 : decode cX9_digest 205 = .ok (.goto (-42), 3) := dk_167 255 214 (dk_at dksX9_digest_8 16 rfl rfl)
theorem dX9_digest_208 : decode cX9_digest 208 = .ok (.iconst 0, 1) := dk_3 (dk_at dksX9_digest_8 19 rfl rfl)
theorem dX9_digest_209 : decode cX9_digest 209 = .ok (.istore_n 1, 1) := dk_60 (dk_at dksX9_digest_8 20 rfl rfl)
theorem dX9_digest_210 : decode cX9_digest 210 = .ok (.iload_n 1, 1) := dk_27 (dk_at dksX9_digest_8 21 rfl rfl)
theorem dX9_digest_211 : decode cX9_digest 211 = .ok (.iconst 4, 1) := dk_7 (dk_at dksX9_digest_8 22 rfl rfl)
theorem dX9_digest_212 : decode cX9_digest 212 = .ok (.if_icmp .ge 165, 3) := dk_162 0 165 (dk_at dksX9_digest_9 0 rfl rfl)
theorem dX9_digest_215 : decode cX9_digest 215 = .ok (.aload_n 0, 1) := dk_42 (dk_at dksX9_digest_9 3 rfl rfl)
theorem dX9_digest_216 : decode cX9_digest 216 = .ok (.aload_n 0, 1) := dk_42 (dk_at dksX9_digest_9 4 rfl rfl)
theorem dX9_digest_217 : decode cX9_digest 217 = .ok (.iload_n 1, 1) := dk_27 (dk_at dksX9_digest_9 5 rfl rfl)
theorem dX9_digest_218 : decode cX9_digest 218 = .ok (.iconst 0, 1) := dk_3 (dk_at dksX9_digest_9 6 rfl rfl)
theorem dX9_digest_219 : decode cX9_digest 219 = .ok (.invokevirtual 53, 3) := dk_182 0 53 (dk_at dksX9_digest_9 7 rfl rfl)
theorem dX9_digest_222 : decode cX9_digest 222 = .ok (.i2l, 1) := dk_133 (dk_at dksX9_digest_9 10 rfl rfl)
theorem dX9_digest_223 : decode cX9_digest 223 = .ok (.invokevirtual 214, 3) := dk_182 0 214 (dk_at dksX9_digest_9 11 rfl rfl)
theorem dX9_digest_226 : decode cX9_digest 226 = .ok (.aload_n 0, 1) := dk_42 (dk_at dksX9_digest_9 14 rfl rfl)
theorem dX9_digest_227 : decode cX9_digest 227 = .ok (.aload_n 0, 1) := dk_42 (dk_at dksX9_digest_9 15 rfl rfl)
theorem dX9_digest_228 : decode cX9_digest 228 = .ok (.iload_n 1, 1) := dk_27 (dk_at dksX9_digest_9 16 rfl rfl)
theorem dX9_digest_229 : decode cX9_digest 229 = .ok (.iconst 1, 1) := dk_4 (dk_at dksX9_digest_9 17 rfl rfl)
theorem dX9_digest_230 : decode cX9_digest 230 = .ok (.invokevirtual 53, 3) := dk_182 0 53 (dk_at dksX9_digest_9 18 rfl rfl)
theorem dX9_digest_233 : decode cX9_digest 233 = .ok (.iconst 1, 1) := dk_4 (dk_at dksX9_digest_9 21 rfl rfl)
theorem dX9_digest_234 : decode cX9_digest 234 = .ok (.if_icmp .ne 7, 3) := dk_160 0 7 (dk_at dksX9_digest_10 0 rfl rfl)
theorem dX9_digest_237 : decode cX9_digest 237 = .ok (.iconst 1, 1) := dk_4 (dk_at dksX9_digest_10 3 rfl rfl)
theorem dX9_digest_238 : decode cX9_digest 238 = .ok (.goto 4, 3) := dk_167 0 4 (dk_at dksX9_digest_10 4 rfl rfl)
theorem dX9_digest_241 : decode cX9_digest 241 = .ok (.iconst 0, 1) := dk_3 (dk_at dksX9_digest_10 7 rfl rfl)
theorem dX9_digest_242 : decode cX9_digest 242 = .ok (.invokevirtual 220, 3) := dk_182 0 220 (dk_at dksX9_digest_10 8 rfl rfl)
theorem dX9_digest_245 : decode cX9_digest 245 = .ok (.aload_n 0, 1) := dk_42 (dk_at dksX9_digest_10 11 rfl rfl)
theorem dX9_digest_246 : decode cX9_digest 246 = .ok (.aload_n 0, 1) := dk_42 (dk_at dksX9_digest_10 12 rfl rfl)
theorem dX9_digest_247 : decode cX9_digest 247 = .ok (.iload_n 1, 1) := dk_27 (dk_at dksX9_digest_10 13 rfl rfl)
theorem dX9_digest_248 : decode cX9_digest 248 = .ok (.invokevirtual 94, 3) := dk_182 0 94 (dk_at dksX9_digest_10 14 rfl rfl)
theorem dX9_digest_251 : decode cX9_digest 251 = .ok (.i2l, 1) := dk_133 (dk_at dksX9_digest_10 17 rfl rfl)
theorem dX9_digest_252 : decode cX9_digest 252 = .ok (.invokevirtual 214, 3) := dk_182 0 214 (dk_at dksX9_digest_10 18 rfl rfl)
theorem dX9_digest_255 : decode cX9_digest 255 = .ok (.aload_n 0, 1) := dk_42 (dk_at dksX9_digest_10 21 rfl rfl)
theorem dX9_digest_256 : decode cX9_digest 256 = .ok (.aload_n 0, 1) := dk_42 (dk_at dksX9_digest_10 22 rfl rfl)
theorem dX9_digest_257 : decode cX9_digest 257 = .ok (.iload_n 1, 1) := dk_27 (dk_at dksX9_digest_10 23 rfl rfl)
theorem dX9_digest_258 : decode cX9_digest 258 = .ok (.iconst 2, 1) := dk_5 (dk_at dksX9_digest_11 0 rfl rfl)
theorem dX9_digest_259 : decode cX9_digest 259 = .ok (.invokevirtual 53, 3) := dk_182 0 53 (dk_at dksX9_digest_11 1 rfl rfl)
theorem dX9_digest_262 : decode cX9_digest 262 = .ok (.iconst (-1), 1) := dk_2 (dk_at dksX9_digest_11 4 rfl rfl)
theorem dX9_digest_263 : decode cX9_digest 263 = .ok (.if_icmp .eq 7, 3) := dk_159 0 7 (dk_at dksX9_digest_11 5 rfl rfl)
theorem dX9_digest_266 : decode cX9_digest 266 = .ok (.iconst 1, 1) := dk_4 (dk_at dksX9_digest_11 8 rfl rfl)
theorem dX9_digest_267 : decode cX9_digest 267 = .ok (.goto 4, 3) := dk_167 0 4 (dk_at dksX9_digest_11 9 rfl rfl)
theorem dX9_digest_270 : decode cX9_digest 270 = .ok (.iconst 0, 1) := dk_3 (dk_at dksX9_digest_11 12 rfl rfl)
theorem dX9_digest_271 : decode cX9_digest 271 = .ok (.invokevirtual 220, 3) := dk_182 0 220 (dk_at dksX9_digest_11 13 rfl rfl)
theorem dX9_digest_274 : decode cX9_digest 274 = .ok (.aload_n 0, 1) := dk_42 (dk_at dksX9_digest_11 16 rfl rfl)
theorem dX9_digest_275 : decode cX9_digest 275 = .ok (.iload_n 1, 1) := dk_27 (dk_at dksX9_digest_11 17 rfl rfl)
theorem dX9_digest_276 : decode cX9_digest 276 = .ok (.iconst 2, 1) := dk_5 (dk_at dksX9_digest_11 18 rfl rfl)
theorem dX9_digest_277 : decode cX9_digest 277 = .ok (.invokevirtual 53, 3) := dk_182 0 53 (dk_at dksX9_digest_11 19 rfl rfl)
theorem dX9_digest_280 : decode cX9_digest 280 = .ok (.iconst (-1), 1) := dk_2 (dk_at dksX9_digest_11 22 rfl rfl)
theorem dX9_digest_281 : decode cX9_digest 281 = .ok (.if_icmp .eq 14, 3) := dk_159 0 14 (dk_at dksX9_digest_12 0 rfl rfl)
theorem dX9_digest_284 : decode cX9_digest 284 = .ok (.aload_n 0, 1) := dk_42 (dk_at dksX9_digest_12 3 rfl rfl)
theorem dX9_digest_285 : decode cX9_digest 285 = .ok (.aload_n 0, 1) := dk_42 (dk_at dksX9_digest_12 4 rfl rfl)
theorem dX9_digest_286 : decode cX9_digest 286 = .ok (.iload_n 1, 1) := dk_27 (dk_at dksX9_digest_12 5 rfl rfl)
theorem dX9_digest_287 : decode cX9_digest 287 = .ok (.iconst 2, 1) := dk_5 (dk_at dksX9_digest_12 6 rfl rfl)
theorem dX9_digest_288 : decode cX9_digest 288 = .ok (.invokevirtual 53, 3) := dk_182 0 53 (dk_at dksX9_digest_12 7 rfl rfl)
theorem dX9_digest_291 : decode cX9_digest 291 = .ok (.i2l, 1) := dk_133 (dk_at dksX9_digest_12 10 rfl rfl)
theorem dX9_digest_292 : decode cX9_digest 292 = .ok (.invokevirtual 214, 3) := dk_182 0 214 (dk_at dksX9_digest_12 11 rfl rfl)
theorem dX9_digest_295 : decode cX9_digest 295 = .ok (.aload_n 0, 1) := dk_42 (dk_at dksX9_digest_12 14 rfl rfl)
theorem dX9_digest_296 : decode cX9_digest 296 = .ok (.aload_n 0, 1) := dk_42 (dk_at dksX9_digest_12 15 rfl rfl)
theorem dX9_digest_297 : decode cX9_digest 297 = .ok (.iload_n 1, 1) := dk_27 (dk_at dksX9_digest_12 16 rfl rfl)
theorem dX9_digest_298 : decode cX9_digest 298 = .ok (.iconst 3, 1) := dk_6 (dk_at dksX9_digest_12 17 rfl rfl)
theorem dX9_digest_299 : decode cX9_digest 299 = .ok (.invokevirtual 53, 3) := dk_182 0 53 (dk_at dksX9_digest_12 18 rfl rfl)
theorem dX9_digest_302 : decode cX9_digest 302 = .ok (.i2l, 1) := dk_133 (dk_at dksX9_digest_12 21 rfl rfl)
theorem dX9_digest_303 : decode cX9_digest 303 = .ok (.invokevirtual 214, 3) := dk_182 0 214 (dk_at dksX9_digest_13 0 rfl rfl)
theorem dX9_digest_306 : decode cX9_digest 306 = .ok (.aload_n 0, 1) := dk_42 (dk_at dksX9_digest_13 3 rfl rfl)
theorem dX9_digest_307 : decode cX9_digest 307 = .ok (.aload_n 0, 1) := dk_42 (dk_at dksX9_digest_13 4 rfl rfl)
theorem dX9_digest_308 : decode cX9_digest 308 = .ok (.iload_n 1, 1) := dk_27 (dk_at dksX9_digest_13 5 rfl rfl)
theorem dX9_digest_309 : decode cX9_digest 309 = .ok (.iconst 4, 1) := dk_7 (dk_at dksX9_digest_13 6 rfl rfl)
theorem dX9_digest_310 : decode cX9_digest 310 = .ok (.invokevirtual 53, 3) := dk_182 0 53 (dk_at dksX9_digest_13 7 rfl rfl)
theorem dX9_digest_313 : decode cX9_digest 313 = .ok (.i2l, 1) := dk_133 (dk_at dksX9_digest_13 10 rfl rfl)
theorem dX9_digest_314 : decode cX9_digest 314 = .ok (.invokevirtual 214, 3) := dk_182 0 214 (dk_at dksX9_digest_13 11 rfl rfl)
theorem dX9_digest_317 : decode cX9_digest 317 = .ok (.aload_n 0, 1) := dk_42 (dk_at dksX9_digest_13 14 rfl rfl)
theorem dX9_digest_318 : decode cX9_digest 318 = .ok (.iload_n 1, 1) := dk_27 (dk_at dksX9_digest_13 15 rfl rfl)
theorem dX9_digest_319 : decode cX9_digest 319 = .ok (.invokevirtual 189, 3) := dk_182 0 189 (dk_at dksX9_digest_13 16 rfl rfl)
theorem dX9_digest_322 : decode cX9_digest 322 = .ok (.istore_n 2, 1) := dk_61 (dk_at dksX9_digest_13 19 rfl rfl)
theorem dX9_digest_323 : decode cX9_digest 323 = .ok (.aload_n 0, 1) := dk_42 (dk_at dksX9_digest_13 20 rfl rfl)
theorem dX9_digest_324 : decode cX9_digest 324 = .ok (.iload_n 2, 1) := dk_28 (dk_at dksX9_digest_13 21 rfl rfl)
theorem dX9_digest_325 : decode cX9_digest 325 = .ok (.i2l, 1) := dk_133 (dk_at dksX9_digest_13 22 rfl rfl)
theorem dX9_digest_326 : decode cX9_digest 326 = .ok (.invokevirtual 214, 3) := dk_182 0 214 (dk_at dksX9_digest_14 0 rfl rfl)
theorem dX9_digest_329 : decode cX9_digest 329 = .ok (.aload_n 0, 1) := dk_42 (dk_at dksX9_digest_14 3 rfl rfl)
theorem dX9_digest_330 : decode cX9_digest 330 = .ok (.iload_n 2, 1) := dk_28 (dk_at dksX9_digest_14 4 rfl rfl)
theorem dX9_digest_331 : decode cX9_digest 331 = .ok (.i2l, 1) := dk_133 (dk_at dksX9_digest_14 5 rfl rfl)
theorem dX9_digest_332 : decode cX9_digest 332 = .ok (.invokevirtual 214, 3) := dk_182 0 214 (dk_at dksX9_digest_14 6 rfl rfl)
theorem dX9_digest_335 : decode cX9_digest 335 = .ok (.aload_n 0, 1) := dk_42 (dk_at dksX9_digest_14 9 rfl rfl)
theorem dX9_digest_336 : decode cX9_digest 336 = .ok (.aload_n 0, 1) := dk_42 (dk_at dksX9_digest_14 10 rfl rfl)
theorem dX9_digest_337 : decode cX9_digest 337 = .ok (.getfield 22, 3) := dk_180 0 22 (dk_at dksX9_digest_14 11 rfl rfl)
theorem dX9_digest_340 : decode cX9_digest 340 = .ok (.iload_n 1, 1) := dk_27 (dk_at dksX9_digest_14 14 rfl rfl)
theorem dX9_digest_341 : decode cX9_digest 341 = .ok (.iaload, 1) := dk_46 (dk_at dksX9_digest_14 15 rfl rfl)
theorem dX9_digest_342 : decode cX9_digest 342 = .ok (.i2l, 1) := dk_133 (dk_at dksX9_digest_14 16 rfl rfl)
theorem dX9_digest_343 : decode cX9_digest 343 = .ok (.invokevirtual 214, 3) := dk_182 0 214 (dk_at dksX9_digest_14 17 rfl rfl)
theorem dX9_digest_346 : decode cX9_digest 346 = .ok (.iconst 0, 1) := dk_3 (dk_at dksX9_digest_14 20 rfl rfl)
theorem dX9_digest_347 : decode cX9_digest 347 = .ok (.istore_n 3, 1) := dk_62 (dk_at dksX9_digest_14 21 rfl rfl)
theorem dX9_digest_348 : decode cX9_digest 348 = .ok (.iload_n 3, 1) := dk_29 (dk_at dksX9_digest_14 22 rfl rfl)
theorem dX9_digest_349 : decode cX9_digest 349 = .ok (.bipush 10, 2) := dk_16 10 (dk_at dksX9_digest_15 0 rfl rfl)
theorem dX9_digest_351 : decode cX9_digest 351 = .ok (.if_icmp .ge 20, 3) := dk_162 0 20 (dk_at dksX9_digest_15 2 rfl rfl)
theorem dX9_digest_354 : decode cX9_digest 354 = .ok (.aload_n 0, 1) := dk_42 (dk_at dksX9_digest_15 5 rfl rfl)
theorem dX9_digest_355 : decode cX9_digest 355 = .ok (.aload_n 0, 1) := dk_42 (dk_at dksX9_digest_15 6 rfl rfl)
theorem dX9_digest_356 : decode cX9_digest 356 = .ok (.getfield 28, 3) := dk_180 0 28 (dk_at dksX9_digest_15 7 rfl rfl)
theorem dX9_digest_359 : decode cX9_digest 359 = .ok (.iload_n 3, 1) := dk_29 (dk_at dksX9_digest_15 10 rfl rfl)
theorem dX9_digest_360 : decode cX9_digest 360 = .ok (.iaload, 1) := dk_46 (dk_at dksX9_digest_15 11 rfl rfl)
theorem dX9_digest_361 : decode cX9_digest 361 = .ok (.i2l, 1) := dk_133 (dk_at dksX9_digest_15 12 rfl rfl)
theorem dX9_digest_362 : decode cX9_digest 362 = .ok (.invokevirtual 214, 3) := dk_182 0 214 (dk_at dksX9_digest_15 13 rfl rfl)
theorem dX9_digest_365 : decode cX9_digest 365 = .ok (.iinc 3 1, 3) := dk_132 3 1 (dk_at dksX9_digest_15 16 rfl rfl)
theorem dX9_digest_368 : decode cX9_digest 368 = .ok (.goto (-20), 3) := dk_167 255 236 (dk_at dksX9_digest_15 19 rfl rfl)
theorem dX9_digest_371 : decode cX9_digest 371 = .ok (.iinc 1 1, 3) := dk_132 1 1 (dk_at dksX9_digest_16 0 rfl rfl)
theorem dX9_digest_374 : decode cX9_digest 374 = .ok (.goto (-164), 3) := dk_167 255 92 (dk_at dksX9_digest_16 3 rfl rfl)
theorem dX9_digest_377 : decode cX9_digest 377 = .ok (.iconst 0, 1) := dk_3 (dk_at dksX9_digest_16 6 rfl rfl)
theorem dX9_digest_378 : decode cX9_digest 378 = .ok (.istore_n 1, 1) := dk_60 (dk_at dksX9_digest_16 7 rfl rfl)
theorem dX9_digest_379 : decode cX9_digest 379 = .ok (.iload_n 1, 1) := dk_27 (dk_at dksX9_digest_16 8 rfl rfl)
theorem dX9_digest_380 : decode cX9_digest 380 = .ok (.aload_n 0, 1) := dk_42 (dk_at dksX9_digest_16 9 rfl rfl)
theorem dX9_digest_381 : decode cX9_digest 381 = .ok (.getfield 7, 3) := dk_180 0 7 (dk_at dksX9_digest_16 10 rfl rfl)
theorem dX9_digest_384 : decode cX9_digest 384 = .ok (.bipush 117, 2) := dk_16 117 (dk_at dksX9_digest_16 13 rfl rfl)
theorem dX9_digest_386 : decode cX9_digest 386 = .ok (.iaload, 1) := dk_46 (dk_at dksX9_digest_16 15 rfl rfl)
theorem dX9_digest_387 : decode cX9_digest 387 = .ok (.if_icmp .ge 76, 3) := dk_162 0 76 (dk_at dksX9_digest_16 16 rfl rfl)
theorem dX9_digest_390 : decode cX9_digest 390 = .ok (.aload_n 0, 1) := dk_42 (dk_at dksX9_digest_16 19 rfl rfl)
theorem dX9_digest_391 : decode cX9_digest 391 = .ok (.aload_n 0, 1) := dk_42 (dk_at dksX9_digest_16 20 rfl rfl)
theorem dX9_digest_392 : decode cX9_digest 392 = .ok (.iload_n 1, 1) := dk_27 (dk_at dksX9_digest_16 21 rfl rfl)
theorem dX9_digest_393 : decode cX9_digest 393 = .ok (.iconst 4, 1) := dk_7 (dk_at dksX9_digest_16 22 rfl rfl)
theorem dX9_digest_394 : decode cX9_digest 394 = .ok (.invokevirtual 49, 3) := dk_182 0 49 (dk_at dksX9_digest_17 0 rfl rfl)
theorem dX9_digest_397 : decode cX9_digest 397 = .ok (.ifCond .ne 7, 3) := dk_154 0 7 (dk_at dksX9_digest_17 3 rfl rfl)
theorem dX9_digest_400 : decode cX9_digest 400 = .ok (.iconst 1, 1) := dk_4 (dk_at dksX9_digest_17 6 rfl rfl)
theorem dX9_digest_401 : decode cX9_digest 401 = .ok (.goto 4, 3) := dk_167 0 4 (dk_at dksX9_digest_17 7 rfl rfl)
theorem dX9_digest_404 : decode cX9_digest 404 = .ok (.iconst 0, 1) := dk_3 (dk_at dksX9_digest_17 10 rfl rfl)
theorem dX9_digest_405 : decode cX9_digest 405 = .ok (.invokevirtual 220, 3) := dk_182 0 220 (dk_at dksX9_digest_17 11 rfl rfl)
theorem dX9_digest_408 : decode cX9_digest 408 = .ok (.aload_n 0, 1) := dk_42 (dk_at dksX9_digest_17 14 rfl rfl)
theorem dX9_digest_409 : decode cX9_digest 409 = .ok (.aload_n 0, 1) := dk_42 (dk_at dksX9_digest_17 15 rfl rfl)
theorem dX9_digest_410 : decode cX9_digest 410 = .ok (.iload_n 1, 1) := dk_27 (dk_at dksX9_digest_17 16 rfl rfl)
theorem dX9_digest_411 : decode cX9_digest 411 = .ok (.iconst 4, 1) := dk_7 (dk_at dksX9_digest_17 17 rfl rfl)
theorem dX9_digest_412 : decode cX9_digest 412 = .ok (.invokevirtual 49, 3) := dk_182 0 49 (dk_at dksX9_digest_17 18 rfl rfl)
theorem dX9_digest_415 : decode cX9_digest 415 = .ok (.iconst 2, 1) := dk_5 (dk_at dksX9_digest_17 21 rfl rfl)
theorem dX9_digest_416 : decode cX9_digest 416 = .ok (.if_icmp .ne 7, 3) := dk_160 0 7 (dk_at dksX9_digest_18 0 rfl rfl)
theorem dX9_digest_419 : decode cX9_digest 419 = .ok (.iconst 1, 1) := dk_4 (dk_at dksX9_digest_18 3 rfl rfl)
theorem dX9_digest_420 : decode cX9_digest 420 = .ok (.goto 4, 3) := dk_167 0 4 (dk_at dksX9_digest_18 4 rfl rfl)
theorem dX9_digest_423 : decode cX9_digest 423 = .ok (.iconst 0, 1) := dk_3 (dk_at dksX9_digest_18 7 rfl rfl)
theorem dX9_digest_424 : decode cX9_digest 424 = .ok (.invokevirtual 220, 3) := dk_182 0 220 (dk_at dksX9_digest_18 8 rfl rfl)
theorem dX9_digest_427 : decode cX9_digest 427 = .ok (.aload_n 0, 1) := dk_42 (dk_at dksX9_digest_18 11 rfl rfl)
theorem dX9_digest_428 : decode cX9_digest 428 = .ok (.aload_n 0, 1) := dk_42 (dk_at dksX9_digest_18 12 rfl rfl)
theorem dX9_digest_429 : decode cX9_digest 429 = .ok (.iload_n 1, 1) := dk_27 (dk_at dksX9_digest_18 13 rfl rfl)
theorem dX9_digest_430 : decode cX9_digest 430 = .ok (.invokevirtual 179, 3) := dk_182 0 179 (dk_at dksX9_digest_18 14 rfl rfl)
theorem dX9_digest_433 : decode cX9_digest 433 = .ok (.i2l, 1) := dk_133 (dk_at dksX9_digest_18 17 rfl rfl)
theorem dX9_digest_434 : decode cX9_digest 434 = .ok (.invokevirtual 214, 3) := dk_182 0 214 (dk_at dksX9_digest_18 18 rfl rfl)
theorem dX9_digest_437 : decode cX9_digest 437 = .ok (.aload_n 0, 1) := dk_42 (dk_at dksX9_digest_18 21 rfl rfl)
theorem dX9_digest_438 : decode cX9_digest 438 = .ok (.iload_n 1, 1) := dk_27 (dk_at dksX9_digest_18 22 rfl rfl)
theorem dX9_digest_439 : decode cX9_digest 439 = .ok (.iconst 4, 1) := dk_7 (dk_at dksX9_digest_18 23 rfl rfl)
theorem dX9_digest_440 : decode cX9_digest 440 = .ok (.invokevirtual 49, 3) := dk_182 0 49 (dk_at dksX9_digest_19 0 rfl rfl)
theorem dX9_digest_443 : decode cX9_digest 443 = .ok (.ifCond .eq 14, 3) := dk_153 0 14 (dk_at dksX9_digest_19 3 rfl rfl)
theorem dX9_digest_446 : decode cX9_digest 446 = .ok (.aload_n 0, 1) := dk_42 (dk_at dksX9_digest_19 6 rfl rfl)
theorem dX9_digest_447 : decode cX9_digest 447 = .ok (.aload_n 0, 1) := dk_42 (dk_at dksX9_digest_19 7 rfl rfl)
theorem dX9_digest_448 : decode cX9_digest 448 = .ok (.iload_n 1, 1) := dk_27 (dk_at dksX9_digest_19 8 rfl rfl)
theorem dX9_digest_449 : decode cX9_digest 449 = .ok (.iconst 5, 1) := dk_8 (dk_at dksX9_digest_19 9 rfl rfl)
theorem dX9_digest_450 : decode cX9_digest 450 = .ok (.invokevirtual 49, 3) := dk_182 0 49 (dk_at dksX9_digest_19 10 rfl rfl)
theorem dX9_digest_453 : decode cX9_digest 453 = .ok (.i2l, 1) := dk_133 (dk_at dksX9_digest_19 13 rfl rfl)
theorem dX9_digest_454 : decode cX9_digest 454 = .ok (.invokevirtual 214, 3) := dk_182 0 214 (dk_at dksX9_digest_19 14 rfl rfl)
theorem dX9_digest_457 : decode cX9_digest 457 = .ok (.iinc 1 1, 3) := dk_132 1 1 (dk_at dksX9_digest_19 17 rfl rfl)
theorem dX9_digest_460 : decode cX9_digest 460 = .ok (.goto (-81), 3) := dk_167 255 175 (dk_at dksX9_digest_19 20 rfl rfl)
theorem dX9_digest_463 : decode cX9_digest 463 = .ok (.aload_n 0, 1) := dk_42 (dk_at dksX9_digest_19 23 rfl rfl)
theorem dX9_digest_464 : decode cX9_digest 464 = .ok (.aload_n 0, 1) := dk_42 (dk_at dksX9_digest_20 0 rfl rfl)
theorem dX9_digest_465 : decode cX9_digest 465 = .ok (.getfield 7, 3) := dk_180 0 7 (dk_at dksX9_digest_20 1 rfl rfl)
theorem dX9_digest_468 : decode cX9_digest 468 = .ok (.sipush 172, 3) := dk_17 0 172 (dk_at dksX9_digest_20 4 rfl rfl)
theorem dX9_digest_471 : decode cX9_digest 471 = .ok (.iaload, 1) := dk_46 (dk_at dksX9_digest_20 7 rfl rfl)
theorem dX9_digest_472 : decode cX9_digest 472 = .ok (.iconst 1, 1) := dk_4 (dk_at dksX9_digest_20 8 rfl rfl)
theorem dX9_digest_473 : decode cX9_digest 473 = .ok (.if_icmp .ne 7, 3) := dk_160 0 7 (dk_at dksX9_digest_20 9 rfl rfl)
theorem dX9_digest_476 : decode cX9_digest 476 = .ok (.iconst 1, 1) := dk_4 (dk_at dksX9_digest_20 12 rfl rfl)
theorem dX9_digest_477 : decode cX9_digest 477 = .ok (.goto 4, 3) := dk_167 0 4 (dk_at dksX9_digest_20 13 rfl rfl)
theorem dX9_digest_480 : decode cX9_digest 480 = .ok (.iconst 0, 1) := dk_3 (dk_at dksX9_digest_20 16 rfl rfl)
theorem dX9_digest_481 : decode cX9_digest 481 = .ok (.invokevirtual 220, 3) := dk_182 0 220 (dk_at dksX9_digest_20 17 rfl rfl)
theorem dX9_digest_484 : decode cX9_digest 484 = .ok (.aload_n 0, 1) := dk_42 (dk_at dksX9_digest_20 20 rfl rfl)
theorem dX9_digest_485 : decode cX9_digest 485 = .ok (.getfield 7, 3) := dk_180 0 7 (dk_at dksX9_digest_20 21 rfl rfl)
theorem dX9_digest_488 : decode cX9_digest 488 = .ok (.sipush 172, 3) := dk_17 0 172 (dk_at dksX9_digest_21 0 rfl rfl)
theorem dX9_digest_491 : decode cX9_digest 491 = .ok (.iaload, 1) := dk_46 (dk_at dksX9_digest_21 3 rfl rfl)
theorem dX9_digest_492 : decode cX9_digest 492 = .ok (.iconst 1, 1) := dk_4 (dk_at dksX9_digest_21 4 rfl rfl)
theorem dX9_digest_493 : decode cX9_digest 493 = .ok (.if_icmp .ne 16, 3) := dk_160 0 16 (dk_at dksX9_digest_21 5 rfl rfl)
theorem dX9_digest_496 : decode cX9_digest 496 = .ok (.aload_n 0, 1) := dk_42 (dk_at dksX9_digest_21 8 rfl rfl)
theorem dX9_digest_497 : decode cX9_digest 497 = .ok (.aload_n 0, 1) := dk_42 (dk_at dksX9_digest_21 9 rfl rfl)
theorem dX9_digest_498 : decode cX9_digest 498 = .ok (.getfield 7, 3) := dk_180 0 7 (dk_at dksX9_digest_21 10 rfl rfl)
theorem dX9_digest_501 : decode cX9_digest 501 = .ok (.sipush 173, 3) := dk_17 0 173 (dk_at dksX9_digest_21 13 rfl rfl)
theorem dX9_digest_504 : decode cX9_digest 504 = .ok (.iaload, 1) := dk_46 (dk_at dksX9_digest_21 16 rfl rfl)
theorem dX9_digest_505 : decode cX9_digest 505 = .ok (.i2l, 1) := dk_133 (dk_at dksX9_digest_21 17 rfl rfl)
theorem dX9_digest_506 : decode cX9_digest 506 = .ok (.invokevirtual 214, 3) := dk_182 0 214 (dk_at dksX9_digest_21 18 rfl rfl)
theorem dX9_digest_509 : decode cX9_digest 509 = .ok (.aload_n 0, 1) := dk_42 (dk_at dksX9_digest_21 21 rfl rfl)
theorem dX9_digest_510 : decode cX9_digest 510 = .ok (.aload_n 0, 1) := dk_42 (dk_at dksX9_digest_21 22 rfl rfl)
theorem dX9_digest_511 : decode cX9_digest 511 = .ok (.invokevirtual 196, 3) := dk_182 0 196 (dk_at dksX9_digest_22 0 rfl rfl)
theorem dX9_digest_514 : decode cX9_digest 514 = .ok (.f2d, 1) := dk_141 (dk_at dksX9_digest_22 3 rfl rfl)
theorem dX9_digest_515 : decode cX9_digest 515 = .ok (.bipush 23, 2) := dk_16 23 (dk_at dksX9_digest_22 4 rfl rfl)
theorem dX9_digest_517 : decode cX9_digest 517 = .ok (.bipush 127, 2) := dk_16 127 (dk_at dksX9_digest_22 6 rfl rfl)
theorem dX9_digest_519 : decode cX9_digest 519 = .ok (.invokestatic 224, 3) := dk_184 0 224 (dk_at dksX9_digest_22 8 rfl rfl)
theorem dX9_digest_522 : decode cX9_digest 522 = .ok (.invokevirtual 214, 3) := dk_182 0 214 (dk_at dksX9_digest_22 11 rfl rfl)
theorem dX9_digest_525 : decode cX9_digest 525 = .ok (.aload_n 0, 1) := dk_42 (dk_at dksX9_digest_22 14 rfl rfl)
theorem dX9_digest_526 : decode cX9_digest 526 = .ok (.aload_n 0, 1) := dk_42 (dk_at dksX9_digest_22 15 rfl rfl)
theorem dX9_digest_527 : decode cX9_digest 527 = .ok (.invokevirtual 200, 3) := dk_182 0 200 (dk_at dksX9_digest_22 16 rfl rfl)
theorem dX9_digest_530 : decode cX9_digest 530 = .ok (.bipush 52, 2) := dk_16 52 (dk_at dksX9_digest_22 19 rfl rfl)
theorem dX9_digest_532 : decode cX9_digest 532 = .ok (.sipush 1023, 3) := dk_17 3 255 (dk_at dksX9_digest_22 21 rfl rfl)
theorem dX9_digest_535 : decode cX9_digest 535 = .ok (.invokestatic 224, 3) := dk_184 0 224 (dk_at dksX9_digest_23 0 rfl rfl)
theorem dX9_digest_538 : decode cX9_digest 538 = .ok (.invokevirtual 214, 3) := dk_182 0 214 (dk_at dksX9_digest_23 3 rfl rfl)
theorem dX9_digest_541 : decode cX9_digest 541 = .ok (.aload_n 0, 1) := dk_42 (dk_at dksX9_digest_23 6 rfl rfl)
theorem dX9_digest_542 : decode cX9_digest 542 = .ok (.aload_n 0, 1) := dk_42 (dk_at dksX9_digest_23 7 rfl rfl)
theorem dX9_digest_543 : decode cX9_digest 543 = .ok (.getfield 146, 3) := dk_180 0 146 (dk_at dksX9_digest_23 8 rfl rfl)
theorem dX9_digest_546 : decode cX9_digest 546 = .ok (.i2l, 1) := dk_133 (dk_at dksX9_digest_23 11 rfl rfl)
theorem dX9_digest_547 : decode cX9_digest 547 = .ok (.invokevirtual 214, 3) := dk_182 0 214 (dk_at dksX9_digest_23 12 rfl rfl)
theorem dX9_digest_550 : decode cX9_digest 550 = .ok (.iconst 0, 1) := dk_3 (dk_at dksX9_digest_23 15 rfl rfl)
theorem dX9_digest_551 : decode cX9_digest 551 = .ok (.istore_n 1, 1) := dk_60 (dk_at dksX9_digest_23 16 rfl rfl)
theorem dX9_digest_552 : decode cX9_digest 552 = .ok (.iload_n 1, 1) := dk_27 (dk_at dksX9_digest_23 17 rfl rfl)
theorem dX9_digest_553 : decode cX9_digest 553 = .ok (.aload_n 0, 1) := dk_42 (dk_at dksX9_digest_23 18 rfl rfl)
theorem dX9_digest_554 : decode cX9_digest 554 = .ok (.getfield 146, 3) := dk_180 0 146 (dk_at dksX9_digest_23 19 rfl rfl)
theorem dX9_digest_557 : decode cX9_digest 557 = .ok (.if_icmp .ge 20, 3) := dk_162 0 20 (dk_at dksX9_digest_24 0 rfl rfl)
theorem dX9_digest_560 : decode cX9_digest 560 = .ok (.aload_n 0, 1) := dk_42 (dk_at dksX9_digest_24 3 rfl rfl)
theorem dX9_digest_561 : decode cX9_digest 561 = .ok (.aload_n 0, 1) := dk_42 (dk_at dksX9_digest_24 4 rfl rfl)
theorem dX9_digest_562 : decode cX9_digest 562 = .ok (.getfield 19, 3) := dk_180 0 19 (dk_at dksX9_digest_24 5 rfl rfl)
theorem dX9_digest_565 : decode cX9_digest 565 = .ok (.iload_n 1, 1) := dk_27 (dk_at dksX9_digest_24 8 rfl rfl)
theorem dX9_digest_566 : decode cX9_digest 566 = .ok (.iaload, 1) := dk_46 (dk_at dksX9_digest_24 9 rfl rfl)
theorem dX9_digest_567 : decode cX9_digest 567 = .ok (.i2l, 1) := dk_133 (dk_at dksX9_digest_24 10 rfl rfl)
theorem dX9_digest_568 : decode cX9_digest 568 = .ok (.invokevirtual 214, 3) := dk_182 0 214 (dk_at dksX9_digest_24 11 rfl rfl)
theorem dX9_digest_571 : decode cX9_digest 571 = .ok (.iinc 1 1, 3) := dk_132 1 1 (dk_at dksX9_digest_24 14 rfl rfl)
theorem dX9_digest_574 : decode cX9_digest 574 = .ok (.goto (-22), 3) := dk_167 255 234 (dk_at dksX9_digest_24 17 rfl rfl)
theorem dX9_digest_577 : decode cX9_digest 577 = .ok (.aload_n 0, 1) := dk_42 (dk_at dksX9_digest_24 20 rfl rfl)
theorem dX9_digest_578 : decode cX9_digest 578 = .ok (.getfield 210, 3) := dk_180 0 210 (dk_at dksX9_digest_24 21 rfl rfl)
theorem dX9_digest_581 : decode cX9_digest 581 = .ok (.lreturn, 1) := dk_173 (dk_at dksX9_digest_25 0 rfl rfl)
abbrev cX9_mix : ByteArray := prog_17_method_102_code
def yX9_mix : MethodName := ⟨RX9, "mix", "(J)V"⟩
def dkwX9_mix_0 : List UInt8 := [42, 20, 0, 208, 42, 180, 0, 210, 105, 31, 97, 181, 0, 210, 177]
abbrev dktX9_mix_0 : List UInt8 := dkwX9_mix_0 ++ []
theorem dksX9_mix_0 : cX9_mix.data.toList.drop 0 = dktX9_mix_0 := by decide +kernel
theorem dX9_mix_0 : decode cX9_mix 0 = .ok (.aload_n 0, 1) := dk_42 (dk_at dksX9_mix_0 0 rfl rfl)
theorem dX9_mix_1 : decode cX9_mix 1 = .ok (.ldc2_w 208, 3) := dk_20 0 208 (dk_at dksX9_mix_0 1 rfl rfl)
theorem dX9_mix_4 : decode cX9_mix 4 = .ok (.aload_n 0, 1) := dk_42 (dk_at dksX9_mix_0 4 rfl rfl)
theorem dX9_mix_5 : decode cX9_mix 5 = .ok (.getfield 210, 3) := dk_180 0 210 (dk_at dksX9_mix_0 5 rfl rfl)
theorem dX9_mix_8 : decode cX9_mix 8 = .ok (.lmul, 1) := dk_105 (dk_at dksX9_mix_0 8 rfl rfl)
theorem dX9_mix_9 : decode cX9_mix 9 = .ok (.lload_n 1, 1) := dk_31 (dk_at dksX9_mix_0 9 rfl rfl)
theorem dX9_mix_10 : decode cX9_mix 10 = .ok (.ladd, 1) := dk_97 (dk_at dksX9_mix_0 10 rfl rfl)
theorem dX9_mix_11 : decode cX9_mix 11 = .ok (.putfield 210, 3) := dk_181 0 210 (dk_at dksX9_mix_0 11 rfl rfl)
theorem dX9_mix_14 : decode cX9_mix 14 = .ok (.return_, 1) := dk_177 (dk_at dksX9_mix_0 14 rfl rfl)
abbrev cX9_mixes : ByteArray := prog_17_method_103_code
def yX9_mixes : MethodName := ⟨RX9, "mixes", "(Z)V"⟩
def dkwX9_mixes_0 : List UInt8 := [42, 27, 153, 0, 7, 10, 167, 0, 4, 9, 182, 0, 214, 177]
abbrev dktX9_mixes_0 : List UInt8 := dkwX9_mixes_0 ++ []
theorem dksX9_mixes_0 : cX9_mixes.data.toList.drop 0 = dktX9_mixes_0 := by decide +kernel
theorem dX9_mixes_0 : decode cX9_mixes 0 = .ok (.aload_n 0, 1) := dk_42 (dk_at dksX9_mixes_0 0 rfl rfl)
theorem dX9_mixes_1 : decode cX9_mixes 1 = .ok (.iload_n 1, 1) := dk_27 (dk_at dksX9_mixes_0 1 rfl rfl)
theorem dX9_mixes_2 : decode cX9_mixes 2 = .ok (.ifCond .eq 7, 3) := dk_153 0 7 (dk_at dksX9_mixes_0 2 rfl rfl)
theorem dX9_mixes_5 : decode cX9_mixes 5 = .ok (.lconst 1, 1) := dk_10 (dk_at dksX9_mixes_0 5 rfl rfl)
theorem dX9_mixes_6 : decode cX9_mixes 6 = .ok (.goto 4, 3) := dk_167 0 4 (dk_at dksX9_mixes_0 6 rfl rfl)
theorem dX9_mixes_9 : decode cX9_mixes 9 = .ok (.lconst 0, 1) := dk_9 (dk_at dksX9_mixes_0 9 rfl rfl)
theorem dX9_mixes_10 : decode cX9_mixes 10 = .ok (.invokevirtual 214, 3) := dk_182 0 214 (dk_at dksX9_mixes_0 10 rfl rfl)
theorem dX9_mixes_13 : decode cX9_mixes 13 = .ok (.return_, 1) := dk_177 (dk_at dksX9_mixes_0 13 rfl rfl)
abbrev cX9_bitsOf : ByteArray := prog_17_method_101_code
def yX9_bitsOf : MethodName := ⟨RX9, "bitsOf", "(DII)J"⟩
def dkwX9_bitsOf_5 : List UInt8 := [55, 9, 132, 11, 1, 167, 255, 206, 22, 9, 173]
abbrev dktX9_bitsOf_5 : List UInt8 := dkwX9_bitsOf_5 ++ []
def dkwX9_bitsOf_4 : List UInt8 := [167, 0, 4, 9, 55, 12, 24, 7, 22, 12, 138, 103, 57, 7, 20, 0, 206, 22, 9, 105, 22, 12, 97]
abbrev dktX9_bitsOf_4 : List UInt8 := dkwX9_bitsOf_4 ++ dktX9_bitsOf_5
def dkwX9_bitsOf_3 : List UInt8 := [54, 11, 21, 11, 28, 162, 0, 50, 24, 7, 20, 0, 204, 107, 57, 7, 24, 7, 15, 151, 155, 0, 7, 10]
abbrev dktX9_bitsOf_3 : List UInt8 := dkwX9_bitsOf_3 ++ dktX9_bitsOf_4
def dkwX9_bitsOf_2 : List UInt8 := [20, 0, 204, 107, 57, 4, 132, 6, 255, 167, 255, 238, 24, 4, 15, 103, 57, 7, 21, 6, 133, 55, 9, 3]
abbrev dktX9_bitsOf_2 : List UInt8 := dkwX9_bitsOf_2 ++ dktX9_bitsOf_3
def dkwX9_bitsOf_1 : List UInt8 := [24, 4, 20, 0, 204, 111, 57, 4, 132, 6, 1, 167, 255, 236, 24, 4, 15, 152, 156, 0, 17, 24, 4]
abbrev dktX9_bitsOf_1 : List UInt8 := dkwX9_bitsOf_1 ++ dktX9_bitsOf_2
def dkwX9_bitsOf_0 : List UInt8 := [38, 14, 151, 154, 0, 5, 9, 173, 38, 57, 4, 29, 54, 6, 24, 4, 20, 0, 204, 151, 155, 0, 17]
abbrev dktX9_bitsOf_0 : List UInt8 := dkwX9_bitsOf_0 ++ dktX9_bitsOf_1
theorem dksX9_bitsOf_0 : cX9_bitsOf.data.toList.drop 0 = dktX9_bitsOf_0 := by decide +kernel
theorem dksX9_bitsOf_1 : cX9_bitsOf.data.toList.drop 23 = dktX9_bitsOf_1 := dk_seg dksX9_bitsOf_0 23 rfl rfl
theorem dksX9_bitsOf_2 : cX9_bitsOf.data.toList.drop 46 = dktX9_bitsOf_2 := dk_seg dksX9_bitsOf_1 23 rfl rfl
theorem dksX9_bitsOf_3 : cX9_bitsOf.data.toList.drop 70 = dktX9_bitsOf_3 := dk_seg dksX9_bitsOf_2 24 rfl rfl
theorem dksX9_bitsOf_4 : cX9_bitsOf.data.toList.drop 94 = dktX9_bitsOf_4 := dk_seg dksX9_bitsOf_3 24 rfl rfl
theorem dksX9_bitsOf_5 : cX9_bitsOf.data.toList.drop 117 = dktX9_bitsOf_5 := dk_seg dksX9_bitsOf_4 23 rfl rfl
theorem dX9_bitsOf_0 : decode cX9_bitsOf 0 = .ok (.dload_n 0, 1) := dk_38 (dk_at dksX9_bitsOf_0 0 rfl rfl)
theorem dX9_bitsOf_1 : decode cX9_bitsOf 1 = .ok (.dconst 0, 1) := dk_14 (dk_at dksX9_bitsOf_0 1 rfl rfl)
theorem dX9_bitsOf_2 : decode cX9_bitsOf 2 = .ok (.dcmp .l, 1) := dk_151 (dk_at dksX9_bitsOf_0 2 rfl rfl)
theorem dX9_bitsOf_3 : decode cX9_bitsOf 3 = .ok (.ifCond .ne 5, 3) := dk_154 0 5 (dk_at dksX9_bitsOf_0 3 rfl rfl)
theorem dX9_bitsOf_6 : decode cX9_bitsOf 6 = .ok (.lconst 0, 1) := dk_9 (dk_at dksX9_bitsOf_0 6 rfl rfl)
theorem dX9_bitsOf_7 : decode cX9_bitsOf 7 = .ok (.lreturn, 1) := dk_173 (dk_at dksX9_bitsOf_0 7 rfl rfl)
theorem dX9_bitsOf_8 : decode cX9_bitsOf 8 = .ok (.dload_n 0, 1) := dk_38 (dk_at dksX9_bitsOf_0 8 rfl rfl)
theorem dX9_bitsOf_9 : decode cX9_bitsOf 9 = .ok (.dstore 4, 2) := dk_57 4 (dk_at dksX9_bitsOf_0 9 rfl rfl)
theorem dX9_bitsOf_11 : decode cX9_bitsOf 11 = .ok (.iload_n 3, 1) := dk_29 (dk_at dksX9_bitsOf_0 11 rfl rfl)
theorem dX9_bitsOf_12 : decode cX9_bitsOf 12 = .ok (.istore 6, 2) := dk_54 6 (dk_at dksX9_bitsOf_0 12 rfl rfl)
theorem dX9_bitsOf_14 : decode cX9_bitsOf 14 = .ok (.dload 4, 2) := dk_24 4 (dk_at dksX9_bitsOf_0 14 rfl rfl)
theorem dX9_bitsOf_16 : decode cX9_bitsOf 16 = .ok (.ldc2_w 204, 3) := dk_20 0 204 (dk_at dksX9_bitsOf_0 16 rfl rfl)
theorem dX9_bitsOf_19 : decode cX9_bitsOf 19 = .ok (.dcmp .l, 1) := dk_151 (dk_at dksX9_bitsOf_0 19 rfl rfl)
theorem dX9_bitsOf_20 : decode cX9_bitsOf 20 = .ok (.ifCond .lt 17, 3) := dk_155 0 17 (dk_at dksX9_bitsOf_0 20 rfl rfl)
theorem dX9_bitsOf_23 : decode cX9_bitsOf 23 = .ok (.dload 4, 2) := dk_24 4 (dk_at dksX9_bitsOf_1 0 rfl rfl)
theorem dX9_bitsOf_25 : decode cX9_bitsOf 25 = .ok (.ldc2_w 204, 3) := dk_20 0 204 (dk_at dksX9_bitsOf_1 2 rfl rfl)
theorem dX9_bitsOf_28 : decode cX9_bitsOf 28 = .ok (.ddiv, 1) := dk_111 (dk_at dksX9_bitsOf_1 5 rfl rfl)
theorem dX9_bitsOf_29 : decode cX9_bitsOf 29 = .ok (.dstore 4, 2) := dk_57 4 (dk_at dksX9_bitsOf_1 6 rfl rfl)
theorem dX9_bitsOf_31 : decode cX9_bitsOf 31 = .ok (.iinc 6 1, 3) := dk_132 6 1 (dk_at dksX9_bitsOf_1 8 rfl rfl)
theorem dX9_bitsOf_34 : decode cX9_bitsOf 34 = .ok (.goto (-20), 3) := dk_167 255 236 (dk_at dksX9_bitsOf_1 11 rfl rfl)
theorem dX9_bitsOf_37 : decode cX9_bitsOf 37 = .ok (.dload 4, 2) := dk_24 4 (dk_at dksX9_bitsOf_1 14 rfl rfl)
theorem dX9_bitsOf_39 : decode cX9_bitsOf 39 = .ok (.dconst 1, 1) := dk_15 (dk_at dksX9_bitsOf_1 16 rfl rfl)
theorem dX9_bitsOf_40 : decode cX9_bitsOf 40 = .ok (.dcmp .g, 1) := dk_152 (dk_at dksX9_bitsOf_1 17 rfl rfl)
theorem dX9_bitsOf_41 : decode cX9_bitsOf 41 = .ok (.ifCond .ge 17, 3) := dk_156 0 17 (dk_at dksX9_bitsOf_1 18 rfl rfl)
theorem dX9_bitsOf_44 : decode cX9_bitsOf 44 = .ok (.dload 4, 2) := dk_24 4 (dk_at dksX9_bitsOf_1 21 rfl rfl)
theorem dX9_bitsOf_46 : decode cX9_bitsOf 46 = .ok (.ldc2_w 204, 3) := dk_20 0 204 (dk_at dksX9_bitsOf_2 0 rfl rfl)
theorem dX9_bitsOf_49 : decode cX9_bitsOf 49 = .ok (.dmul, 1) := dk_107 (dk_at dksX9_bitsOf_2 3 rfl rfl)
theorem dX9_bitsOf_50 : decode cX9_bitsOf 50 = .ok (.dstore 4, 2) := dk_57 4 (dk_at dksX9_bitsOf_2 4 rfl rfl)
theorem dX9_bitsOf_52 : decode cX9_bitsOf 52 = .ok (.iinc 6 (-1), 3) := dk_132 6 255 (dk_at dksX9_bitsOf_2 6 rfl rfl)
theorem dX9_bitsOf_55 : decode cX9_bitsOf 55 = .ok (.goto (-18), 3) := dk_167 255 238 (dk_at dksX9_bitsOf_2 9 rfl rfl)
theorem dX9_bitsOf_58 : decode cX9_bitsOf 58 = .ok (.dload 4, 2) := dk_24 4 (dk_at dksX9_bitsOf_2 12 rfl rfl)
theorem dX9_bitsOf_60 : decode cX9_bitsOf 60 = .ok (.dconst 1, 1) := dk_15 (dk_at dksX9_bitsOf_2 14 rfl rfl)
theorem dX9_bitsOf_61 : decode cX9_bitsOf 61 = .ok (.dsub, 1) := dk_103 (dk_at dksX9_bitsOf_2 15 rfl rfl)
theorem dX9_bitsOf_62 : decode cX9_bitsOf 62 = .ok (.dstore 7, 2) := dk_57 7 (dk_at dksX9_bitsOf_2 16 rfl rfl)
theorem dX9_bitsOf_64 : decode cX9_bitsOf 64 = .ok (.iload 6, 2) := dk_21 6 (dk_at dksX9_bitsOf_2 18 rfl rfl)
theorem dX9_bitsOf_66 : decode cX9_bitsOf 66 = .ok (.i2l, 1) := dk_133 (dk_at dksX9_bitsOf_2 20 rfl rfl)
theorem dX9_bitsOf_67 : decode cX9_bitsOf 67 = .ok (.lstore 9, 2) := dk_55 9 (dk_at dksX9_bitsOf_2 21 rfl rfl)
theorem dX9_bitsOf_69 : decode cX9_bitsOf 69 = .ok (.iconst 0, 1) := dk_3 (dk_at dksX9_bitsOf_2 23 rfl rfl)
theorem dX9_bitsOf_70 : decode cX9_bitsOf 70 = .ok (.istore 11, 2) := dk_54 11 (dk_at dksX9_bitsOf_3 0 rfl rfl)
theorem dX9_bitsOf_72 : decode cX9_bitsOf 72 = .ok (.iload 11, 2) := dk_21 11 (dk_at dksX9_bitsOf_3 2 rfl rfl)
theorem dX9_bitsOf_74 : decode cX9_bitsOf 74 = .ok (.iload_n 2, 1) := dk_28 (dk_at dksX9_bitsOf_3 4 rfl rfl)
theorem dX9_bitsOf_75 : decode cX9_bitsOf 75 = .ok (.if_icmp .ge 50, 3) := dk_162 0 50 (dk_at dksX9_bitsOf_3 5 rfl rfl)
theorem dX9_bitsOf_78 : decode cX9_bitsOf 78 = .ok (.dload 7, 2) := dk_24 7 (dk_at dksX9_bitsOf_3 8 rfl rfl)
theorem dX9_bitsOf_80 : decode cX9_bitsOf 80 = .ok (.ldc2_w 204, 3) := dk_20 0 204 (dk_at dksX9_bitsOf_3 10 rfl rfl)
theorem dX9_bitsOf_83 : decode cX9_bitsOf 83 = .ok (.dmul, 1) := dk_107 (dk_at dksX9_bitsOf_3 13 rfl rfl)
theorem dX9_bitsOf_84 : decode cX9_bitsOf 84 = .ok (.dstore 7, 2) := dk_57 7 (dk_at dksX9_bitsOf_3 14 rfl rfl)
theorem dX9_bitsOf_86 : decode cX9_bitsOf 86 = .ok (.dload 7, 2) := dk_24 7 (dk_at dksX9_bitsOf_3 16 rfl rfl)
theorem dX9_bitsOf_88 : decode cX9_bitsOf 88 = .ok (.dconst 1, 1) := dk_15 (dk_at dksX9_bitsOf_3 18 rfl rfl)
theorem dX9_bitsOf_89 : decode cX9_bitsOf 89 = .ok (.dcmp .l, 1) := dk_151 (dk_at dksX9_bitsOf_3 19 rfl rfl)
theorem dX9_bitsOf_90 : decode cX9_bitsOf 90 = .ok (.ifCond .lt 7, 3) := dk_155 0 7 (dk_at dksX9_bitsOf_3 20 rfl rfl)
theorem dX9_bitsOf_93 : decode cX9_bitsOf 93 = .ok (.lconst 1, 1) := dk_10 (dk_at dksX9_bitsOf_3 23 rfl rfl)
theorem dX9_bitsOf_94 : decode cX9_bitsOf 94 = .ok (.goto 4, 3) := dk_167 0 4 (dk_at dksX9_bitsOf_4 0 rfl rfl)
theorem dX9_bitsOf_97 : decode cX9_bitsOf 97 = .ok (.lconst 0, 1) := dk_9 (dk_at dksX9_bitsOf_4 3 rfl rfl)
theorem dX9_bitsOf_98 : decode cX9_bitsOf 98 = .ok (.lstore 12, 2) := dk_55 12 (dk_at dksX9_bitsOf_4 4 rfl rfl)
theorem dX9_bitsOf_100 : decode cX9_bitsOf 100 = .ok (.dload 7, 2) := dk_24 7 (dk_at dksX9_bitsOf_4 6 rfl rfl)
theorem dX9_bitsOf_102 : decode cX9_bitsOf 102 = .ok (.lload 12, 2) := dk_22 12 (dk_at dksX9_bitsOf_4 8 rfl rfl)
theorem dX9_bitsOf_104 : decode cX9_bitsOf 104 = .ok (.l2d, 1) := dk_138 (dk_at dksX9_bitsOf_4 10 rfl rfl)
theorem dX9_bitsOf_105 : decode cX9_bitsOf 105 = .ok (.dsub, 1) := dk_103 (dk_at dksX9_bitsOf_4 11 rfl rfl)
theorem dX9_bitsOf_106 : decode cX9_bitsOf 106 = .ok (.dstore 7, 2) := dk_57 7 (dk_at dksX9_bitsOf_4 12 rfl rfl)
theorem dX9_bitsOf_108 : decode cX9_bitsOf 108 = .ok (.ldc2_w 206, 3) := dk_20 0 206 (dk_at dksX9_bitsOf_4 14 rfl rfl)
theorem dX9_bitsOf_111 : decode cX9_bitsOf 111 = .ok (.lload 9, 2) := dk_22 9 (dk_at dksX9_bitsOf_4 17 rfl rfl)
theorem dX9_bitsOf_113 : decode cX9_bitsOf 113 = .ok (.lmul, 1) := dk_105 (dk_at dksX9_bitsOf_4 19 rfl rfl)
theorem dX9_bitsOf_114 : decode cX9_bitsOf 114 = .ok (.lload 12, 2) := dk_22 12 (dk_at dksX9_bitsOf_4 20 rfl rfl)
theorem dX9_bitsOf_116 : decode cX9_bitsOf 116 = .ok (.ladd, 1) := dk_97 (dk_at dksX9_bitsOf_4 22 rfl rfl)
theorem dX9_bitsOf_117 : decode cX9_bitsOf 117 = .ok (.lstore 9, 2) := dk_55 9 (dk_at dksX9_bitsOf_5 0 rfl rfl)
theorem dX9_bitsOf_119 : decode cX9_bitsOf 119 = .ok (.iinc 11 1, 3) := dk_132 11 1 (dk_at dksX9_bitsOf_5 2 rfl rfl)
theorem dX9_bitsOf_122 : decode cX9_bitsOf 122 = .ok (.goto (-50), 3) := dk_167 255 206 (dk_at dksX9_bitsOf_5 5 rfl rfl)
theorem dX9_bitsOf_125 : decode cX9_bitsOf 125 = .ok (.lload 9, 2) := dk_22 9 (dk_at dksX9_bitsOf_5 8 rfl rfl)
theorem dX9_bitsOf_127 : decode cX9_bitsOf 127 = .ok (.lreturn, 1) := dk_173 (dk_at dksX9_bitsOf_5 10 rfl rfl)
theorem q125 : (Jvm.Cond.initialized "CourierClashModel") ∈ lw_all := lw_g (lw_at lw_m1 30 rfl) rfl
theorem q1327 : (Jvm.Cond.selects "CourierClashModel" ({ cls := "java/lang/Object", name := "getClass", desc := "()Ljava/lang/Class;" } : Jvm.MethodName) ({ cls := "java/lang/Object", name := "getClass", desc := "()Ljava/lang/Class;" } : Jvm.MethodName)) ∈ lw_all := lw_g (lw_at lw_m6 32 rfl) rfl
theorem q2336 : (Jvm.Cond.instantiable "CourierClashModel" (14 : Nat)) ∈ lw_all := lw_g (lw_at lw_m10 81 rfl) rfl
theorem q2338 : (Jvm.Cond.instanceMethod ({ cls := "CourierClashModel", name := "<init>", desc := "()V" } : Jvm.MethodName)) ∈ lw_all := lw_g (lw_at lw_m10 83 rfl) rfl
theorem q2339 : (Jvm.Cond.code ({ cls := "CourierClashModel", name := "<init>", desc := "()V" } : Jvm.MethodName) prog_17_method_1_code (2 : Nat) (Option.none : Option Jvm.ClassFile.FieldType)) ∈ lw_all := lw_g (lw_at lw_m10 84 rfl) rfl
theorem q2340 : (Jvm.Cond.methodLink "CourierClashModel" (1 : Nat) ({ cls := "java/lang/Object", name := "<init>", desc := "()V" } : Jvm.MethodName)) ∈ lw_all := lw_g (lw_at lw_m10 85 rfl) rfl
theorem q2341 : (Jvm.Cond.methodLink "CourierClashModel" (31 : Nat) ({ cls := "CourierClashModel", name := "lay", desc := "(III)V" } : Jvm.MethodName)) ∈ lw_all := lw_g (lw_at lw_m10 86 rfl) rfl
theorem q2342 : (Jvm.Cond.privateMethod ({ cls := "CourierClashModel", name := "lay", desc := "(III)V" } : Jvm.MethodName)) ∈ lw_tbl := lw_at lw_m10 87 rfl
theorem q2343 : (Jvm.Cond.instanceMethod ({ cls := "CourierClashModel", name := "lay", desc := "(III)V" } : Jvm.MethodName)) ∈ lw_all := lw_g (lw_at lw_m10 88 rfl) rfl
theorem q2344 : (Jvm.Cond.code ({ cls := "CourierClashModel", name := "lay", desc := "(III)V" } : Jvm.MethodName) prog_17_method_11_code (4 : Nat) (Option.none : Option Jvm.ClassFile.FieldType)) ∈ lw_all := lw_g (lw_at lw_m10 89 rfl) rfl
theorem q2345 : (Jvm.Cond.methodLink "CourierClashModel" (35 : Nat) ({ cls := "CourierClashModel", name := "notes", desc := "()V" } : Jvm.MethodName)) ∈ lw_all := lw_g (lw_at lw_m10 90 rfl) rfl
theorem q2346 : (Jvm.Cond.privateMethod ({ cls := "CourierClashModel", name := "notes", desc := "()V" } : Jvm.MethodName)) ∈ lw_tbl := lw_at lw_m10 91 rfl
theorem q2347 : (Jvm.Cond.instanceMethod ({ cls := "CourierClashModel", name := "notes", desc := "()V" } : Jvm.MethodName)) ∈ lw_all := lw_g (lw_at lw_m10 92 rfl) rfl
theorem q2348 : (Jvm.Cond.code ({ cls := "CourierClashModel", name := "notes", desc := "()V" } : Jvm.MethodName) prog_17_method_24_code (1 : Nat) (Option.none : Option Jvm.ClassFile.FieldType)) ∈ lw_all := lw_g (lw_at lw_m10 93 rfl) rfl
theorem q2349 : (Jvm.Cond.methodLink "CourierClashModel" (64 : Nat) ({ cls := "CourierClashModel", name := "first", desc := "()I" } : Jvm.MethodName)) ∈ lw_all := lw_g (lw_at lw_m10 94 rfl) rfl
theorem q2350 : (Jvm.Cond.privateMethod ({ cls := "CourierClashModel", name := "first", desc := "()I" } : Jvm.MethodName)) ∈ lw_tbl := lw_at lw_m10 95 rfl
theorem q2351 : (Jvm.Cond.instanceMethod ({ cls := "CourierClashModel", name := "first", desc := "()I" } : Jvm.MethodName)) ∈ lw_all := lw_g (lw_at lw_m10 96 rfl) rfl
theorem q2352 : (Jvm.Cond.code ({ cls := "CourierClashModel", name := "first", desc := "()I" } : Jvm.MethodName) prog_17_method_22_code (3 : Nat) (Option.some Jvm.ClassFile.FieldType.int)) ∈ lw_all := lw_g (lw_at lw_m10 97 rfl) rfl
theorem q2353 : (Jvm.Cond.methodLink "CourierClashModel" (53 : Nat) ({ cls := "CourierClashModel", name := "of", desc := "(II)I" } : Jvm.MethodName)) ∈ lw_all := lw_g (lw_at lw_m10 98 rfl) rfl
theorem q2354 : (Jvm.Cond.privateMethod ({ cls := "CourierClashModel", name := "of", desc := "(II)I" } : Jvm.MethodName)) ∈ lw_tbl := lw_at lw_m10 99 rfl
theorem q2355 : (Jvm.Cond.instanceMethod ({ cls := "CourierClashModel", name := "of", desc := "(II)I" } : Jvm.MethodName)) ∈ lw_all := lw_g (lw_at lw_m10 100 rfl) rfl
theorem q2356 : (Jvm.Cond.code ({ cls := "CourierClashModel", name := "of", desc := "(II)I" } : Jvm.MethodName) prog_17_method_10_code (3 : Nat) (Option.some Jvm.ClassFile.FieldType.int)) ∈ lw_all := lw_g (lw_at lw_m10 101 rfl) rfl
theorem q2357 : (Jvm.Cond.methodLink "CourierClashModel" (60 : Nat) ({ cls := "CourierClashModel", name := "coded", desc := "(I)I" } : Jvm.MethodName)) ∈ lw_all := lw_g (lw_at lw_m10 102 rfl) rfl
theorem q2358 : (Jvm.Cond.privateMethod ({ cls := "CourierClashModel", name := "coded", desc := "(I)I" } : Jvm.MethodName)) ∈ lw_tbl := lw_at lw_m10 103 rfl
theorem q2359 : (Jvm.Cond.instanceMethod ({ cls := "CourierClashModel", name := "coded", desc := "(I)I" } : Jvm.MethodName)) ∈ lw_all := lw_g (lw_at lw_m10 104 rfl) rfl
theorem q2360 : (Jvm.Cond.code ({ cls := "CourierClashModel", name := "coded", desc := "(I)I" } : Jvm.MethodName) prog_17_method_21_code (2 : Nat) (Option.some Jvm.ClassFile.FieldType.int)) ∈ lw_all := lw_g (lw_at lw_m10 105 rfl) rfl
theorem q2361 : (Jvm.Cond.methodLink "CourierClashModel" (49 : Nat) ({ cls := "CourierClashModel", name := "has", desc := "(II)I" } : Jvm.MethodName)) ∈ lw_all := lw_g (lw_at lw_m10 106 rfl) rfl
theorem q2362 : (Jvm.Cond.privateMethod ({ cls := "CourierClashModel", name := "has", desc := "(II)I" } : Jvm.MethodName)) ∈ lw_tbl := lw_at lw_m10 107 rfl
theorem q2363 : (Jvm.Cond.instanceMethod ({ cls := "CourierClashModel", name := "has", desc := "(II)I" } : Jvm.MethodName)) ∈ lw_all := lw_g (lw_at lw_m10 108 rfl) rfl
theorem q2364 : (Jvm.Cond.code ({ cls := "CourierClashModel", name := "has", desc := "(II)I" } : Jvm.MethodName) prog_17_method_12_code (3 : Nat) (Option.some Jvm.ClassFile.FieldType.int)) ∈ lw_all := lw_g (lw_at lw_m10 109 rfl) rfl
theorem q2365 : (Jvm.Cond.methodLink "CourierClashModel" (68 : Nat) ({ cls := "CourierClashModel", name := "second", desc := "()I" } : Jvm.MethodName)) ∈ lw_all := lw_g (lw_at lw_m10 110 rfl) rfl
theorem q2366 : (Jvm.Cond.privateMethod ({ cls := "CourierClashModel", name := "second", desc := "()I" } : Jvm.MethodName)) ∈ lw_tbl := lw_at lw_m10 111 rfl
theorem q2367 : (Jvm.Cond.instanceMethod ({ cls := "CourierClashModel", name := "second", desc := "()I" } : Jvm.MethodName)) ∈ lw_all := lw_g (lw_at lw_m10 112 rfl) rfl
theorem q2368 : (Jvm.Cond.code ({ cls := "CourierClashModel", name := "second", desc := "()I" } : Jvm.MethodName) prog_17_method_23_code (3 : Nat) (Option.some Jvm.ClassFile.FieldType.int)) ∈ lw_all := lw_g (lw_at lw_m10 113 rfl) rfl
theorem q2369 : (Jvm.Cond.fieldLink "CourierClashModel" (7 : Nat) "CourierClashModel" "s" "[I") ∈ lw_all := lw_g (lw_at lw_m10 114 rfl) rfl
theorem q2370 : (Jvm.Cond.fieldLink "CourierClashModel" (13 : Nat) "CourierClashModel" "before" "[I") ∈ lw_all := lw_g (lw_at lw_m10 115 rfl) rfl
theorem q2371 : (Jvm.Cond.fieldLink "CourierClashModel" (46 : Nat) "CourierClashModel" "known" "I") ∈ lw_all := lw_g (lw_at lw_m10 116 rfl) rfl
theorem q2372 : (Jvm.Cond.fieldLink "CourierClashModel" (16 : Nat) "CourierClashModel" "kept" "[I") ∈ lw_all := lw_g (lw_at lw_m10 117 rfl) rfl
theorem q2373 : (Jvm.Cond.fieldLink "CourierClashModel" (170 : Nat) "CourierClashModel" "isKept" "Z") ∈ lw_all := lw_g (lw_at lw_m10 118 rfl) rfl
theorem q2374 : (Jvm.Cond.fieldLink "CourierClashModel" (19 : Nat) "CourierClashModel" "buffer" "[I") ∈ lw_all := lw_g (lw_at lw_m10 119 rfl) rfl
theorem q2375 : (Jvm.Cond.fieldLink "CourierClashModel" (146 : Nat) "CourierClashModel" "length" "I") ∈ lw_all := lw_g (lw_at lw_m10 120 rfl) rfl
theorem q2376 : (Jvm.Cond.fieldLink "CourierClashModel" (38 : Nat) "CourierClashModel" "thrown" "I") ∈ lw_all := lw_g (lw_at lw_m10 121 rfl) rfl
theorem q2377 : (Jvm.Cond.fieldLink "CourierClashModel" (22 : Nat) "CourierClashModel" "fate" "[I") ∈ lw_all := lw_g (lw_at lw_m10 122 rfl) rfl
theorem q2378 : (Jvm.Cond.fieldLink "CourierClashModel" (25 : Nat) "CourierClashModel" "old" "[I") ∈ lw_all := lw_g (lw_at lw_m10 123 rfl) rfl
theorem q2379 : (Jvm.Cond.fieldLink "CourierClashModel" (149 : Nat) "CourierClashModel" "at" "I") ∈ lw_all := lw_g (lw_at lw_m10 124 rfl) rfl
theorem q2380 : (Jvm.Cond.fieldLink "CourierClashModel" (152 : Nat) "CourierClashModel" "isWrong" "Z") ∈ lw_all := lw_g (lw_at lw_m10 125 rfl) rfl
theorem q2381 : (Jvm.Cond.fieldLink "CourierClashModel" (28 : Nat) "CourierClashModel" "far" "[I") ∈ lw_all := lw_g (lw_at lw_m10 126 rfl) rfl
theorem q2382 : (Jvm.Cond.fieldLink "CourierClashModel" (210 : Nat) "CourierClashModel" "hash" "J") ∈ lw_all := lw_g (lw_at lw_m10 127 rfl) rfl
theorem q2383 : (Jvm.Cond.laysFinal "CourierClashModel" "CourierClashModel" "s" "[I") ∈ lw_all := lw_g (lw_at lw_m10 128 rfl) rfl
theorem q2384 : (Jvm.Cond.soleField "CourierClashModel" "s") ∈ lw_all := lw_g (lw_at lw_m10 129 rfl) rfl
theorem q2385 : (Jvm.Cond.laysFinal "CourierClashModel" "CourierClashModel" "before" "[I") ∈ lw_all := lw_g (lw_at lw_m10 130 rfl) rfl
theorem q2386 : (Jvm.Cond.soleField "CourierClashModel" "before") ∈ lw_all := lw_g (lw_at lw_m10 131 rfl) rfl
theorem q2387 : (Jvm.Cond.lays "CourierClashModel" "CourierClashModel" "known" "I") ∈ lw_all := lw_g (lw_at lw_m10 132 rfl) rfl
theorem q2388 : (Jvm.Cond.soleField "CourierClashModel" "known") ∈ lw_all := lw_g (lw_at lw_m10 133 rfl) rfl
theorem q2389 : (Jvm.Cond.laysFinal "CourierClashModel" "CourierClashModel" "kept" "[I") ∈ lw_all := lw_g (lw_at lw_m10 134 rfl) rfl
theorem q2390 : (Jvm.Cond.soleField "CourierClashModel" "kept") ∈ lw_all := lw_g (lw_at lw_m10 135 rfl) rfl
theorem q2391 : (Jvm.Cond.lays "CourierClashModel" "CourierClashModel" "isKept" "Z") ∈ lw_all := lw_g (lw_at lw_m10 136 rfl) rfl
theorem q2392 : (Jvm.Cond.soleField "CourierClashModel" "isKept") ∈ lw_all := lw_g (lw_at lw_m10 137 rfl) rfl
theorem q2393 : (Jvm.Cond.laysFinal "CourierClashModel" "CourierClashModel" "buffer" "[I") ∈ lw_all := lw_g (lw_at lw_m10 138 rfl) rfl
theorem q2394 : (Jvm.Cond.soleField "CourierClashModel" "buffer") ∈ lw_all := lw_g (lw_at lw_m10 139 rfl) rfl
theorem q2395 : (Jvm.Cond.lays "CourierClashModel" "CourierClashModel" "length" "I") ∈ lw_all := lw_g (lw_at lw_m10 140 rfl) rfl
theorem q2396 : (Jvm.Cond.soleField "CourierClashModel" "length") ∈ lw_all := lw_g (lw_at lw_m10 141 rfl) rfl
theorem q2397 : (Jvm.Cond.lays "CourierClashModel" "CourierClashModel" "thrown" "I") ∈ lw_all := lw_g (lw_at lw_m10 142 rfl) rfl
theorem q2398 : (Jvm.Cond.soleField "CourierClashModel" "thrown") ∈ lw_all := lw_g (lw_at lw_m10 143 rfl) rfl
theorem q2399 : (Jvm.Cond.laysFinal "CourierClashModel" "CourierClashModel" "fate" "[I") ∈ lw_all := lw_g (lw_at lw_m10 144 rfl) rfl
theorem q2400 : (Jvm.Cond.soleField "CourierClashModel" "fate") ∈ lw_all := lw_g (lw_at lw_m10 145 rfl) rfl
theorem q2401 : (Jvm.Cond.laysFinal "CourierClashModel" "CourierClashModel" "old" "[I") ∈ lw_all := lw_g (lw_at lw_m10 146 rfl) rfl
theorem q2402 : (Jvm.Cond.soleField "CourierClashModel" "old") ∈ lw_all := lw_g (lw_at lw_m10 147 rfl) rfl
theorem q2403 : (Jvm.Cond.lays "CourierClashModel" "CourierClashModel" "at" "I") ∈ lw_all := lw_g (lw_at lw_m10 148 rfl) rfl
theorem q2404 : (Jvm.Cond.soleField "CourierClashModel" "at") ∈ lw_all := lw_g (lw_at lw_m10 149 rfl) rfl
theorem q2405 : (Jvm.Cond.lays "CourierClashModel" "CourierClashModel" "isWrong" "Z") ∈ lw_all := lw_g (lw_at lw_m10 150 rfl) rfl
theorem q2406 : (Jvm.Cond.soleField "CourierClashModel" "isWrong") ∈ lw_all := lw_g (lw_at lw_m10 151 rfl) rfl
theorem q2407 : (Jvm.Cond.laysFinal "CourierClashModel" "CourierClashModel" "far" "[I") ∈ lw_all := lw_g (lw_at lw_m10 152 rfl) rfl
theorem q2408 : (Jvm.Cond.soleField "CourierClashModel" "far") ∈ lw_all := lw_g (lw_at lw_m10 153 rfl) rfl
theorem q2409 : (Jvm.Cond.lays "CourierClashModel" "CourierClashModel" "hash" "J") ∈ lw_all := lw_g (lw_at lw_m10 154 rfl) rfl
theorem q2410 : (Jvm.Cond.soleField "CourierClashModel" "hash") ∈ lw_all := lw_g (lw_at lw_m10 155 rfl) rfl
theorem q2411 : (Jvm.Cond.superclass "CourierClashModel" "java/lang/Object") ∈ lw_all := lw_g (lw_at lw_m10 156 rfl) rfl
theorem q2413 : (Jvm.Cond.instanceMethod ({ cls := "CourierClashModel", name := "thrown", desc := "()I" } : Jvm.MethodName)) ∈ lw_all := lw_g (lw_at lw_m10 158 rfl) rfl
theorem q2414 : (Jvm.Cond.selects "CourierClashModel" ({ cls := "CourierClashModel", name := "thrown", desc := "()I" } : Jvm.MethodName) ({ cls := "CourierClashModel", name := "thrown", desc := "()I" } : Jvm.MethodName)) ∈ lw_all := lw_g (lw_at lw_m10 159 rfl) rfl
theorem q2415 : (Jvm.Cond.code ({ cls := "CourierClashModel", name := "thrown", desc := "()I" } : Jvm.MethodName) prog_17_method_2_code (1 : Nat) (Option.some Jvm.ClassFile.FieldType.int)) ∈ lw_all := lw_g (lw_at lw_m10 160 rfl) rfl
theorem q2417 : (Jvm.Cond.instanceMethod ({ cls := "CourierClashModel", name := "addStreet", desc := "(IIZ)I" } : Jvm.MethodName)) ∈ lw_all := lw_g (lw_at lw_m10 162 rfl) rfl
theorem q2418 : (Jvm.Cond.selects "CourierClashModel" ({ cls := "CourierClashModel", name := "addStreet", desc := "(IIZ)I" } : Jvm.MethodName) ({ cls := "CourierClashModel", name := "addStreet", desc := "(IIZ)I" } : Jvm.MethodName)) ∈ lw_all := lw_g (lw_at lw_m10 163 rfl) rfl
theorem q2419 : (Jvm.Cond.code ({ cls := "CourierClashModel", name := "addStreet", desc := "(IIZ)I" } : Jvm.MethodName) prog_17_method_38_code (6 : Nat) (Option.some Jvm.ClassFile.FieldType.int)) ∈ lw_all := lw_g (lw_at lw_m10 164 rfl) rfl
theorem q2420 : (Jvm.Cond.methodLink "CourierClashModel" (119 : Nat) ({ cls := "CourierClashModel", name := "isJunction", desc := "(I)Z" } : Jvm.MethodName)) ∈ lw_all := lw_g (lw_at lw_m10 165 rfl) rfl
theorem q2421 : (Jvm.Cond.static ({ cls := "CourierClashModel", name := "isJunction", desc := "(I)Z" } : Jvm.MethodName)) ∈ lw_all := lw_g (lw_at lw_m10 166 rfl) rfl
theorem q2422 : (Jvm.Cond.code ({ cls := "CourierClashModel", name := "isJunction", desc := "(I)Z" } : Jvm.MethodName) prog_17_method_5_code (1 : Nat) (Option.some Jvm.ClassFile.FieldType.boolean)) ∈ lw_all := lw_g (lw_at lw_m10 167 rfl) rfl
theorem q2423 : (Jvm.Cond.methodLink "CourierClashModel" (42 : Nat) ({ cls := "CourierClashModel", name := "in", desc := "(III)Z" } : Jvm.MethodName)) ∈ lw_all := lw_g (lw_at lw_m10 168 rfl) rfl
theorem q2424 : (Jvm.Cond.static ({ cls := "CourierClashModel", name := "in", desc := "(III)Z" } : Jvm.MethodName)) ∈ lw_all := lw_g (lw_at lw_m10 169 rfl) rfl
theorem q2425 : (Jvm.Cond.code ({ cls := "CourierClashModel", name := "in", desc := "(III)Z" } : Jvm.MethodName) prog_17_method_4_code (3 : Nat) (Option.some Jvm.ClassFile.FieldType.boolean)) ∈ lw_all := lw_g (lw_at lw_m10 170 rfl) rfl
theorem q2426 : (Jvm.Cond.methodLink "CourierClashModel" (122 : Nat) ({ cls := "CourierClashModel", name := "throwing", desc := "(I)I" } : Jvm.MethodName)) ∈ lw_all := lw_g (lw_at lw_m10 171 rfl) rfl
theorem q2427 : (Jvm.Cond.privateMethod ({ cls := "CourierClashModel", name := "throwing", desc := "(I)I" } : Jvm.MethodName)) ∈ lw_tbl := lw_at lw_m10 172 rfl
theorem q2428 : (Jvm.Cond.instanceMethod ({ cls := "CourierClashModel", name := "throwing", desc := "(I)I" } : Jvm.MethodName)) ∈ lw_all := lw_g (lw_at lw_m10 173 rfl) rfl
theorem q2429 : (Jvm.Cond.code ({ cls := "CourierClashModel", name := "throwing", desc := "(I)I" } : Jvm.MethodName) prog_17_method_3_code (2 : Nat) (Option.some Jvm.ClassFile.FieldType.int)) ∈ lw_all := lw_g (lw_at lw_m10 174 rfl) rfl
theorem q2430 : (Jvm.Cond.methodLink "CourierClashModel" (77 : Nat) ({ cls := "CourierClashModel", name := "from", desc := "(I)I" } : Jvm.MethodName)) ∈ lw_all := lw_g (lw_at lw_m10 175 rfl) rfl
theorem q2431 : (Jvm.Cond.privateMethod ({ cls := "CourierClashModel", name := "from", desc := "(I)I" } : Jvm.MethodName)) ∈ lw_tbl := lw_at lw_m10 176 rfl
theorem q2432 : (Jvm.Cond.instanceMethod ({ cls := "CourierClashModel", name := "from", desc := "(I)I" } : Jvm.MethodName)) ∈ lw_all := lw_g (lw_at lw_m10 177 rfl) rfl
theorem q2433 : (Jvm.Cond.code ({ cls := "CourierClashModel", name := "from", desc := "(I)I" } : Jvm.MethodName) prog_17_method_14_code (2 : Nat) (Option.some Jvm.ClassFile.FieldType.int)) ∈ lw_all := lw_g (lw_at lw_m10 178 rfl) rfl
theorem q2434 : (Jvm.Cond.methodLink "CourierClashModel" (91 : Nat) ({ cls := "CourierClashModel", name := "to", desc := "(I)I" } : Jvm.MethodName)) ∈ lw_all := lw_g (lw_at lw_m10 179 rfl) rfl
theorem q2435 : (Jvm.Cond.privateMethod ({ cls := "CourierClashModel", name := "to", desc := "(I)I" } : Jvm.MethodName)) ∈ lw_tbl := lw_at lw_m10 180 rfl
theorem q2436 : (Jvm.Cond.instanceMethod ({ cls := "CourierClashModel", name := "to", desc := "(I)I" } : Jvm.MethodName)) ∈ lw_all := lw_g (lw_at lw_m10 181 rfl) rfl
theorem q2437 : (Jvm.Cond.code ({ cls := "CourierClashModel", name := "to", desc := "(I)I" } : Jvm.MethodName) prog_17_method_15_code (2 : Nat) (Option.some Jvm.ClassFile.FieldType.int)) ∈ lw_all := lw_g (lw_at lw_m10 182 rfl) rfl
theorem q2438 : (Jvm.Cond.methodLink "CourierClashModel" (125 : Nat) ({ cls := "CourierClashModel", name := "save", desc := "()V" } : Jvm.MethodName)) ∈ lw_all := lw_g (lw_at lw_m10 183 rfl) rfl
theorem q2439 : (Jvm.Cond.privateMethod ({ cls := "CourierClashModel", name := "save", desc := "()V" } : Jvm.MethodName)) ∈ lw_tbl := lw_at lw_m10 184 rfl
theorem q2440 : (Jvm.Cond.instanceMethod ({ cls := "CourierClashModel", name := "save", desc := "()V" } : Jvm.MethodName)) ∈ lw_all := lw_g (lw_at lw_m10 185 rfl) rfl
theorem q2441 : (Jvm.Cond.code ({ cls := "CourierClashModel", name := "save", desc := "()V" } : Jvm.MethodName) prog_17_method_9_code (2 : Nat) (Option.none : Option Jvm.ClassFile.FieldType)) ∈ lw_all := lw_g (lw_at lw_m10 186 rfl) rfl
theorem q2443 : (Jvm.Cond.instanceMethod ({ cls := "CourierClashModel", name := "toggleStreet", desc := "(I)Z" } : Jvm.MethodName)) ∈ lw_all := lw_g (lw_at lw_m10 188 rfl) rfl
theorem q2444 : (Jvm.Cond.selects "CourierClashModel" ({ cls := "CourierClashModel", name := "toggleStreet", desc := "(I)Z" } : Jvm.MethodName) ({ cls := "CourierClashModel", name := "toggleStreet", desc := "(I)Z" } : Jvm.MethodName)) ∈ lw_all := lw_g (lw_at lw_m10 189 rfl) rfl
theorem q2445 : (Jvm.Cond.code ({ cls := "CourierClashModel", name := "toggleStreet", desc := "(I)Z" } : Jvm.MethodName) prog_17_method_39_code (2 : Nat) (Option.some Jvm.ClassFile.FieldType.boolean)) ∈ lw_all := lw_g (lw_at lw_m10 190 rfl) rfl
theorem q2446 : (Jvm.Cond.methodLink "CourierClashModel" (128 : Nat) ({ cls := "CourierClashModel", name := "isStreet", desc := "(I)Z" } : Jvm.MethodName)) ∈ lw_all := lw_g (lw_at lw_m10 191 rfl) rfl
theorem q2447 : (Jvm.Cond.privateMethod ({ cls := "CourierClashModel", name := "isStreet", desc := "(I)Z" } : Jvm.MethodName)) ∈ lw_tbl := lw_at lw_m10 192 rfl
theorem q2448 : (Jvm.Cond.instanceMethod ({ cls := "CourierClashModel", name := "isStreet", desc := "(I)Z" } : Jvm.MethodName)) ∈ lw_all := lw_g (lw_at lw_m10 193 rfl) rfl
theorem q2449 : (Jvm.Cond.code ({ cls := "CourierClashModel", name := "isStreet", desc := "(I)Z" } : Jvm.MethodName) prog_17_method_7_code (2 : Nat) (Option.some Jvm.ClassFile.FieldType.boolean)) ∈ lw_all := lw_g (lw_at lw_m10 194 rfl) rfl
theorem q2450 : (Jvm.Cond.methodLink "CourierClashModel" (131 : Nat) ({ cls := "CourierClashModel", name := "toggles", desc := "(I)Z" } : Jvm.MethodName)) ∈ lw_all := lw_g (lw_at lw_m10 195 rfl) rfl
theorem q2451 : (Jvm.Cond.privateMethod ({ cls := "CourierClashModel", name := "toggles", desc := "(I)Z" } : Jvm.MethodName)) ∈ lw_tbl := lw_at lw_m10 196 rfl
theorem q2452 : (Jvm.Cond.instanceMethod ({ cls := "CourierClashModel", name := "toggles", desc := "(I)Z" } : Jvm.MethodName)) ∈ lw_all := lw_g (lw_at lw_m10 197 rfl) rfl
theorem q2453 : (Jvm.Cond.code ({ cls := "CourierClashModel", name := "toggles", desc := "(I)Z" } : Jvm.MethodName) prog_17_method_37_code (3 : Nat) (Option.some Jvm.ClassFile.FieldType.boolean)) ∈ lw_all := lw_g (lw_at lw_m10 198 rfl) rfl
theorem q2454 : (Jvm.Cond.methodLink "CourierClashModel" (80 : Nat) ({ cls := "CourierClashModel", name := "isFree", desc := "(I)Z" } : Jvm.MethodName)) ∈ lw_all := lw_g (lw_at lw_m10 199 rfl) rfl
theorem q2455 : (Jvm.Cond.privateMethod ({ cls := "CourierClashModel", name := "isFree", desc := "(I)Z" } : Jvm.MethodName)) ∈ lw_tbl := lw_at lw_m10 200 rfl
theorem q2456 : (Jvm.Cond.instanceMethod ({ cls := "CourierClashModel", name := "isFree", desc := "(I)Z" } : Jvm.MethodName)) ∈ lw_all := lw_g (lw_at lw_m10 201 rfl) rfl
theorem q2457 : (Jvm.Cond.code ({ cls := "CourierClashModel", name := "isFree", desc := "(I)Z" } : Jvm.MethodName) prog_17_method_17_code (2 : Nat) (Option.some Jvm.ClassFile.FieldType.boolean)) ∈ lw_all := lw_g (lw_at lw_m10 202 rfl) rfl
theorem q2459 : (Jvm.Cond.instanceMethod ({ cls := "CourierClashModel", name := "place", desc := "(II)I" } : Jvm.MethodName)) ∈ lw_all := lw_g (lw_at lw_m10 204 rfl) rfl
theorem q2460 : (Jvm.Cond.selects "CourierClashModel" ({ cls := "CourierClashModel", name := "place", desc := "(II)I" } : Jvm.MethodName) ({ cls := "CourierClashModel", name := "place", desc := "(II)I" } : Jvm.MethodName)) ∈ lw_all := lw_g (lw_at lw_m10 205 rfl) rfl
theorem q2461 : (Jvm.Cond.code ({ cls := "CourierClashModel", name := "place", desc := "(II)I" } : Jvm.MethodName) prog_17_method_40_code (4 : Nat) (Option.some Jvm.ClassFile.FieldType.int)) ∈ lw_all := lw_g (lw_at lw_m10 206 rfl) rfl
theorem q2462 : (Jvm.Cond.methodLink "CourierClashModel" (134 : Nat) ({ cls := "CourierClashModel", name := "isCourier", desc := "(I)Z" } : Jvm.MethodName)) ∈ lw_all := lw_g (lw_at lw_m10 207 rfl) rfl
theorem q2463 : (Jvm.Cond.static ({ cls := "CourierClashModel", name := "isCourier", desc := "(I)Z" } : Jvm.MethodName)) ∈ lw_all := lw_g (lw_at lw_m10 208 rfl) rfl
theorem q2464 : (Jvm.Cond.code ({ cls := "CourierClashModel", name := "isCourier", desc := "(I)Z" } : Jvm.MethodName) prog_17_method_6_code (1 : Nat) (Option.some Jvm.ClassFile.FieldType.boolean)) ∈ lw_all := lw_g (lw_at lw_m10 209 rfl) rfl
theorem q2465 : (Jvm.Cond.methodLink "CourierClashModel" (137 : Nat) ({ cls := "CourierClashModel", name := "drops", desc := "()V" } : Jvm.MethodName)) ∈ lw_all := lw_g (lw_at lw_m10 210 rfl) rfl
theorem q2466 : (Jvm.Cond.privateMethod ({ cls := "CourierClashModel", name := "drops", desc := "()V" } : Jvm.MethodName)) ∈ lw_tbl := lw_at lw_m10 211 rfl
theorem q2467 : (Jvm.Cond.instanceMethod ({ cls := "CourierClashModel", name := "drops", desc := "()V" } : Jvm.MethodName)) ∈ lw_all := lw_g (lw_at lw_m10 212 rfl) rfl
theorem q2468 : (Jvm.Cond.code ({ cls := "CourierClashModel", name := "drops", desc := "()V" } : Jvm.MethodName) prog_17_method_25_code (1 : Nat) (Option.none : Option Jvm.ClassFile.FieldType)) ∈ lw_all := lw_g (lw_at lw_m10 213 rfl) rfl
theorem q2470 : (Jvm.Cond.instanceMethod ({ cls := "CourierClashModel", name := "toggleVan", desc := "(I)Z" } : Jvm.MethodName)) ∈ lw_all := lw_g (lw_at lw_m10 215 rfl) rfl
theorem q2471 : (Jvm.Cond.selects "CourierClashModel" ({ cls := "CourierClashModel", name := "toggleVan", desc := "(I)Z" } : Jvm.MethodName) ({ cls := "CourierClashModel", name := "toggleVan", desc := "(I)Z" } : Jvm.MethodName)) ∈ lw_all := lw_g (lw_at lw_m10 216 rfl) rfl
theorem q2472 : (Jvm.Cond.code ({ cls := "CourierClashModel", name := "toggleVan", desc := "(I)Z" } : Jvm.MethodName) prog_17_method_41_code (4 : Nat) (Option.some Jvm.ClassFile.FieldType.boolean)) ∈ lw_all := lw_g (lw_at lw_m10 217 rfl) rfl
theorem q2473 : (Jvm.Cond.methodLink "CourierClashModel" (94 : Nat) ({ cls := "CourierClashModel", name := "load", desc := "(I)I" } : Jvm.MethodName)) ∈ lw_all := lw_g (lw_at lw_m10 218 rfl) rfl
theorem q2474 : (Jvm.Cond.privateMethod ({ cls := "CourierClashModel", name := "load", desc := "(I)I" } : Jvm.MethodName)) ∈ lw_tbl := lw_at lw_m10 219 rfl
theorem q2475 : (Jvm.Cond.instanceMethod ({ cls := "CourierClashModel", name := "load", desc := "(I)I" } : Jvm.MethodName)) ∈ lw_all := lw_g (lw_at lw_m10 220 rfl) rfl
theorem q2476 : (Jvm.Cond.code ({ cls := "CourierClashModel", name := "load", desc := "(I)I" } : Jvm.MethodName) prog_17_method_18_code (4 : Nat) (Option.some Jvm.ClassFile.FieldType.int)) ∈ lw_all := lw_g (lw_at lw_m10 221 rfl) rfl
theorem q2477 : (Jvm.Cond.methodLink "CourierClashModel" (56 : Nat) ({ cls := "CourierClashModel", name := "room", desc := "(III)I" } : Jvm.MethodName)) ∈ lw_all := lw_g (lw_at lw_m10 222 rfl) rfl
theorem q2478 : (Jvm.Cond.privateMethod ({ cls := "CourierClashModel", name := "room", desc := "(III)I" } : Jvm.MethodName)) ∈ lw_tbl := lw_at lw_m10 223 rfl
theorem q2479 : (Jvm.Cond.instanceMethod ({ cls := "CourierClashModel", name := "room", desc := "(III)I" } : Jvm.MethodName)) ∈ lw_all := lw_g (lw_at lw_m10 224 rfl) rfl
theorem q2480 : (Jvm.Cond.code ({ cls := "CourierClashModel", name := "room", desc := "(III)I" } : Jvm.MethodName) prog_17_method_19_code (4 : Nat) (Option.some Jvm.ClassFile.FieldType.int)) ∈ lw_all := lw_g (lw_at lw_m10 225 rfl) rfl
theorem q2481 : (Jvm.Cond.methodLink "CourierClashModel" (84 : Nat) ({ cls := "CourierClashModel", name := "isNarrow", desc := "(I)Z" } : Jvm.MethodName)) ∈ lw_all := lw_g (lw_at lw_m10 226 rfl) rfl
theorem q2482 : (Jvm.Cond.privateMethod ({ cls := "CourierClashModel", name := "isNarrow", desc := "(I)Z" } : Jvm.MethodName)) ∈ lw_tbl := lw_at lw_m10 227 rfl
theorem q2483 : (Jvm.Cond.instanceMethod ({ cls := "CourierClashModel", name := "isNarrow", desc := "(I)Z" } : Jvm.MethodName)) ∈ lw_all := lw_g (lw_at lw_m10 228 rfl) rfl
theorem q2484 : (Jvm.Cond.code ({ cls := "CourierClashModel", name := "isNarrow", desc := "(I)Z" } : Jvm.MethodName) prog_17_method_16_code (2 : Nat) (Option.some Jvm.ClassFile.FieldType.boolean)) ∈ lw_all := lw_g (lw_at lw_m10 229 rfl) rfl
theorem q2486 : (Jvm.Cond.instanceMethod ({ cls := "CourierClashModel", name := "setCapacity", desc := "(I)I" } : Jvm.MethodName)) ∈ lw_all := lw_g (lw_at lw_m10 231 rfl) rfl
theorem q2487 : (Jvm.Cond.selects "CourierClashModel" ({ cls := "CourierClashModel", name := "setCapacity", desc := "(I)I" } : Jvm.MethodName) ({ cls := "CourierClashModel", name := "setCapacity", desc := "(I)I" } : Jvm.MethodName)) ∈ lw_all := lw_g (lw_at lw_m10 232 rfl) rfl
theorem q2488 : (Jvm.Cond.code ({ cls := "CourierClashModel", name := "setCapacity", desc := "(I)I" } : Jvm.MethodName) prog_17_method_42_code (3 : Nat) (Option.some Jvm.ClassFile.FieldType.int)) ∈ lw_all := lw_g (lw_at lw_m10 233 rfl) rfl
theorem q2490 : (Jvm.Cond.instanceMethod ({ cls := "CourierClashModel", name := "addParcel", desc := "(IIII)I" } : Jvm.MethodName)) ∈ lw_all := lw_g (lw_at lw_m10 235 rfl) rfl
theorem q2491 : (Jvm.Cond.selects "CourierClashModel" ({ cls := "CourierClashModel", name := "addParcel", desc := "(IIII)I" } : Jvm.MethodName) ({ cls := "CourierClashModel", name := "addParcel", desc := "(IIII)I" } : Jvm.MethodName)) ∈ lw_all := lw_g (lw_at lw_m10 236 rfl) rfl
theorem q2492 : (Jvm.Cond.code ({ cls := "CourierClashModel", name := "addParcel", desc := "(IIII)I" } : Jvm.MethodName) prog_17_method_43_code (6 : Nat) (Option.some Jvm.ClassFile.FieldType.int)) ∈ lw_all := lw_g (lw_at lw_m10 237 rfl) rfl
theorem q2493 : (Jvm.Cond.methodLink "CourierClashModel" (103 : Nat) ({ cls := "CourierClashModel", name := "put", desc := "(III)V" } : Jvm.MethodName)) ∈ lw_all := lw_g (lw_at lw_m10 238 rfl) rfl
theorem q2494 : (Jvm.Cond.privateMethod ({ cls := "CourierClashModel", name := "put", desc := "(III)V" } : Jvm.MethodName)) ∈ lw_tbl := lw_at lw_m10 239 rfl
theorem q2495 : (Jvm.Cond.instanceMethod ({ cls := "CourierClashModel", name := "put", desc := "(III)V" } : Jvm.MethodName)) ∈ lw_all := lw_g (lw_at lw_m11 0 rfl) rfl
theorem q2496 : (Jvm.Cond.code ({ cls := "CourierClashModel", name := "put", desc := "(III)V" } : Jvm.MethodName) prog_17_method_13_code (4 : Nat) (Option.none : Option Jvm.ClassFile.FieldType)) ∈ lw_all := lw_g (lw_at lw_m11 1 rfl) rfl
theorem q2498 : (Jvm.Cond.instanceMethod ({ cls := "CourierClashModel", name := "setLimit", desc := "(I)I" } : Jvm.MethodName)) ∈ lw_all := lw_g (lw_at lw_m11 3 rfl) rfl
theorem q2499 : (Jvm.Cond.selects "CourierClashModel" ({ cls := "CourierClashModel", name := "setLimit", desc := "(I)I" } : Jvm.MethodName) ({ cls := "CourierClashModel", name := "setLimit", desc := "(I)I" } : Jvm.MethodName)) ∈ lw_all := lw_g (lw_at lw_m11 4 rfl) rfl
theorem q2500 : (Jvm.Cond.code ({ cls := "CourierClashModel", name := "setLimit", desc := "(I)I" } : Jvm.MethodName) prog_17_method_44_code (3 : Nat) (Option.some Jvm.ClassFile.FieldType.int)) ∈ lw_all := lw_g (lw_at lw_m11 5 rfl) rfl
theorem q2502 : (Jvm.Cond.instanceMethod ({ cls := "CourierClashModel", name := "order", desc := "(II)I" } : Jvm.MethodName)) ∈ lw_all := lw_g (lw_at lw_m11 7 rfl) rfl
theorem q2503 : (Jvm.Cond.selects "CourierClashModel" ({ cls := "CourierClashModel", name := "order", desc := "(II)I" } : Jvm.MethodName) ({ cls := "CourierClashModel", name := "order", desc := "(II)I" } : Jvm.MethodName)) ∈ lw_all := lw_g (lw_at lw_m11 8 rfl) rfl
theorem q2504 : (Jvm.Cond.code ({ cls := "CourierClashModel", name := "order", desc := "(II)I" } : Jvm.MethodName) prog_17_method_45_code (3 : Nat) (Option.some Jvm.ClassFile.FieldType.int)) ∈ lw_all := lw_g (lw_at lw_m11 9 rfl) rfl
theorem q2505 : (Jvm.Cond.methodLink "CourierClashModel" (140 : Nat) ({ cls := "CourierClashModel", name := "noOrder", desc := "(II)I" } : Jvm.MethodName)) ∈ lw_all := lw_g (lw_at lw_m11 10 rfl) rfl
theorem q2506 : (Jvm.Cond.privateMethod ({ cls := "CourierClashModel", name := "noOrder", desc := "(II)I" } : Jvm.MethodName)) ∈ lw_tbl := lw_at lw_m11 11 rfl
theorem q2507 : (Jvm.Cond.instanceMethod ({ cls := "CourierClashModel", name := "noOrder", desc := "(II)I" } : Jvm.MethodName)) ∈ lw_all := lw_g (lw_at lw_m11 12 rfl) rfl
theorem q2508 : (Jvm.Cond.code ({ cls := "CourierClashModel", name := "noOrder", desc := "(II)I" } : Jvm.MethodName) prog_17_method_29_code (3 : Nat) (Option.some Jvm.ClassFile.FieldType.int)) ∈ lw_all := lw_g (lw_at lw_m11 13 rfl) rfl
theorem q2509 : (Jvm.Cond.methodLink "CourierClashModel" (74 : Nat) ({ cls := "CourierClashModel", name := "over", desc := "()I" } : Jvm.MethodName)) ∈ lw_all := lw_g (lw_at lw_m11 14 rfl) rfl
theorem q2510 : (Jvm.Cond.privateMethod ({ cls := "CourierClashModel", name := "over", desc := "()I" } : Jvm.MethodName)) ∈ lw_tbl := lw_at lw_m11 15 rfl
theorem q2511 : (Jvm.Cond.instanceMethod ({ cls := "CourierClashModel", name := "over", desc := "()I" } : Jvm.MethodName)) ∈ lw_all := lw_g (lw_at lw_m11 16 rfl) rfl
theorem q2512 : (Jvm.Cond.code ({ cls := "CourierClashModel", name := "over", desc := "()I" } : Jvm.MethodName) prog_17_method_28_code (3 : Nat) (Option.some Jvm.ClassFile.FieldType.int)) ∈ lw_all := lw_g (lw_at lw_m11 17 rfl) rfl
theorem q2513 : (Jvm.Cond.methodLink "CourierClashModel" (71 : Nat) ({ cls := "CourierClashModel", name := "timesOf", desc := "(II)I" } : Jvm.MethodName)) ∈ lw_all := lw_g (lw_at lw_m11 18 rfl) rfl
theorem q2514 : (Jvm.Cond.privateMethod ({ cls := "CourierClashModel", name := "timesOf", desc := "(II)I" } : Jvm.MethodName)) ∈ lw_tbl := lw_at lw_m11 19 rfl
theorem q2515 : (Jvm.Cond.instanceMethod ({ cls := "CourierClashModel", name := "timesOf", desc := "(II)I" } : Jvm.MethodName)) ∈ lw_all := lw_g (lw_at lw_m11 20 rfl) rfl
theorem q2516 : (Jvm.Cond.code ({ cls := "CourierClashModel", name := "timesOf", desc := "(II)I" } : Jvm.MethodName) prog_17_method_26_code (5 : Nat) (Option.some Jvm.ClassFile.FieldType.int)) ∈ lw_all := lw_g (lw_at lw_m11 21 rfl) rfl
theorem q2518 : (Jvm.Cond.instanceMethod ({ cls := "CourierClashModel", name := "takeBack", desc := "(I)Z" } : Jvm.MethodName)) ∈ lw_all := lw_g (lw_at lw_m11 23 rfl) rfl
theorem q2519 : (Jvm.Cond.selects "CourierClashModel" ({ cls := "CourierClashModel", name := "takeBack", desc := "(I)Z" } : Jvm.MethodName) ({ cls := "CourierClashModel", name := "takeBack", desc := "(I)Z" } : Jvm.MethodName)) ∈ lw_all := lw_g (lw_at lw_m11 24 rfl) rfl
theorem q2520 : (Jvm.Cond.code ({ cls := "CourierClashModel", name := "takeBack", desc := "(I)Z" } : Jvm.MethodName) prog_17_method_46_code (3 : Nat) (Option.some Jvm.ClassFile.FieldType.boolean)) ∈ lw_all := lw_g (lw_at lw_m11 25 rfl) rfl
theorem q2522 : (Jvm.Cond.instanceMethod ({ cls := "CourierClashModel", name := "turn", desc := "()I" } : Jvm.MethodName)) ∈ lw_all := lw_g (lw_at lw_m11 27 rfl) rfl
theorem q2523 : (Jvm.Cond.selects "CourierClashModel" ({ cls := "CourierClashModel", name := "turn", desc := "()I" } : Jvm.MethodName) ({ cls := "CourierClashModel", name := "turn", desc := "()I" } : Jvm.MethodName)) ∈ lw_all := lw_g (lw_at lw_m11 28 rfl) rfl
theorem q2524 : (Jvm.Cond.code ({ cls := "CourierClashModel", name := "turn", desc := "()I" } : Jvm.MethodName) prog_17_method_47_code (1 : Nat) (Option.some Jvm.ClassFile.FieldType.int)) ∈ lw_all := lw_g (lw_at lw_m11 29 rfl) rfl
theorem q2525 : (Jvm.Cond.methodLink "CourierClashModel" (143 : Nat) ({ cls := "CourierClashModel", name := "turns", desc := "()I" } : Jvm.MethodName)) ∈ lw_all := lw_g (lw_at lw_m11 30 rfl) rfl
theorem q2526 : (Jvm.Cond.privateMethod ({ cls := "CourierClashModel", name := "turns", desc := "()I" } : Jvm.MethodName)) ∈ lw_tbl := lw_at lw_m11 31 rfl
theorem q2527 : (Jvm.Cond.instanceMethod ({ cls := "CourierClashModel", name := "turns", desc := "()I" } : Jvm.MethodName)) ∈ lw_all := lw_g (lw_at lw_m11 32 rfl) rfl
theorem q2528 : (Jvm.Cond.code ({ cls := "CourierClashModel", name := "turns", desc := "()I" } : Jvm.MethodName) prog_17_method_36_code (3 : Nat) (Option.some Jvm.ClassFile.FieldType.int)) ∈ lw_all := lw_g (lw_at lw_m11 33 rfl) rfl
theorem q2529 : (Jvm.Cond.methodLink "CourierClashModel" (112 : Nat) ({ cls := "CourierClashModel", name := "foretells", desc := "()V" } : Jvm.MethodName)) ∈ lw_all := lw_g (lw_at lw_m11 34 rfl) rfl
theorem q2530 : (Jvm.Cond.privateMethod ({ cls := "CourierClashModel", name := "foretells", desc := "()V" } : Jvm.MethodName)) ∈ lw_tbl := lw_at lw_m11 35 rfl
theorem q2531 : (Jvm.Cond.instanceMethod ({ cls := "CourierClashModel", name := "foretells", desc := "()V" } : Jvm.MethodName)) ∈ lw_all := lw_g (lw_at lw_m11 36 rfl) rfl
theorem q2532 : (Jvm.Cond.code ({ cls := "CourierClashModel", name := "foretells", desc := "()V" } : Jvm.MethodName) prog_17_method_32_code (3 : Nat) (Option.none : Option Jvm.ClassFile.FieldType)) ∈ lw_all := lw_g (lw_at lw_m11 37 rfl) rfl
theorem q2533 : (Jvm.Cond.methodLink "CourierClashModel" (97 : Nat) ({ cls := "CourierClashModel", name := "failing", desc := "(I)I" } : Jvm.MethodName)) ∈ lw_all := lw_g (lw_at lw_m11 38 rfl) rfl
theorem q2534 : (Jvm.Cond.privateMethod ({ cls := "CourierClashModel", name := "failing", desc := "(I)I" } : Jvm.MethodName)) ∈ lw_tbl := lw_at lw_m11 39 rfl
theorem q2535 : (Jvm.Cond.instanceMethod ({ cls := "CourierClashModel", name := "failing", desc := "(I)I" } : Jvm.MethodName)) ∈ lw_all := lw_g (lw_at lw_m11 40 rfl) rfl
theorem q2536 : (Jvm.Cond.code ({ cls := "CourierClashModel", name := "failing", desc := "(I)I" } : Jvm.MethodName) prog_17_method_31_code (10 : Nat) (Option.some Jvm.ClassFile.FieldType.int)) ∈ lw_all := lw_g (lw_at lw_m11 41 rfl) rfl
theorem q2537 : (Jvm.Cond.methodLink "CourierClashModel" (87 : Nat) ({ cls := "CourierClashModel", name := "isMoving", desc := "(II)Z" } : Jvm.MethodName)) ∈ lw_all := lw_g (lw_at lw_m11 42 rfl) rfl
theorem q2538 : (Jvm.Cond.privateMethod ({ cls := "CourierClashModel", name := "isMoving", desc := "(II)Z" } : Jvm.MethodName)) ∈ lw_tbl := lw_at lw_m11 43 rfl
theorem q2539 : (Jvm.Cond.instanceMethod ({ cls := "CourierClashModel", name := "isMoving", desc := "(II)Z" } : Jvm.MethodName)) ∈ lw_all := lw_g (lw_at lw_m11 44 rfl) rfl
theorem q2540 : (Jvm.Cond.code ({ cls := "CourierClashModel", name := "isMoving", desc := "(II)Z" } : Jvm.MethodName) prog_17_method_30_code (3 : Nat) (Option.some Jvm.ClassFile.FieldType.boolean)) ∈ lw_all := lw_g (lw_at lw_m11 45 rfl) rfl
theorem q2541 : (Jvm.Cond.methodLink "CourierClashModel" (115 : Nat) ({ cls := "CourierClashModel", name := "serves", desc := "(I)V" } : Jvm.MethodName)) ∈ lw_all := lw_g (lw_at lw_m11 46 rfl) rfl
theorem q2542 : (Jvm.Cond.privateMethod ({ cls := "CourierClashModel", name := "serves", desc := "(I)V" } : Jvm.MethodName)) ∈ lw_tbl := lw_at lw_m11 47 rfl
theorem q2543 : (Jvm.Cond.instanceMethod ({ cls := "CourierClashModel", name := "serves", desc := "(I)V" } : Jvm.MethodName)) ∈ lw_all := lw_g (lw_at lw_m11 48 rfl) rfl
theorem q2544 : (Jvm.Cond.code ({ cls := "CourierClashModel", name := "serves", desc := "(I)V" } : Jvm.MethodName) prog_17_method_35_code (5 : Nat) (Option.none : Option Jvm.ClassFile.FieldType)) ∈ lw_all := lw_g (lw_at lw_m11 49 rfl) rfl
theorem q2545 : (Jvm.Cond.methodLink "CourierClashModel" (106 : Nat) ({ cls := "CourierClashModel", name := "nextParcel", desc := "(II)I" } : Jvm.MethodName)) ∈ lw_all := lw_g (lw_at lw_m11 50 rfl) rfl
theorem q2546 : (Jvm.Cond.privateMethod ({ cls := "CourierClashModel", name := "nextParcel", desc := "(II)I" } : Jvm.MethodName)) ∈ lw_tbl := lw_at lw_m11 51 rfl
theorem q2547 : (Jvm.Cond.instanceMethod ({ cls := "CourierClashModel", name := "nextParcel", desc := "(II)I" } : Jvm.MethodName)) ∈ lw_all := lw_g (lw_at lw_m11 52 rfl) rfl
theorem q2548 : (Jvm.Cond.code ({ cls := "CourierClashModel", name := "nextParcel", desc := "(II)I" } : Jvm.MethodName) prog_17_method_33_code (6 : Nat) (Option.some Jvm.ClassFile.FieldType.int)) ∈ lw_all := lw_g (lw_at lw_m11 53 rfl) rfl
theorem q2549 : (Jvm.Cond.methodLink "CourierClashModel" (100 : Nat) ({ cls := "CourierClashModel", name := "isAhead", desc := "(II)Z" } : Jvm.MethodName)) ∈ lw_all := lw_g (lw_at lw_m11 54 rfl) rfl
theorem q2550 : (Jvm.Cond.privateMethod ({ cls := "CourierClashModel", name := "isAhead", desc := "(II)Z" } : Jvm.MethodName)) ∈ lw_tbl := lw_at lw_m11 55 rfl
theorem q2551 : (Jvm.Cond.instanceMethod ({ cls := "CourierClashModel", name := "isAhead", desc := "(II)Z" } : Jvm.MethodName)) ∈ lw_all := lw_g (lw_at lw_m11 56 rfl) rfl
theorem q2552 : (Jvm.Cond.code ({ cls := "CourierClashModel", name := "isAhead", desc := "(II)Z" } : Jvm.MethodName) prog_17_method_34_code (4 : Nat) (Option.some Jvm.ClassFile.FieldType.boolean)) ∈ lw_all := lw_g (lw_at lw_m11 57 rfl) rfl
theorem q2553 : (Jvm.Cond.methodLink "CourierClashModel" (109 : Nat) ({ cls := "CourierClashModel", name := "carries", desc := "(I)I" } : Jvm.MethodName)) ∈ lw_all := lw_g (lw_at lw_m11 58 rfl) rfl
theorem q2554 : (Jvm.Cond.privateMethod ({ cls := "CourierClashModel", name := "carries", desc := "(I)I" } : Jvm.MethodName)) ∈ lw_tbl := lw_at lw_m11 59 rfl
theorem q2555 : (Jvm.Cond.instanceMethod ({ cls := "CourierClashModel", name := "carries", desc := "(I)I" } : Jvm.MethodName)) ∈ lw_all := lw_g (lw_at lw_m11 60 rfl) rfl
theorem q2556 : (Jvm.Cond.code ({ cls := "CourierClashModel", name := "carries", desc := "(I)I" } : Jvm.MethodName) prog_17_method_20_code (2 : Nat) (Option.some Jvm.ClassFile.FieldType.int)) ∈ lw_all := lw_g (lw_at lw_m11 61 rfl) rfl
theorem q2558 : (Jvm.Cond.instanceMethod ({ cls := "CourierClashModel", name := "append", desc := "(I)I" } : Jvm.MethodName)) ∈ lw_all := lw_g (lw_at lw_m11 63 rfl) rfl
theorem q2559 : (Jvm.Cond.selects "CourierClashModel" ({ cls := "CourierClashModel", name := "append", desc := "(I)I" } : Jvm.MethodName) ({ cls := "CourierClashModel", name := "append", desc := "(I)I" } : Jvm.MethodName)) ∈ lw_all := lw_g (lw_at lw_m11 64 rfl) rfl
theorem q2560 : (Jvm.Cond.code ({ cls := "CourierClashModel", name := "append", desc := "(I)I" } : Jvm.MethodName) prog_17_method_48_code (2 : Nat) (Option.some Jvm.ClassFile.FieldType.int)) ∈ lw_all := lw_g (lw_at lw_m11 65 rfl) rfl
theorem q2562 : (Jvm.Cond.instanceMethod ({ cls := "CourierClashModel", name := "clearBuffer", desc := "()I" } : Jvm.MethodName)) ∈ lw_all := lw_g (lw_at lw_m11 67 rfl) rfl
theorem q2563 : (Jvm.Cond.selects "CourierClashModel" ({ cls := "CourierClashModel", name := "clearBuffer", desc := "()I" } : Jvm.MethodName) ({ cls := "CourierClashModel", name := "clearBuffer", desc := "()I" } : Jvm.MethodName)) ∈ lw_all := lw_g (lw_at lw_m11 68 rfl) rfl
theorem q2564 : (Jvm.Cond.code ({ cls := "CourierClashModel", name := "clearBuffer", desc := "()I" } : Jvm.MethodName) prog_17_method_49_code (2 : Nat) (Option.some Jvm.ClassFile.FieldType.int)) ∈ lw_all := lw_g (lw_at lw_m11 69 rfl) rfl
theorem q2566 : (Jvm.Cond.instanceMethod ({ cls := "CourierClashModel", name := "firstError", desc := "()I" } : Jvm.MethodName)) ∈ lw_all := lw_g (lw_at lw_m11 71 rfl) rfl
theorem q2567 : (Jvm.Cond.selects "CourierClashModel" ({ cls := "CourierClashModel", name := "firstError", desc := "()I" } : Jvm.MethodName) ({ cls := "CourierClashModel", name := "firstError", desc := "()I" } : Jvm.MethodName)) ∈ lw_all := lw_g (lw_at lw_m11 72 rfl) rfl
theorem q2568 : (Jvm.Cond.code ({ cls := "CourierClashModel", name := "firstError", desc := "()I" } : Jvm.MethodName) prog_17_method_54_code (2 : Nat) (Option.some Jvm.ClassFile.FieldType.int)) ∈ lw_all := lw_g (lw_at lw_m11 73 rfl) rfl
theorem q2569 : (Jvm.Cond.methodLink "CourierClashModel" (166 : Nat) ({ cls := "CourierClashModel", name := "go", desc := "(Z)I" } : Jvm.MethodName)) ∈ lw_all := lw_g (lw_at lw_m11 74 rfl) rfl
theorem q2570 : (Jvm.Cond.privateMethod ({ cls := "CourierClashModel", name := "go", desc := "(Z)I" } : Jvm.MethodName)) ∈ lw_tbl := lw_at lw_m11 75 rfl
theorem q2571 : (Jvm.Cond.instanceMethod ({ cls := "CourierClashModel", name := "go", desc := "(Z)I" } : Jvm.MethodName)) ∈ lw_all := lw_g (lw_at lw_m11 76 rfl) rfl
theorem q2572 : (Jvm.Cond.code ({ cls := "CourierClashModel", name := "go", desc := "(Z)I" } : Jvm.MethodName) prog_17_method_53_code (5 : Nat) (Option.some Jvm.ClassFile.FieldType.int)) ∈ lw_all := lw_g (lw_at lw_m11 77 rfl) rfl
theorem q2573 : (Jvm.Cond.methodLink "CourierClashModel" (162 : Nat) ({ cls := "CourierClashModel", name := "part", desc := "(Z)Z" } : Jvm.MethodName)) ∈ lw_all := lw_g (lw_at lw_m11 78 rfl) rfl
theorem q2574 : (Jvm.Cond.privateMethod ({ cls := "CourierClashModel", name := "part", desc := "(Z)Z" } : Jvm.MethodName)) ∈ lw_tbl := lw_at lw_m11 79 rfl
theorem q2575 : (Jvm.Cond.instanceMethod ({ cls := "CourierClashModel", name := "part", desc := "(Z)Z" } : Jvm.MethodName)) ∈ lw_all := lw_g (lw_at lw_m11 80 rfl) rfl
theorem q2576 : (Jvm.Cond.code ({ cls := "CourierClashModel", name := "part", desc := "(Z)Z" } : Jvm.MethodName) prog_17_method_52_code (9 : Nat) (Option.some Jvm.ClassFile.FieldType.boolean)) ∈ lw_all := lw_g (lw_at lw_m11 81 rfl) rfl
theorem q2577 : (Jvm.Cond.methodLink "CourierClashModel" (156 : Nat) ({ cls := "CourierClashModel", name := "sign", desc := "(II)I" } : Jvm.MethodName)) ∈ lw_all := lw_g (lw_at lw_m11 82 rfl) rfl
theorem q2578 : (Jvm.Cond.privateMethod ({ cls := "CourierClashModel", name := "sign", desc := "(II)I" } : Jvm.MethodName)) ∈ lw_tbl := lw_at lw_m11 83 rfl
theorem q2579 : (Jvm.Cond.instanceMethod ({ cls := "CourierClashModel", name := "sign", desc := "(II)I" } : Jvm.MethodName)) ∈ lw_all := lw_g (lw_at lw_m11 84 rfl) rfl
theorem q2580 : (Jvm.Cond.code ({ cls := "CourierClashModel", name := "sign", desc := "(II)I" } : Jvm.MethodName) prog_17_method_50_code (4 : Nat) (Option.some Jvm.ClassFile.FieldType.int)) ∈ lw_all := lw_g (lw_at lw_m11 85 rfl) rfl
theorem q2581 : (Jvm.Cond.methodLink "CourierClashModel" (159 : Nat) ({ cls := "CourierClashModel", name := "number", desc := "()I" } : Jvm.MethodName)) ∈ lw_all := lw_g (lw_at lw_m11 86 rfl) rfl
theorem q2582 : (Jvm.Cond.privateMethod ({ cls := "CourierClashModel", name := "number", desc := "()I" } : Jvm.MethodName)) ∈ lw_tbl := lw_at lw_m11 87 rfl
theorem q2583 : (Jvm.Cond.instanceMethod ({ cls := "CourierClashModel", name := "number", desc := "()I" } : Jvm.MethodName)) ∈ lw_all := lw_g (lw_at lw_m11 88 rfl) rfl
theorem q2584 : (Jvm.Cond.code ({ cls := "CourierClashModel", name := "number", desc := "()I" } : Jvm.MethodName) prog_17_method_51_code (3 : Nat) (Option.some Jvm.ClassFile.FieldType.int)) ∈ lw_all := lw_g (lw_at lw_m11 89 rfl) rfl
theorem q2586 : (Jvm.Cond.instanceMethod ({ cls := "CourierClashModel", name := "play", desc := "()I" } : Jvm.MethodName)) ∈ lw_all := lw_g (lw_at lw_m11 91 rfl) rfl
theorem q2587 : (Jvm.Cond.selects "CourierClashModel" ({ cls := "CourierClashModel", name := "play", desc := "()I" } : Jvm.MethodName) ({ cls := "CourierClashModel", name := "play", desc := "()I" } : Jvm.MethodName)) ∈ lw_all := lw_g (lw_at lw_m11 92 rfl) rfl
theorem q2588 : (Jvm.Cond.code ({ cls := "CourierClashModel", name := "play", desc := "()I" } : Jvm.MethodName) prog_17_method_55_code (3 : Nat) (Option.some Jvm.ClassFile.FieldType.int)) ∈ lw_all := lw_g (lw_at lw_m11 93 rfl) rfl
theorem q2590 : (Jvm.Cond.instanceMethod ({ cls := "CourierClashModel", name := "hasStopped", desc := "()Z" } : Jvm.MethodName)) ∈ lw_all := lw_g (lw_at lw_m11 95 rfl) rfl
theorem q2591 : (Jvm.Cond.selects "CourierClashModel" ({ cls := "CourierClashModel", name := "hasStopped", desc := "()Z" } : Jvm.MethodName) ({ cls := "CourierClashModel", name := "hasStopped", desc := "()Z" } : Jvm.MethodName)) ∈ lw_all := lw_g (lw_at lw_m11 96 rfl) rfl
theorem q2592 : (Jvm.Cond.code ({ cls := "CourierClashModel", name := "hasStopped", desc := "()Z" } : Jvm.MethodName) prog_17_method_56_code (1 : Nat) (Option.some Jvm.ClassFile.FieldType.boolean)) ∈ lw_all := lw_g (lw_at lw_m11 97 rfl) rfl
theorem q2594 : (Jvm.Cond.instanceMethod ({ cls := "CourierClashModel", name := "stoppedPart", desc := "()I" } : Jvm.MethodName)) ∈ lw_all := lw_g (lw_at lw_m11 99 rfl) rfl
theorem q2595 : (Jvm.Cond.selects "CourierClashModel" ({ cls := "CourierClashModel", name := "stoppedPart", desc := "()I" } : Jvm.MethodName) ({ cls := "CourierClashModel", name := "stoppedPart", desc := "()I" } : Jvm.MethodName)) ∈ lw_all := lw_g (lw_at lw_m11 100 rfl) rfl
theorem q2596 : (Jvm.Cond.code ({ cls := "CourierClashModel", name := "stoppedPart", desc := "()I" } : Jvm.MethodName) prog_17_method_57_code (1 : Nat) (Option.some Jvm.ClassFile.FieldType.int)) ∈ lw_all := lw_g (lw_at lw_m11 101 rfl) rfl
theorem q2598 : (Jvm.Cond.instanceMethod ({ cls := "CourierClashModel", name := "undo", desc := "()I" } : Jvm.MethodName)) ∈ lw_all := lw_g (lw_at lw_m11 103 rfl) rfl
theorem q2599 : (Jvm.Cond.selects "CourierClashModel" ({ cls := "CourierClashModel", name := "undo", desc := "()I" } : Jvm.MethodName) ({ cls := "CourierClashModel", name := "undo", desc := "()I" } : Jvm.MethodName)) ∈ lw_all := lw_g (lw_at lw_m11 104 rfl) rfl
theorem q2600 : (Jvm.Cond.code ({ cls := "CourierClashModel", name := "undo", desc := "()I" } : Jvm.MethodName) prog_17_method_58_code (2 : Nat) (Option.some Jvm.ClassFile.FieldType.int)) ∈ lw_all := lw_g (lw_at lw_m11 105 rfl) rfl
theorem q2602 : (Jvm.Cond.instanceMethod ({ cls := "CourierClashModel", name := "keep", desc := "()I" } : Jvm.MethodName)) ∈ lw_all := lw_g (lw_at lw_m11 107 rfl) rfl
theorem q2603 : (Jvm.Cond.selects "CourierClashModel" ({ cls := "CourierClashModel", name := "keep", desc := "()I" } : Jvm.MethodName) ({ cls := "CourierClashModel", name := "keep", desc := "()I" } : Jvm.MethodName)) ∈ lw_all := lw_g (lw_at lw_m11 108 rfl) rfl
theorem q2604 : (Jvm.Cond.code ({ cls := "CourierClashModel", name := "keep", desc := "()I" } : Jvm.MethodName) prog_17_method_59_code (2 : Nat) (Option.some Jvm.ClassFile.FieldType.int)) ∈ lw_all := lw_g (lw_at lw_m11 109 rfl) rfl
theorem q2606 : (Jvm.Cond.instanceMethod ({ cls := "CourierClashModel", name := "restore", desc := "()I" } : Jvm.MethodName)) ∈ lw_all := lw_g (lw_at lw_m11 111 rfl) rfl
theorem q2607 : (Jvm.Cond.selects "CourierClashModel" ({ cls := "CourierClashModel", name := "restore", desc := "()I" } : Jvm.MethodName) ({ cls := "CourierClashModel", name := "restore", desc := "()I" } : Jvm.MethodName)) ∈ lw_all := lw_g (lw_at lw_m11 112 rfl) rfl
theorem q2608 : (Jvm.Cond.code ({ cls := "CourierClashModel", name := "restore", desc := "()I" } : Jvm.MethodName) prog_17_method_60_code (2 : Nat) (Option.some Jvm.ClassFile.FieldType.int)) ∈ lw_all := lw_g (lw_at lw_m11 113 rfl) rfl
theorem q2610 : (Jvm.Cond.instanceMethod ({ cls := "CourierClashModel", name := "savedStates", desc := "()I" } : Jvm.MethodName)) ∈ lw_all := lw_g (lw_at lw_m11 115 rfl) rfl
theorem q2611 : (Jvm.Cond.selects "CourierClashModel" ({ cls := "CourierClashModel", name := "savedStates", desc := "()I" } : Jvm.MethodName) ({ cls := "CourierClashModel", name := "savedStates", desc := "()I" } : Jvm.MethodName)) ∈ lw_all := lw_g (lw_at lw_m11 116 rfl) rfl
theorem q2612 : (Jvm.Cond.code ({ cls := "CourierClashModel", name := "savedStates", desc := "()I" } : Jvm.MethodName) prog_17_method_61_code (1 : Nat) (Option.some Jvm.ClassFile.FieldType.int)) ∈ lw_all := lw_g (lw_at lw_m11 117 rfl) rfl
theorem q2614 : (Jvm.Cond.instanceMethod ({ cls := "CourierClashModel", name := "streets", desc := "()I" } : Jvm.MethodName)) ∈ lw_all := lw_g (lw_at lw_m11 119 rfl) rfl
theorem q2615 : (Jvm.Cond.selects "CourierClashModel" ({ cls := "CourierClashModel", name := "streets", desc := "()I" } : Jvm.MethodName) ({ cls := "CourierClashModel", name := "streets", desc := "()I" } : Jvm.MethodName)) ∈ lw_all := lw_g (lw_at lw_m11 120 rfl) rfl
theorem q2616 : (Jvm.Cond.code ({ cls := "CourierClashModel", name := "streets", desc := "()I" } : Jvm.MethodName) prog_17_method_62_code (1 : Nat) (Option.some Jvm.ClassFile.FieldType.int)) ∈ lw_all := lw_g (lw_at lw_m11 121 rfl) rfl
theorem q2618 : (Jvm.Cond.instanceMethod ({ cls := "CourierClashModel", name := "fromOf", desc := "(I)I" } : Jvm.MethodName)) ∈ lw_all := lw_g (lw_at lw_m11 123 rfl) rfl
theorem q2619 : (Jvm.Cond.selects "CourierClashModel" ({ cls := "CourierClashModel", name := "fromOf", desc := "(I)I" } : Jvm.MethodName) ({ cls := "CourierClashModel", name := "fromOf", desc := "(I)I" } : Jvm.MethodName)) ∈ lw_all := lw_g (lw_at lw_m11 124 rfl) rfl
theorem q2620 : (Jvm.Cond.code ({ cls := "CourierClashModel", name := "fromOf", desc := "(I)I" } : Jvm.MethodName) prog_17_method_63_code (2 : Nat) (Option.some Jvm.ClassFile.FieldType.int)) ∈ lw_all := lw_g (lw_at lw_m11 125 rfl) rfl
theorem q2622 : (Jvm.Cond.instanceMethod ({ cls := "CourierClashModel", name := "toOf", desc := "(I)I" } : Jvm.MethodName)) ∈ lw_all := lw_g (lw_at lw_m11 127 rfl) rfl
theorem q2623 : (Jvm.Cond.selects "CourierClashModel" ({ cls := "CourierClashModel", name := "toOf", desc := "(I)I" } : Jvm.MethodName) ({ cls := "CourierClashModel", name := "toOf", desc := "(I)I" } : Jvm.MethodName)) ∈ lw_all := lw_g (lw_at lw_m11 128 rfl) rfl
theorem q2624 : (Jvm.Cond.code ({ cls := "CourierClashModel", name := "toOf", desc := "(I)I" } : Jvm.MethodName) prog_17_method_64_code (2 : Nat) (Option.some Jvm.ClassFile.FieldType.int)) ∈ lw_all := lw_g (lw_at lw_m11 129 rfl) rfl
theorem q2626 : (Jvm.Cond.instanceMethod ({ cls := "CourierClashModel", name := "isOpen", desc := "(I)Z" } : Jvm.MethodName)) ∈ lw_all := lw_g (lw_at lw_m11 131 rfl) rfl
theorem q2627 : (Jvm.Cond.selects "CourierClashModel" ({ cls := "CourierClashModel", name := "isOpen", desc := "(I)Z" } : Jvm.MethodName) ({ cls := "CourierClashModel", name := "isOpen", desc := "(I)Z" } : Jvm.MethodName)) ∈ lw_all := lw_g (lw_at lw_m11 132 rfl) rfl
theorem q2628 : (Jvm.Cond.code ({ cls := "CourierClashModel", name := "isOpen", desc := "(I)Z" } : Jvm.MethodName) prog_17_method_65_code (2 : Nat) (Option.some Jvm.ClassFile.FieldType.boolean)) ∈ lw_all := lw_g (lw_at lw_m11 133 rfl) rfl
theorem q2630 : (Jvm.Cond.instanceMethod ({ cls := "CourierClashModel", name := "junctionOf", desc := "(I)I" } : Jvm.MethodName)) ∈ lw_all := lw_g (lw_at lw_m11 135 rfl) rfl
theorem q2631 : (Jvm.Cond.selects "CourierClashModel" ({ cls := "CourierClashModel", name := "junctionOf", desc := "(I)I" } : Jvm.MethodName) ({ cls := "CourierClashModel", name := "junctionOf", desc := "(I)I" } : Jvm.MethodName)) ∈ lw_all := lw_g (lw_at lw_m11 136 rfl) rfl
theorem q2632 : (Jvm.Cond.code ({ cls := "CourierClashModel", name := "junctionOf", desc := "(I)I" } : Jvm.MethodName) prog_17_method_67_code (2 : Nat) (Option.some Jvm.ClassFile.FieldType.int)) ∈ lw_all := lw_g (lw_at lw_m11 137 rfl) rfl
theorem q2633 : (Jvm.Cond.methodLink "CourierClashModel" (173 : Nat) ({ cls := "CourierClashModel", name := "told", desc := "(II)I" } : Jvm.MethodName)) ∈ lw_all := lw_g (lw_at lw_m11 138 rfl) rfl
theorem q2634 : (Jvm.Cond.privateMethod ({ cls := "CourierClashModel", name := "told", desc := "(II)I" } : Jvm.MethodName)) ∈ lw_tbl := lw_at lw_m11 139 rfl
theorem q2635 : (Jvm.Cond.instanceMethod ({ cls := "CourierClashModel", name := "told", desc := "(II)I" } : Jvm.MethodName)) ∈ lw_all := lw_g (lw_at lw_m11 140 rfl) rfl
theorem q2636 : (Jvm.Cond.code ({ cls := "CourierClashModel", name := "told", desc := "(II)I" } : Jvm.MethodName) prog_17_method_66_code (3 : Nat) (Option.some Jvm.ClassFile.FieldType.int)) ∈ lw_all := lw_g (lw_at lw_m11 141 rfl) rfl
theorem q2638 : (Jvm.Cond.instanceMethod ({ cls := "CourierClashModel", name := "hasVan", desc := "(I)Z" } : Jvm.MethodName)) ∈ lw_all := lw_g (lw_at lw_m11 143 rfl) rfl
theorem q2639 : (Jvm.Cond.selects "CourierClashModel" ({ cls := "CourierClashModel", name := "hasVan", desc := "(I)Z" } : Jvm.MethodName) ({ cls := "CourierClashModel", name := "hasVan", desc := "(I)Z" } : Jvm.MethodName)) ∈ lw_all := lw_g (lw_at lw_m11 144 rfl) rfl
theorem q2640 : (Jvm.Cond.code ({ cls := "CourierClashModel", name := "hasVan", desc := "(I)Z" } : Jvm.MethodName) prog_17_method_68_code (2 : Nat) (Option.some Jvm.ClassFile.FieldType.boolean)) ∈ lw_all := lw_g (lw_at lw_m11 145 rfl) rfl
theorem q2642 : (Jvm.Cond.instanceMethod ({ cls := "CourierClashModel", name := "loadOf", desc := "(I)I" } : Jvm.MethodName)) ∈ lw_all := lw_g (lw_at lw_m11 147 rfl) rfl
theorem q2643 : (Jvm.Cond.selects "CourierClashModel" ({ cls := "CourierClashModel", name := "loadOf", desc := "(I)I" } : Jvm.MethodName) ({ cls := "CourierClashModel", name := "loadOf", desc := "(I)I" } : Jvm.MethodName)) ∈ lw_all := lw_g (lw_at lw_m11 148 rfl) rfl
theorem q2644 : (Jvm.Cond.code ({ cls := "CourierClashModel", name := "loadOf", desc := "(I)I" } : Jvm.MethodName) prog_17_method_69_code (2 : Nat) (Option.some Jvm.ClassFile.FieldType.int)) ∈ lw_all := lw_g (lw_at lw_m11 149 rfl) rfl
theorem q2646 : (Jvm.Cond.instanceMethod ({ cls := "CourierClashModel", name := "hasOrder", desc := "(I)Z" } : Jvm.MethodName)) ∈ lw_all := lw_g (lw_at lw_m11 151 rfl) rfl
theorem q2647 : (Jvm.Cond.selects "CourierClashModel" ({ cls := "CourierClashModel", name := "hasOrder", desc := "(I)Z" } : Jvm.MethodName) ({ cls := "CourierClashModel", name := "hasOrder", desc := "(I)Z" } : Jvm.MethodName)) ∈ lw_all := lw_g (lw_at lw_m11 152 rfl) rfl
theorem q2648 : (Jvm.Cond.code ({ cls := "CourierClashModel", name := "hasOrder", desc := "(I)Z" } : Jvm.MethodName) prog_17_method_70_code (3 : Nat) (Option.some Jvm.ClassFile.FieldType.boolean)) ∈ lw_all := lw_g (lw_at lw_m11 153 rfl) rfl
theorem q2650 : (Jvm.Cond.instanceMethod ({ cls := "CourierClashModel", name := "orderOf", desc := "(I)I" } : Jvm.MethodName)) ∈ lw_all := lw_g (lw_at lw_m11 155 rfl) rfl
theorem q2651 : (Jvm.Cond.selects "CourierClashModel" ({ cls := "CourierClashModel", name := "orderOf", desc := "(I)I" } : Jvm.MethodName) ({ cls := "CourierClashModel", name := "orderOf", desc := "(I)I" } : Jvm.MethodName)) ∈ lw_all := lw_g (lw_at lw_m11 156 rfl) rfl
theorem q2652 : (Jvm.Cond.code ({ cls := "CourierClashModel", name := "orderOf", desc := "(I)I" } : Jvm.MethodName) prog_17_method_71_code (3 : Nat) (Option.some Jvm.ClassFile.FieldType.int)) ∈ lw_all := lw_g (lw_at lw_m11 157 rfl) rfl
theorem q2654 : (Jvm.Cond.instanceMethod ({ cls := "CourierClashModel", name := "movesOf", desc := "(I)I" } : Jvm.MethodName)) ∈ lw_all := lw_g (lw_at lw_m11 159 rfl) rfl
theorem q2655 : (Jvm.Cond.selects "CourierClashModel" ({ cls := "CourierClashModel", name := "movesOf", desc := "(I)I" } : Jvm.MethodName) ({ cls := "CourierClashModel", name := "movesOf", desc := "(I)I" } : Jvm.MethodName)) ∈ lw_all := lw_g (lw_at lw_m11 160 rfl) rfl
theorem q2656 : (Jvm.Cond.code ({ cls := "CourierClashModel", name := "movesOf", desc := "(I)I" } : Jvm.MethodName) prog_17_method_72_code (2 : Nat) (Option.some Jvm.ClassFile.FieldType.int)) ∈ lw_all := lw_g (lw_at lw_m11 161 rfl) rfl
theorem q2658 : (Jvm.Cond.instanceMethod ({ cls := "CourierClashModel", name := "outcomeOf", desc := "(I)I" } : Jvm.MethodName)) ∈ lw_all := lw_g (lw_at lw_m11 163 rfl) rfl
theorem q2659 : (Jvm.Cond.selects "CourierClashModel" ({ cls := "CourierClashModel", name := "outcomeOf", desc := "(I)I" } : Jvm.MethodName) ({ cls := "CourierClashModel", name := "outcomeOf", desc := "(I)I" } : Jvm.MethodName)) ∈ lw_all := lw_g (lw_at lw_m11 164 rfl) rfl
theorem q2660 : (Jvm.Cond.code ({ cls := "CourierClashModel", name := "outcomeOf", desc := "(I)I" } : Jvm.MethodName) prog_17_method_73_code (2 : Nat) (Option.some Jvm.ClassFile.FieldType.int)) ∈ lw_all := lw_g (lw_at lw_m11 165 rfl) rfl
theorem q2662 : (Jvm.Cond.instanceMethod ({ cls := "CourierClashModel", name := "parcels", desc := "()I" } : Jvm.MethodName)) ∈ lw_all := lw_g (lw_at lw_m11 167 rfl) rfl
theorem q2663 : (Jvm.Cond.selects "CourierClashModel" ({ cls := "CourierClashModel", name := "parcels", desc := "()I" } : Jvm.MethodName) ({ cls := "CourierClashModel", name := "parcels", desc := "()I" } : Jvm.MethodName)) ∈ lw_all := lw_g (lw_at lw_m11 168 rfl) rfl
theorem q2664 : (Jvm.Cond.code ({ cls := "CourierClashModel", name := "parcels", desc := "()I" } : Jvm.MethodName) prog_17_method_74_code (1 : Nat) (Option.some Jvm.ClassFile.FieldType.int)) ∈ lw_all := lw_g (lw_at lw_m11 169 rfl) rfl
theorem q2666 : (Jvm.Cond.instanceMethod ({ cls := "CourierClashModel", name := "isWaiting", desc := "(I)Z" } : Jvm.MethodName)) ∈ lw_all := lw_g (lw_at lw_m11 171 rfl) rfl
theorem q2667 : (Jvm.Cond.selects "CourierClashModel" ({ cls := "CourierClashModel", name := "isWaiting", desc := "(I)Z" } : Jvm.MethodName) ({ cls := "CourierClashModel", name := "isWaiting", desc := "(I)Z" } : Jvm.MethodName)) ∈ lw_all := lw_g (lw_at lw_m11 172 rfl) rfl
theorem q2668 : (Jvm.Cond.code ({ cls := "CourierClashModel", name := "isWaiting", desc := "(I)Z" } : Jvm.MethodName) prog_17_method_75_code (2 : Nat) (Option.some Jvm.ClassFile.FieldType.boolean)) ∈ lw_all := lw_g (lw_at lw_m11 173 rfl) rfl
theorem q2669 : (Jvm.Cond.methodLink "CourierClashModel" (176 : Nat) ({ cls := "CourierClashModel", name := "isParcel", desc := "(I)Z" } : Jvm.MethodName)) ∈ lw_all := lw_g (lw_at lw_m11 174 rfl) rfl
theorem q2670 : (Jvm.Cond.privateMethod ({ cls := "CourierClashModel", name := "isParcel", desc := "(I)Z" } : Jvm.MethodName)) ∈ lw_tbl := lw_at lw_m11 175 rfl
theorem q2671 : (Jvm.Cond.instanceMethod ({ cls := "CourierClashModel", name := "isParcel", desc := "(I)Z" } : Jvm.MethodName)) ∈ lw_all := lw_g (lw_at lw_m11 176 rfl) rfl
theorem q2672 : (Jvm.Cond.code ({ cls := "CourierClashModel", name := "isParcel", desc := "(I)Z" } : Jvm.MethodName) prog_17_method_8_code (2 : Nat) (Option.some Jvm.ClassFile.FieldType.boolean)) ∈ lw_all := lw_g (lw_at lw_m11 177 rfl) rfl
theorem q2674 : (Jvm.Cond.instanceMethod ({ cls := "CourierClashModel", name := "isDelivered", desc := "(I)Z" } : Jvm.MethodName)) ∈ lw_all := lw_g (lw_at lw_m11 179 rfl) rfl
theorem q2675 : (Jvm.Cond.selects "CourierClashModel" ({ cls := "CourierClashModel", name := "isDelivered", desc := "(I)Z" } : Jvm.MethodName) ({ cls := "CourierClashModel", name := "isDelivered", desc := "(I)Z" } : Jvm.MethodName)) ∈ lw_all := lw_g (lw_at lw_m11 180 rfl) rfl
theorem q2676 : (Jvm.Cond.code ({ cls := "CourierClashModel", name := "isDelivered", desc := "(I)Z" } : Jvm.MethodName) prog_17_method_76_code (2 : Nat) (Option.some Jvm.ClassFile.FieldType.boolean)) ∈ lw_all := lw_g (lw_at lw_m11 181 rfl) rfl
theorem q2678 : (Jvm.Cond.instanceMethod ({ cls := "CourierClashModel", name := "courierOf", desc := "(I)I" } : Jvm.MethodName)) ∈ lw_all := lw_g (lw_at lw_m11 183 rfl) rfl
theorem q2679 : (Jvm.Cond.selects "CourierClashModel" ({ cls := "CourierClashModel", name := "courierOf", desc := "(I)I" } : Jvm.MethodName) ({ cls := "CourierClashModel", name := "courierOf", desc := "(I)I" } : Jvm.MethodName)) ∈ lw_all := lw_g (lw_at lw_m11 184 rfl) rfl
theorem q2680 : (Jvm.Cond.code ({ cls := "CourierClashModel", name := "courierOf", desc := "(I)I" } : Jvm.MethodName) prog_17_method_77_code (2 : Nat) (Option.some Jvm.ClassFile.FieldType.int)) ∈ lw_all := lw_g (lw_at lw_m11 185 rfl) rfl
theorem q2682 : (Jvm.Cond.instanceMethod ({ cls := "CourierClashModel", name := "placeOf", desc := "(I)I" } : Jvm.MethodName)) ∈ lw_all := lw_g (lw_at lw_m11 187 rfl) rfl
theorem q2683 : (Jvm.Cond.selects "CourierClashModel" ({ cls := "CourierClashModel", name := "placeOf", desc := "(I)I" } : Jvm.MethodName) ({ cls := "CourierClashModel", name := "placeOf", desc := "(I)I" } : Jvm.MethodName)) ∈ lw_all := lw_g (lw_at lw_m11 188 rfl) rfl
theorem q2684 : (Jvm.Cond.code ({ cls := "CourierClashModel", name := "placeOf", desc := "(I)I" } : Jvm.MethodName) prog_17_method_79_code (2 : Nat) (Option.some Jvm.ClassFile.FieldType.int)) ∈ lw_all := lw_g (lw_at lw_m11 189 rfl) rfl
theorem q2685 : (Jvm.Cond.methodLink "CourierClashModel" (179 : Nat) ({ cls := "CourierClashModel", name := "spot", desc := "(I)I" } : Jvm.MethodName)) ∈ lw_all := lw_g (lw_at lw_m11 190 rfl) rfl
theorem q2686 : (Jvm.Cond.privateMethod ({ cls := "CourierClashModel", name := "spot", desc := "(I)I" } : Jvm.MethodName)) ∈ lw_tbl := lw_at lw_m11 191 rfl
theorem q2687 : (Jvm.Cond.instanceMethod ({ cls := "CourierClashModel", name := "spot", desc := "(I)I" } : Jvm.MethodName)) ∈ lw_all := lw_g (lw_at lw_m11 192 rfl) rfl
theorem q2688 : (Jvm.Cond.code ({ cls := "CourierClashModel", name := "spot", desc := "(I)I" } : Jvm.MethodName) prog_17_method_78_code (2 : Nat) (Option.some Jvm.ClassFile.FieldType.int)) ∈ lw_all := lw_g (lw_at lw_m11 193 rfl) rfl
theorem q2690 : (Jvm.Cond.instanceMethod ({ cls := "CourierClashModel", name := "pointsOf", desc := "(I)I" } : Jvm.MethodName)) ∈ lw_all := lw_g (lw_at lw_m11 195 rfl) rfl
theorem q2691 : (Jvm.Cond.selects "CourierClashModel" ({ cls := "CourierClashModel", name := "pointsOf", desc := "(I)I" } : Jvm.MethodName) ({ cls := "CourierClashModel", name := "pointsOf", desc := "(I)I" } : Jvm.MethodName)) ∈ lw_all := lw_g (lw_at lw_m11 196 rfl) rfl
theorem q2692 : (Jvm.Cond.code ({ cls := "CourierClashModel", name := "pointsOf", desc := "(I)I" } : Jvm.MethodName) prog_17_method_80_code (2 : Nat) (Option.some Jvm.ClassFile.FieldType.int)) ∈ lw_all := lw_g (lw_at lw_m11 197 rfl) rfl
theorem q2694 : (Jvm.Cond.instanceMethod ({ cls := "CourierClashModel", name := "pointsByParcels", desc := "(I)I" } : Jvm.MethodName)) ∈ lw_all := lw_g (lw_at lw_m11 199 rfl) rfl
theorem q2695 : (Jvm.Cond.selects "CourierClashModel" ({ cls := "CourierClashModel", name := "pointsByParcels", desc := "(I)I" } : Jvm.MethodName) ({ cls := "CourierClashModel", name := "pointsByParcels", desc := "(I)I" } : Jvm.MethodName)) ∈ lw_all := lw_g (lw_at lw_m11 200 rfl) rfl
theorem q2696 : (Jvm.Cond.code ({ cls := "CourierClashModel", name := "pointsByParcels", desc := "(I)I" } : Jvm.MethodName) prog_17_method_81_code (2 : Nat) (Option.some Jvm.ClassFile.FieldType.int)) ∈ lw_all := lw_g (lw_at lw_m11 201 rfl) rfl
theorem q2698 : (Jvm.Cond.instanceMethod ({ cls := "CourierClashModel", name := "turnsPassed", desc := "()I" } : Jvm.MethodName)) ∈ lw_all := lw_g (lw_at lw_m11 203 rfl) rfl
theorem q2699 : (Jvm.Cond.selects "CourierClashModel" ({ cls := "CourierClashModel", name := "turnsPassed", desc := "()I" } : Jvm.MethodName) ({ cls := "CourierClashModel", name := "turnsPassed", desc := "()I" } : Jvm.MethodName)) ∈ lw_all := lw_g (lw_at lw_m11 204 rfl) rfl
theorem q2700 : (Jvm.Cond.code ({ cls := "CourierClashModel", name := "turnsPassed", desc := "()I" } : Jvm.MethodName) prog_17_method_82_code (1 : Nat) (Option.some Jvm.ClassFile.FieldType.int)) ∈ lw_all := lw_g (lw_at lw_m11 205 rfl) rfl
theorem q2702 : (Jvm.Cond.instanceMethod ({ cls := "CourierClashModel", name := "failedMoves", desc := "()I" } : Jvm.MethodName)) ∈ lw_all := lw_g (lw_at lw_m11 207 rfl) rfl
theorem q2703 : (Jvm.Cond.selects "CourierClashModel" ({ cls := "CourierClashModel", name := "failedMoves", desc := "()I" } : Jvm.MethodName) ({ cls := "CourierClashModel", name := "failedMoves", desc := "()I" } : Jvm.MethodName)) ∈ lw_all := lw_g (lw_at lw_m11 208 rfl) rfl
theorem q2704 : (Jvm.Cond.code ({ cls := "CourierClashModel", name := "failedMoves", desc := "()I" } : Jvm.MethodName) prog_17_method_83_code (1 : Nat) (Option.some Jvm.ClassFile.FieldType.int)) ∈ lw_all := lw_g (lw_at lw_m11 209 rfl) rfl
theorem q2706 : (Jvm.Cond.instanceMethod ({ cls := "CourierClashModel", name := "timesNoted", desc := "()I" } : Jvm.MethodName)) ∈ lw_all := lw_g (lw_at lw_m11 211 rfl) rfl
theorem q2707 : (Jvm.Cond.selects "CourierClashModel" ({ cls := "CourierClashModel", name := "timesNoted", desc := "()I" } : Jvm.MethodName) ({ cls := "CourierClashModel", name := "timesNoted", desc := "()I" } : Jvm.MethodName)) ∈ lw_all := lw_g (lw_at lw_m11 212 rfl) rfl
theorem q2708 : (Jvm.Cond.code ({ cls := "CourierClashModel", name := "timesNoted", desc := "()I" } : Jvm.MethodName) prog_17_method_84_code (1 : Nat) (Option.some Jvm.ClassFile.FieldType.int)) ∈ lw_all := lw_g (lw_at lw_m11 213 rfl) rfl
theorem q2710 : (Jvm.Cond.instanceMethod ({ cls := "CourierClashModel", name := "positionsNoted", desc := "()I" } : Jvm.MethodName)) ∈ lw_all := lw_g (lw_at lw_m11 215 rfl) rfl
theorem q2711 : (Jvm.Cond.selects "CourierClashModel" ({ cls := "CourierClashModel", name := "positionsNoted", desc := "()I" } : Jvm.MethodName) ({ cls := "CourierClashModel", name := "positionsNoted", desc := "()I" } : Jvm.MethodName)) ∈ lw_all := lw_g (lw_at lw_m11 216 rfl) rfl
theorem q2712 : (Jvm.Cond.code ({ cls := "CourierClashModel", name := "positionsNoted", desc := "()I" } : Jvm.MethodName) prog_17_method_85_code (1 : Nat) (Option.some Jvm.ClassFile.FieldType.int)) ∈ lw_all := lw_g (lw_at lw_m11 217 rfl) rfl
theorem q2713 : (Jvm.Cond.methodLink "CourierClashModel" (182 : Nat) ({ cls := "CourierClashModel", name := "unlike", desc := "()I" } : Jvm.MethodName)) ∈ lw_all := lw_g (lw_at lw_m11 218 rfl) rfl
theorem q2714 : (Jvm.Cond.privateMethod ({ cls := "CourierClashModel", name := "unlike", desc := "()I" } : Jvm.MethodName)) ∈ lw_tbl := lw_at lw_m11 219 rfl
theorem q2715 : (Jvm.Cond.instanceMethod ({ cls := "CourierClashModel", name := "unlike", desc := "()I" } : Jvm.MethodName)) ∈ lw_all := lw_g (lw_at lw_m11 220 rfl) rfl
theorem q2716 : (Jvm.Cond.code ({ cls := "CourierClashModel", name := "unlike", desc := "()I" } : Jvm.MethodName) prog_17_method_27_code (5 : Nat) (Option.some Jvm.ClassFile.FieldType.int)) ∈ lw_all := lw_g (lw_at lw_m11 221 rfl) rfl
theorem q2718 : (Jvm.Cond.instanceMethod ({ cls := "CourierClashModel", name := "whyOver", desc := "()I" } : Jvm.MethodName)) ∈ lw_all := lw_g (lw_at lw_m11 223 rfl) rfl
theorem q2719 : (Jvm.Cond.selects "CourierClashModel" ({ cls := "CourierClashModel", name := "whyOver", desc := "()I" } : Jvm.MethodName) ({ cls := "CourierClashModel", name := "whyOver", desc := "()I" } : Jvm.MethodName)) ∈ lw_all := lw_g (lw_at lw_m11 224 rfl) rfl
theorem q2720 : (Jvm.Cond.code ({ cls := "CourierClashModel", name := "whyOver", desc := "()I" } : Jvm.MethodName) prog_17_method_86_code (1 : Nat) (Option.some Jvm.ClassFile.FieldType.int)) ∈ lw_all := lw_g (lw_at lw_m11 225 rfl) rfl
theorem q2722 : (Jvm.Cond.instanceMethod ({ cls := "CourierClashModel", name := "reach", desc := "(I)I" } : Jvm.MethodName)) ∈ lw_all := lw_g (lw_at lw_m11 227 rfl) rfl
theorem q2723 : (Jvm.Cond.selects "CourierClashModel" ({ cls := "CourierClashModel", name := "reach", desc := "(I)I" } : Jvm.MethodName) ({ cls := "CourierClashModel", name := "reach", desc := "(I)I" } : Jvm.MethodName)) ∈ lw_all := lw_g (lw_at lw_m11 228 rfl) rfl
theorem q2724 : (Jvm.Cond.code ({ cls := "CourierClashModel", name := "reach", desc := "(I)I" } : Jvm.MethodName) prog_17_method_89_code (2 : Nat) (Option.some Jvm.ClassFile.FieldType.int)) ∈ lw_all := lw_g (lw_at lw_m11 229 rfl) rfl
theorem q2725 : (Jvm.Cond.methodLink "CourierClashModel" (189 : Nat) ({ cls := "CourierClashModel", name := "reached", desc := "(I)I" } : Jvm.MethodName)) ∈ lw_all := lw_g (lw_at lw_m11 230 rfl) rfl
theorem q2726 : (Jvm.Cond.privateMethod ({ cls := "CourierClashModel", name := "reached", desc := "(I)I" } : Jvm.MethodName)) ∈ lw_tbl := lw_at lw_m11 231 rfl
theorem q2727 : (Jvm.Cond.instanceMethod ({ cls := "CourierClashModel", name := "reached", desc := "(I)I" } : Jvm.MethodName)) ∈ lw_all := lw_g (lw_at lw_m11 232 rfl) rfl
theorem q2728 : (Jvm.Cond.code ({ cls := "CourierClashModel", name := "reached", desc := "(I)I" } : Jvm.MethodName) prog_17_method_88_code (4 : Nat) (Option.some Jvm.ClassFile.FieldType.int)) ∈ lw_all := lw_g (lw_at lw_m11 233 rfl) rfl
theorem q2729 : (Jvm.Cond.methodLink "CourierClashModel" (185 : Nat) ({ cls := "CourierClashModel", name := "spreads", desc := "(II)V" } : Jvm.MethodName)) ∈ lw_all := lw_g (lw_at lw_m11 234 rfl) rfl
theorem q2730 : (Jvm.Cond.privateMethod ({ cls := "CourierClashModel", name := "spreads", desc := "(II)V" } : Jvm.MethodName)) ∈ lw_tbl := lw_at lw_m11 235 rfl
theorem q2731 : (Jvm.Cond.instanceMethod ({ cls := "CourierClashModel", name := "spreads", desc := "(II)V" } : Jvm.MethodName)) ∈ lw_all := lw_g (lw_at lw_m11 236 rfl) rfl
theorem q2732 : (Jvm.Cond.code ({ cls := "CourierClashModel", name := "spreads", desc := "(II)V" } : Jvm.MethodName) prog_17_method_87_code (6 : Nat) (Option.none : Option Jvm.ClassFile.FieldType)) ∈ lw_all := lw_g (lw_at lw_m11 237 rfl) rfl
theorem q2734 : (Jvm.Cond.instanceMethod ({ cls := "CourierClashModel", name := "reachByJoining", desc := "(I)I" } : Jvm.MethodName)) ∈ lw_all := lw_g (lw_at lw_m11 239 rfl) rfl
theorem q2735 : (Jvm.Cond.selects "CourierClashModel" ({ cls := "CourierClashModel", name := "reachByJoining", desc := "(I)I" } : Jvm.MethodName) ({ cls := "CourierClashModel", name := "reachByJoining", desc := "(I)I" } : Jvm.MethodName)) ∈ lw_all := lw_g (lw_at lw_m12 0 rfl) rfl
theorem q2736 : (Jvm.Cond.code ({ cls := "CourierClashModel", name := "reachByJoining", desc := "(I)I" } : Jvm.MethodName) prog_17_method_90_code (2 : Nat) (Option.some Jvm.ClassFile.FieldType.int)) ∈ lw_all := lw_g (lw_at lw_m12 1 rfl) rfl
theorem q2738 : (Jvm.Cond.instanceMethod ({ cls := "CourierClashModel", name := "distance", desc := "(II)I" } : Jvm.MethodName)) ∈ lw_all := lw_g (lw_at lw_m12 3 rfl) rfl
theorem q2739 : (Jvm.Cond.selects "CourierClashModel" ({ cls := "CourierClashModel", name := "distance", desc := "(II)I" } : Jvm.MethodName) ({ cls := "CourierClashModel", name := "distance", desc := "(II)I" } : Jvm.MethodName)) ∈ lw_all := lw_g (lw_at lw_m12 4 rfl) rfl
theorem q2740 : (Jvm.Cond.code ({ cls := "CourierClashModel", name := "distance", desc := "(II)I" } : Jvm.MethodName) prog_17_method_92_code (3 : Nat) (Option.some Jvm.ClassFile.FieldType.int)) ∈ lw_all := lw_g (lw_at lw_m12 5 rfl) rfl
theorem q2741 : (Jvm.Cond.methodLink "CourierClashModel" (192 : Nat) ({ cls := "CourierClashModel", name := "way", desc := "(III)I" } : Jvm.MethodName)) ∈ lw_all := lw_g (lw_at lw_m12 6 rfl) rfl
theorem q2742 : (Jvm.Cond.privateMethod ({ cls := "CourierClashModel", name := "way", desc := "(III)I" } : Jvm.MethodName)) ∈ lw_tbl := lw_at lw_m12 7 rfl
theorem q2743 : (Jvm.Cond.instanceMethod ({ cls := "CourierClashModel", name := "way", desc := "(III)I" } : Jvm.MethodName)) ∈ lw_all := lw_g (lw_at lw_m12 8 rfl) rfl
theorem q2744 : (Jvm.Cond.code ({ cls := "CourierClashModel", name := "way", desc := "(III)I" } : Jvm.MethodName) prog_17_method_91_code (4 : Nat) (Option.some Jvm.ClassFile.FieldType.int)) ∈ lw_all := lw_g (lw_at lw_m12 9 rfl) rfl
theorem q2746 : (Jvm.Cond.instanceMethod ({ cls := "CourierClashModel", name := "nextStreet", desc := "(II)I" } : Jvm.MethodName)) ∈ lw_all := lw_g (lw_at lw_m12 11 rfl) rfl
theorem q2747 : (Jvm.Cond.selects "CourierClashModel" ({ cls := "CourierClashModel", name := "nextStreet", desc := "(II)I" } : Jvm.MethodName) ({ cls := "CourierClashModel", name := "nextStreet", desc := "(II)I" } : Jvm.MethodName)) ∈ lw_all := lw_g (lw_at lw_m12 12 rfl) rfl
theorem q2748 : (Jvm.Cond.code ({ cls := "CourierClashModel", name := "nextStreet", desc := "(II)I" } : Jvm.MethodName) prog_17_method_93_code (8 : Nat) (Option.some Jvm.ClassFile.FieldType.int)) ∈ lw_all := lw_g (lw_at lw_m12 13 rfl) rfl
theorem q2750 : (Jvm.Cond.instanceMethod ({ cls := "CourierClashModel", name := "bestParcel", desc := "(I)I" } : Jvm.MethodName)) ∈ lw_all := lw_g (lw_at lw_m12 15 rfl) rfl
theorem q2751 : (Jvm.Cond.selects "CourierClashModel" ({ cls := "CourierClashModel", name := "bestParcel", desc := "(I)I" } : Jvm.MethodName) ({ cls := "CourierClashModel", name := "bestParcel", desc := "(I)I" } : Jvm.MethodName)) ∈ lw_all := lw_g (lw_at lw_m12 16 rfl) rfl
theorem q2752 : (Jvm.Cond.code ({ cls := "CourierClashModel", name := "bestParcel", desc := "(I)I" } : Jvm.MethodName) prog_17_method_94_code (9 : Nat) (Option.some Jvm.ClassFile.FieldType.int)) ∈ lw_all := lw_g (lw_at lw_m12 17 rfl) rfl
theorem q2754 : (Jvm.Cond.instanceMethod ({ cls := "CourierClashModel", name := "whyNoOrder", desc := "(II)I" } : Jvm.MethodName)) ∈ lw_all := lw_g (lw_at lw_m12 19 rfl) rfl
theorem q2755 : (Jvm.Cond.selects "CourierClashModel" ({ cls := "CourierClashModel", name := "whyNoOrder", desc := "(II)I" } : Jvm.MethodName) ({ cls := "CourierClashModel", name := "whyNoOrder", desc := "(II)I" } : Jvm.MethodName)) ∈ lw_all := lw_g (lw_at lw_m12 20 rfl) rfl
theorem q2756 : (Jvm.Cond.code ({ cls := "CourierClashModel", name := "whyNoOrder", desc := "(II)I" } : Jvm.MethodName) prog_17_method_95_code (3 : Nat) (Option.some Jvm.ClassFile.FieldType.int)) ∈ lw_all := lw_g (lw_at lw_m12 21 rfl) rfl
theorem q2758 : (Jvm.Cond.instanceMethod ({ cls := "CourierClashModel", name := "wouldGo", desc := "(I)I" } : Jvm.MethodName)) ∈ lw_all := lw_g (lw_at lw_m12 23 rfl) rfl
theorem q2759 : (Jvm.Cond.selects "CourierClashModel" ({ cls := "CourierClashModel", name := "wouldGo", desc := "(I)I" } : Jvm.MethodName) ({ cls := "CourierClashModel", name := "wouldGo", desc := "(I)I" } : Jvm.MethodName)) ∈ lw_all := lw_g (lw_at lw_m12 24 rfl) rfl
theorem q2760 : (Jvm.Cond.code ({ cls := "CourierClashModel", name := "wouldGo", desc := "(I)I" } : Jvm.MethodName) prog_17_method_96_code (2 : Nat) (Option.some Jvm.ClassFile.FieldType.int)) ∈ lw_all := lw_g (lw_at lw_m12 25 rfl) rfl
theorem q2762 : (Jvm.Cond.instanceMethod ({ cls := "CourierClashModel", name := "meanLoad", desc := "()F" } : Jvm.MethodName)) ∈ lw_all := lw_g (lw_at lw_m12 27 rfl) rfl
theorem q2763 : (Jvm.Cond.selects "CourierClashModel" ({ cls := "CourierClashModel", name := "meanLoad", desc := "()F" } : Jvm.MethodName) ({ cls := "CourierClashModel", name := "meanLoad", desc := "()F" } : Jvm.MethodName)) ∈ lw_all := lw_g (lw_at lw_m12 28 rfl) rfl
theorem q2764 : (Jvm.Cond.code ({ cls := "CourierClashModel", name := "meanLoad", desc := "()F" } : Jvm.MethodName) prog_17_method_99_code (1 : Nat) (Option.some Jvm.ClassFile.FieldType.float)) ∈ lw_all := lw_g (lw_at lw_m12 29 rfl) rfl
theorem q2765 : (Jvm.Cond.methodLink "CourierClashModel" (196 : Nat) ({ cls := "CourierClashModel", name := "mean", desc := "()F" } : Jvm.MethodName)) ∈ lw_all := lw_g (lw_at lw_m12 30 rfl) rfl
theorem q2766 : (Jvm.Cond.privateMethod ({ cls := "CourierClashModel", name := "mean", desc := "()F" } : Jvm.MethodName)) ∈ lw_tbl := lw_at lw_m12 31 rfl
theorem q2767 : (Jvm.Cond.instanceMethod ({ cls := "CourierClashModel", name := "mean", desc := "()F" } : Jvm.MethodName)) ∈ lw_all := lw_g (lw_at lw_m12 32 rfl) rfl
theorem q2768 : (Jvm.Cond.code ({ cls := "CourierClashModel", name := "mean", desc := "()F" } : Jvm.MethodName) prog_17_method_97_code (1 : Nat) (Option.some Jvm.ClassFile.FieldType.float)) ∈ lw_all := lw_g (lw_at lw_m12 33 rfl) rfl
theorem q2769 : (Jvm.Cond.constantFloat "CourierClashModel" (195 : Nat) (1082130432 : UInt32)) ∈ lw_all := lw_g (lw_at lw_m12 34 rfl) rfl
theorem q2771 : (Jvm.Cond.instanceMethod ({ cls := "CourierClashModel", name := "deliveredShare", desc := "()D" } : Jvm.MethodName)) ∈ lw_all := lw_g (lw_at lw_m12 36 rfl) rfl
theorem q2772 : (Jvm.Cond.selects "CourierClashModel" ({ cls := "CourierClashModel", name := "deliveredShare", desc := "()D" } : Jvm.MethodName) ({ cls := "CourierClashModel", name := "deliveredShare", desc := "()D" } : Jvm.MethodName)) ∈ lw_all := lw_g (lw_at lw_m12 37 rfl) rfl
theorem q2773 : (Jvm.Cond.code ({ cls := "CourierClashModel", name := "deliveredShare", desc := "()D" } : Jvm.MethodName) prog_17_method_100_code (1 : Nat) (Option.some Jvm.ClassFile.FieldType.double)) ∈ lw_all := lw_g (lw_at lw_m12 38 rfl) rfl
theorem q2774 : (Jvm.Cond.methodLink "CourierClashModel" (200 : Nat) ({ cls := "CourierClashModel", name := "share", desc := "()D" } : Jvm.MethodName)) ∈ lw_all := lw_g (lw_at lw_m12 39 rfl) rfl
theorem q2775 : (Jvm.Cond.privateMethod ({ cls := "CourierClashModel", name := "share", desc := "()D" } : Jvm.MethodName)) ∈ lw_tbl := lw_at lw_m12 40 rfl
theorem q2776 : (Jvm.Cond.instanceMethod ({ cls := "CourierClashModel", name := "share", desc := "()D" } : Jvm.MethodName)) ∈ lw_all := lw_g (lw_at lw_m12 41 rfl) rfl
theorem q2777 : (Jvm.Cond.code ({ cls := "CourierClashModel", name := "share", desc := "()D" } : Jvm.MethodName) prog_17_method_98_code (3 : Nat) (Option.some Jvm.ClassFile.FieldType.double)) ∈ lw_all := lw_g (lw_at lw_m12 42 rfl) rfl
theorem q2779 : (Jvm.Cond.instanceMethod ({ cls := "CourierClashModel", name := "digest", desc := "()J" } : Jvm.MethodName)) ∈ lw_all := lw_g (lw_at lw_m12 44 rfl) rfl
theorem q2780 : (Jvm.Cond.selects "CourierClashModel" ({ cls := "CourierClashModel", name := "digest", desc := "()J" } : Jvm.MethodName) ({ cls := "CourierClashModel", name := "digest", desc := "()J" } : Jvm.MethodName)) ∈ lw_all := lw_g (lw_at lw_m12 45 rfl) rfl
theorem q2781 : (Jvm.Cond.code ({ cls := "CourierClashModel", name := "digest", desc := "()J" } : Jvm.MethodName) prog_17_method_104_code (4 : Nat) (Option.some Jvm.ClassFile.FieldType.long)) ∈ lw_all := lw_g (lw_at lw_m12 46 rfl) rfl
theorem q2782 : (Jvm.Cond.constantLong "CourierClashModel" (218 : Nat) (4357 : Int64)) ∈ lw_all := lw_g (lw_at lw_m12 47 rfl) rfl
theorem q2783 : (Jvm.Cond.methodLink "CourierClashModel" (214 : Nat) ({ cls := "CourierClashModel", name := "mix", desc := "(J)V" } : Jvm.MethodName)) ∈ lw_all := lw_g (lw_at lw_m12 48 rfl) rfl
theorem q2784 : (Jvm.Cond.privateMethod ({ cls := "CourierClashModel", name := "mix", desc := "(J)V" } : Jvm.MethodName)) ∈ lw_tbl := lw_at lw_m12 49 rfl
theorem q2785 : (Jvm.Cond.instanceMethod ({ cls := "CourierClashModel", name := "mix", desc := "(J)V" } : Jvm.MethodName)) ∈ lw_all := lw_g (lw_at lw_m12 50 rfl) rfl
theorem q2786 : (Jvm.Cond.code ({ cls := "CourierClashModel", name := "mix", desc := "(J)V" } : Jvm.MethodName) prog_17_method_102_code (3 : Nat) (Option.none : Option Jvm.ClassFile.FieldType)) ∈ lw_all := lw_g (lw_at lw_m12 51 rfl) rfl
theorem q2787 : (Jvm.Cond.constantLong "CourierClashModel" (208 : Nat) (31 : Int64)) ∈ lw_all := lw_g (lw_at lw_m12 52 rfl) rfl
theorem q2788 : (Jvm.Cond.methodLink "CourierClashModel" (220 : Nat) ({ cls := "CourierClashModel", name := "mixes", desc := "(Z)V" } : Jvm.MethodName)) ∈ lw_all := lw_g (lw_at lw_m12 53 rfl) rfl
theorem q2789 : (Jvm.Cond.privateMethod ({ cls := "CourierClashModel", name := "mixes", desc := "(Z)V" } : Jvm.MethodName)) ∈ lw_tbl := lw_at lw_m12 54 rfl
theorem q2790 : (Jvm.Cond.instanceMethod ({ cls := "CourierClashModel", name := "mixes", desc := "(Z)V" } : Jvm.MethodName)) ∈ lw_all := lw_g (lw_at lw_m12 55 rfl) rfl
theorem q2791 : (Jvm.Cond.code ({ cls := "CourierClashModel", name := "mixes", desc := "(Z)V" } : Jvm.MethodName) prog_17_method_103_code (2 : Nat) (Option.none : Option Jvm.ClassFile.FieldType)) ∈ lw_all := lw_g (lw_at lw_m12 56 rfl) rfl
theorem q2792 : (Jvm.Cond.methodLink "CourierClashModel" (224 : Nat) ({ cls := "CourierClashModel", name := "bitsOf", desc := "(DII)J" } : Jvm.MethodName)) ∈ lw_all := lw_g (lw_at lw_m12 57 rfl) rfl
theorem q2793 : (Jvm.Cond.static ({ cls := "CourierClashModel", name := "bitsOf", desc := "(DII)J" } : Jvm.MethodName)) ∈ lw_all := lw_g (lw_at lw_m12 58 rfl) rfl
theorem q2794 : (Jvm.Cond.code ({ cls := "CourierClashModel", name := "bitsOf", desc := "(DII)J" } : Jvm.MethodName) prog_17_method_101_code (14 : Nat) (Option.some Jvm.ClassFile.FieldType.long)) ∈ lw_all := lw_g (lw_at lw_m12 59 rfl) rfl
theorem q2795 : (Jvm.Cond.constantDouble "CourierClashModel" (204 : Nat) (4611686018427387904 : UInt64)) ∈ lw_all := lw_g (lw_at lw_m12 60 rfl) rfl
theorem q2796 : (Jvm.Cond.constantLong "CourierClashModel" (206 : Nat) (2 : Int64)) ∈ lw_all := lw_g (lw_at lw_m12 61 rfl) rfl
theorem q2830 : (Jvm.Cond.castable "CourierClashModel" "java/lang/Object") ∈ lw_tbl := lw_at lw_m12 95 rfl
theorem in_X9 : ∀ w ∈ wsX90, w ∈ lw_all := lw_in wsX90 [2383, 2385, 2387, 2389, 2391, 2393, 2395, 2397, 2399, 2401, 2403, 2405, 2407, 2409] (by decide +kernel) (by decide +kernel)
