/-! WholePacks$Desk -/
set_option maxRecDepth 100000
def RX1 : String := "WholePacks$Desk"
def TX1 : u_T := fun k => match k with
  | 0 => ("WholePacks$Desk", "n", "I", false)
  | 1 => ("WholePacks$Desk", "ruleMany", "I", false)
  | 2 => ("WholePacks$Desk", "by", "I", false)
  | 3 => ("WholePacks$Desk", "box", "I", false)
  | 4 => ("WholePacks$Desk", "seenMany", "I", false)
  | 5 => ("WholePacks$Desk", "planMany", "I", false)
  | 6 => ("WholePacks$Desk", "costs", "[I", true)
  | 7 => ("WholePacks$Desk", "rules", "[LWholePacks$Rule;", true)
  | 8 => ("WholePacks$Desk", "hands", "[I", true)
  | 9 => ("WholePacks$Desk", "seen", "[I", true)
  | _ => ("WholePacks$Desk", "plans", "[I", true)
def tyX1 : Nat → FieldType := fun k => match k with
  | 0 => .int
  | 1 => .int
  | 2 => .int
  | 3 => .int
  | 4 => .int
  | 5 => .int
  | 6 => .array .int
  | 7 => .array (.object "WholePacks$Rule")
  | 8 => .array .int
  | 9 => .array .int
  | _ => .array .int
abbrev wsX10 : List Cond := u_ws RX1 TX1 11
theorem nmX1 : ∀ a, a < 11 → ∀ b, b < 11 → a ≠ b → (TX1 a).2.1 ≠ (TX1 b).2.1 := by decide +kernel
theorem tyX1_ok : ∀ k, k < 11 → parseFieldDescriptor (TX1 k).2.2.1 = some (tyX1 k) := by decide +kernel
abbrev cX1_init : ByteArray := prog_6_method_1_code
def yX1_init : MethodName := ⟨RX1, "<init>", "()V"⟩
def dkwX1_init_4 : List UInt8 := [89, 183, 0, 40, 83, 132, 1, 1, 167, 255, 234, 177]
abbrev dktX1_init_4 : List UInt8 := dkwX1_init_4 ++ []
def dkwX1_init_3 : List UInt8 := [42, 16, 24, 188, 10, 181, 0, 37, 3, 60, 27, 16, 8, 162, 0, 22, 42, 180, 0, 27, 27, 187, 0, 25]
abbrev dktX1_init_3 : List UInt8 := dkwX1_init_3 ++ dktX1_init_4
def dkwX1_init_2 : List UInt8 := [16, 8, 189, 0, 25, 181, 0, 27, 42, 16, 8, 188, 10, 181, 0, 31, 42, 16, 10, 188, 10, 181, 0, 34]
abbrev dktX1_init_2 : List UInt8 := dkwX1_init_2 ++ dktX1_init_3
def dkwX1_init_1 : List UInt8 := [3, 4, 79, 89, 4, 4, 79, 89, 5, 4, 79, 89, 6, 4, 79, 89, 7, 4, 79, 181, 0, 21, 42]
abbrev dktX1_init_1 : List UInt8 := dkwX1_init_1 ++ dktX1_init_2
def dkwX1_init_0 : List UInt8 := [42, 183, 0, 3, 42, 5, 181, 0, 9, 42, 4, 181, 0, 15, 42, 7, 181, 0, 18, 42, 8, 188, 10, 89]
abbrev dktX1_init_0 : List UInt8 := dkwX1_init_0 ++ dktX1_init_1
theorem dksX1_init_0 : cX1_init.data.toList.drop 0 = dktX1_init_0 := by decide +kernel
theorem dksX1_init_1 : cX1_init.data.toList.drop 24 = dktX1_init_1 := dk_seg dksX1_init_0 24 rfl rfl
theorem dksX1_init_2 : cX1_init.data.toList.drop 47 = dktX1_init_2 := dk_seg dksX1_init_1 23 rfl rfl
theorem dksX1_init_3 : cX1_init.data.toList.drop 71 = dktX1_init_3 := dk_seg dksX1_init_2 24 rfl rfl
theorem dksX1_init_4 : cX1_init.data.toList.drop 95 = dktX1_init_4 := dk_seg dksX1_init_3 24 rfl rfl
theorem dX1_init_0 : decode cX1_init 0 = .ok (.aload_n 0, 1) := dk_42 (dk_at dksX1_init_0 0 rfl rfl)
theorem dX1_init_1 : decode cX1_init 1 = .ok (.invokespecial 3, 3) := dk_183 0 3 (dk_at dksX1_init_0 1 rfl rfl)
theorem dX1_init_4 : decode cX1_init 4 = .ok (.aload_n 0, 1) := dk_42 (dk_at dksX1_init_0 4 rfl rfl)
theorem dX1_init_5 : decode cX1_init 5 = .ok (.iconst 2, 1) := dk_5 (dk_at dksX1_init_0 5 rfl rfl)
theorem dX1_init_6 : decode cX1_init 6 = .ok (.putfield 9, 3) := dk_181 0 9 (dk_at dksX1_init_0 6 rfl rfl)
theorem dX1_init_9 : decode cX1_init 9 = .ok (.aload_n 0, 1) := dk_42 (dk_at dksX1_init_0 9 rfl rfl)
theorem dX1_init_10 : decode cX1_init 10 = .ok (.iconst 1, 1) := dk_4 (dk_at dksX1_init_0 10 rfl rfl)
theorem dX1_init_11 : decode cX1_init 11 = .ok (.putfield 15, 3) := dk_181 0 15 (dk_at dksX1_init_0 11 rfl rfl)
theorem dX1_init_14 : decode cX1_init 14 = .ok (.aload_n 0, 1) := dk_42 (dk_at dksX1_init_0 14 rfl rfl)
theorem dX1_init_15 : decode cX1_init 15 = .ok (.iconst 4, 1) := dk_7 (dk_at dksX1_init_0 15 rfl rfl)
theorem dX1_init_16 : decode cX1_init 16 = .ok (.putfield 18, 3) := dk_181 0 18 (dk_at dksX1_init_0 16 rfl rfl)
theorem dX1_init_19 : decode cX1_init 19 = .ok (.aload_n 0, 1) := dk_42 (dk_at dksX1_init_0 19 rfl rfl)
theorem dX1_init_20 : decode cX1_init 20 = .ok (.iconst 5, 1) := dk_8 (dk_at dksX1_init_0 20 rfl rfl)
theorem dX1_init_21 : decode cX1_init 21 = .ok (.newarray .int, 2) := dk_188_10 (dk_at dksX1_init_0 21 rfl rfl)
theorem dX1_init_23 : decode cX1_init 23 = .ok (.dup, 1) := dk_89 (dk_at dksX1_init_0 23 rfl rfl)
theorem dX1_init_24 : decode cX1_init 24 = .ok (.iconst 0, 1) := dk_3 (dk_at dksX1_init_1 0 rfl rfl)
theorem dX1_init_25 : decode cX1_init 25 = .ok (.iconst 1, 1) := dk_4 (dk_at dksX1_init_1 1 rfl rfl)
theorem dX1_init_26 : decode cX1_init 26 = .ok (.iastore, 1) := dk_79 (dk_at dksX1_init_1 2 rfl rfl)
theorem dX1_init_27 : decode cX1_init 27 = .ok (.dup, 1) := dk_89 (dk_at dksX1_init_1 3 rfl rfl)
theorem dX1_init_28 : decode cX1_init 28 = .ok (.iconst 1, 1) := dk_4 (dk_at dksX1_init_1 4 rfl rfl)
theorem dX1_init_29 : decode cX1_init 29 = .ok (.iconst 1, 1) := dk_4 (dk_at dksX1_init_1 5 rfl rfl)
theorem dX1_init_30 : decode cX1_init 30 = .ok (.iastore, 1) := dk_79 (dk_at dksX1_init_1 6 rfl rfl)
theorem dX1_init_31 : decode cX1_init 31 = .ok (.dup, 1) := dk_89 (dk_at dksX1_init_1 7 rfl rfl)
theorem dX1_init_32 : decode cX1_init 32 = .ok (.iconst 2, 1) := dk_5 (dk_at dksX1_init_1 8 rfl rfl)
theorem dX1_init_33 : decode cX1_init 33 = .ok (.iconst 1, 1) := dk_4 (dk_at dksX1_init_1 9 rfl rfl)
theorem dX1_init_34 : decode cX1_init 34 = .ok (.iastore, 1) := dk_79 (dk_at dksX1_init_1 10 rfl rfl)
theorem dX1_init_35 : decode cX1_init 35 = .ok (.dup, 1) := dk_89 (dk_at dksX1_init_1 11 rfl rfl)
theorem dX1_init_36 : decode cX1_init 36 = .ok (.iconst 3, 1) := dk_6 (dk_at dksX1_init_1 12 rfl rfl)
theorem dX1_init_37 : decode cX1_init 37 = .ok (.iconst 1, 1) := dk_4 (dk_at dksX1_init_1 13 rfl rfl)
theorem dX1_init_38 : decode cX1_init 38 = .ok (.iastore, 1) := dk_79 (dk_at dksX1_init_1 14 rfl rfl)
theorem dX1_init_39 : decode cX1_init 39 = .ok (.dup, 1) := dk_89 (dk_at dksX1_init_1 15 rfl rfl)
theorem dX1_init_40 : decode cX1_init 40 = .ok (.iconst 4, 1) := dk_7 (dk_at dksX1_init_1 16 rfl rfl)
theorem dX1_init_41 : decode cX1_init 41 = .ok (.iconst 1, 1) := dk_4 (dk_at dksX1_init_1 17 rfl rfl)
theorem dX1_init_42 : decode cX1_init 42 = .ok (.iastore, 1) := dk_79 (dk_at dksX1_init_1 18 rfl rfl)
theorem dX1_init_43 : decode cX1_init 43 = .ok (.putfield 21, 3) := dk_181 0 21 (dk_at dksX1_init_1 19 rfl rfl)
theorem dX1_init_46 : decode cX1_init 46 = .ok (.aload_n 0, 1) := dk_42 (dk_at dksX1_init_1 22 rfl rfl)
theorem dX1_init_47 : decode cX1_init 47 = .ok (.bipush 8, 2) := dk_16 8 (dk_at dksX1_init_2 0 rfl rfl)
theorem dX1_init_49 : decode cX1_init 49 = .ok (.anewarray 25, 3) := dk_189 0 25 (dk_at dksX1_init_2 2 rfl rfl)
theorem dX1_init_52 : decode cX1_init 52 = .ok (.putfield 27, 3) := dk_181 0 27 (dk_at dksX1_init_2 5 rfl rfl)
theorem dX1_init_55 : decode cX1_init 55 = .ok (.aload_n 0, 1) := dk_42 (dk_at dksX1_init_2 8 rfl rfl)
theorem dX1_init_56 : decode cX1_init 56 = .ok (.bipush 8, 2) := dk_16 8 (dk_at dksX1_init_2 9 rfl rfl)
theorem dX1_init_58 : decode cX1_init 58 = .ok (.newarray .int, 2) := dk_188_10 (dk_at dksX1_init_2 11 rfl rfl)
theorem dX1_init_60 : decode cX1_init 60 = .ok (.putfield 31, 3) := dk_181 0 31 (dk_at dksX1_init_2 13 rfl rfl)
theorem dX1_init_63 : decode cX1_init 63 = .ok (.aload_n 0, 1) := dk_42 (dk_at dksX1_init_2 16 rfl rfl)
theorem dX1_init_64 : decode cX1_init 64 = .ok (.bipush 10, 2) := dk_16 10 (dk_at dksX1_init_2 17 rfl rfl)
theorem dX1_init_66 : decode cX1_init 66 = .ok (.newarray .int, 2) := dk_188_10 (dk_at dksX1_init_2 19 rfl rfl)
theorem dX1_init_68 : decode cX1_init 68 = .ok (.putfield 34, 3) := dk_181 0 34 (dk_at dksX1_init_2 21 rfl rfl)
theorem dX1_init_71 : decode cX1_init 71 = .ok (.aload_n 0, 1) := dk_42 (dk_at dksX1_init_3 0 rfl rfl)
theorem dX1_init_72 : decode cX1_init 72 = .ok (.bipush 24, 2) := dk_16 24 (dk_at dksX1_init_3 1 rfl rfl)
theorem dX1_init_74 : decode cX1_init 74 = .ok (.newarray .int, 2) := dk_188_10 (dk_at dksX1_init_3 3 rfl rfl)
theorem dX1_init_76 : decode cX1_init 76 = .ok (.putfield 37, 3) := dk_181 0 37 (dk_at dksX1_init_3 5 rfl rfl)
theorem dX1_init_79 : decode cX1_init 79 = .ok (.iconst 0, 1) := dk_3 (dk_at dksX1_init_3 8 rfl rfl)
theorem dX1_init_80 : decode cX1_init 80 = .ok (.istore_n 1, 1) := dk_60 (dk_at dksX1_init_3 9 rfl rfl)
theorem dX1_init_81 : decode cX1_init 81 = .ok (.iload_n 1, 1) := dk_27 (dk_at dksX1_init_3 10 rfl rfl)
theorem dX1_init_82 : decode cX1_init 82 = .ok (.bipush 8, 2) := dk_16 8 (dk_at dksX1_init_3 11 rfl rfl)
theorem dX1_init_84 : decode cX1_init 84 = .ok (.if_icmp .ge 22, 3) := dk_162 0 22 (dk_at dksX1_init_3 13 rfl rfl)
theorem dX1_init_87 : decode cX1_init 87 = .ok (.aload_n 0, 1) := dk_42 (dk_at dksX1_init_3 16 rfl rfl)
theorem dX1_init_88 : decode cX1_init 88 = .ok (.getfield 27, 3) := dk_180 0 27 (dk_at dksX1_init_3 17 rfl rfl)
theorem dX1_init_91 : decode cX1_init 91 = .ok (.iload_n 1, 1) := dk_27 (dk_at dksX1_init_3 20 rfl rfl)
theorem dX1_init_92 : decode cX1_init 92 = .ok (.new 25, 3) := dk_187 0 25 (dk_at dksX1_init_3 21 rfl rfl)
theorem dX1_init_95 : decode cX1_init 95 = .ok (.dup, 1) := dk_89 (dk_at dksX1_init_4 0 rfl rfl)
theorem dX1_init_96 : decode cX1_init 96 = .ok (.invokespecial 40, 3) := dk_183 0 40 (dk_at dksX1_init_4 1 rfl rfl)
theorem dX1_init_99 : decode cX1_init 99 = .ok (.aastore, 1) := dk_83 (dk_at dksX1_init_4 4 rfl rfl)
theorem dX1_init_100 : decode cX1_init 100 = .ok (.iinc 1 1, 3) := dk_132 1 1 (dk_at dksX1_init_4 5 rfl rfl)
theorem dX1_init_103 : decode cX1_init 103 = .ok (.goto (-22), 3) := dk_167 255 234 (dk_at dksX1_init_4 8 rfl rfl)
theorem dX1_init_106 : decode cX1_init 106 = .ok (.return_, 1) := dk_177 (dk_at dksX1_init_4 11 rfl rfl)
abbrev cX1_hasRule : ByteArray := prog_6_method_5_code
def yX1_hasRule : MethodName := ⟨RX1, "hasRule", "(I)Z"⟩
def dkwX1_hasRule_0 : List UInt8 := [27, 133, 9, 42, 180, 0, 41, 4, 100, 133, 184, 0, 64, 172]
abbrev dktX1_hasRule_0 : List UInt8 := dkwX1_hasRule_0 ++ []
theorem dksX1_hasRule_0 : cX1_hasRule.data.toList.drop 0 = dktX1_hasRule_0 := by decide +kernel
theorem dX1_hasRule_0 : decode cX1_hasRule 0 = .ok (.iload_n 1, 1) := dk_27 (dk_at dksX1_hasRule_0 0 rfl rfl)
theorem dX1_hasRule_1 : decode cX1_hasRule 1 = .ok (.i2l, 1) := dk_133 (dk_at dksX1_hasRule_0 1 rfl rfl)
theorem dX1_hasRule_2 : decode cX1_hasRule 2 = .ok (.lconst 0, 1) := dk_9 (dk_at dksX1_hasRule_0 2 rfl rfl)
theorem dX1_hasRule_3 : decode cX1_hasRule 3 = .ok (.aload_n 0, 1) := dk_42 (dk_at dksX1_hasRule_0 3 rfl rfl)
theorem dX1_hasRule_4 : decode cX1_hasRule 4 = .ok (.getfield 41, 3) := dk_180 0 41 (dk_at dksX1_hasRule_0 4 rfl rfl)
theorem dX1_hasRule_7 : decode cX1_hasRule 7 = .ok (.iconst 1, 1) := dk_4 (dk_at dksX1_hasRule_0 7 rfl rfl)
theorem dX1_hasRule_8 : decode cX1_hasRule 8 = .ok (.isub, 1) := dk_100 (dk_at dksX1_hasRule_0 8 rfl rfl)
theorem dX1_hasRule_9 : decode cX1_hasRule 9 = .ok (.i2l, 1) := dk_133 (dk_at dksX1_hasRule_0 9 rfl rfl)
theorem dX1_hasRule_10 : decode cX1_hasRule 10 = .ok (.invokestatic 64, 3) := dk_184 0 64 (dk_at dksX1_hasRule_0 10 rfl rfl)
theorem dX1_hasRule_13 : decode cX1_hasRule 13 = .ok (.ireturn, 1) := dk_172 (dk_at dksX1_hasRule_0 13 rfl rfl)
abbrev cX1_hasPack : ByteArray := prog_6_method_6_code
def yX1_hasPack : MethodName := ⟨RX1, "hasPack", "(I)Z"⟩
def dkwX1_hasPack_0 : List UInt8 := [27, 133, 9, 42, 180, 0, 9, 4, 100, 133, 184, 0, 64, 172]
abbrev dktX1_hasPack_0 : List UInt8 := dkwX1_hasPack_0 ++ []
theorem dksX1_hasPack_0 : cX1_hasPack.data.toList.drop 0 = dktX1_hasPack_0 := by decide +kernel
theorem dX1_hasPack_0 : decode cX1_hasPack 0 = .ok (.iload_n 1, 1) := dk_27 (dk_at dksX1_hasPack_0 0 rfl rfl)
theorem dX1_hasPack_1 : decode cX1_hasPack 1 = .ok (.i2l, 1) := dk_133 (dk_at dksX1_hasPack_0 1 rfl rfl)
theorem dX1_hasPack_2 : decode cX1_hasPack 2 = .ok (.lconst 0, 1) := dk_9 (dk_at dksX1_hasPack_0 2 rfl rfl)
theorem dX1_hasPack_3 : decode cX1_hasPack 3 = .ok (.aload_n 0, 1) := dk_42 (dk_at dksX1_hasPack_0 3 rfl rfl)
theorem dX1_hasPack_4 : decode cX1_hasPack 4 = .ok (.getfield 9, 3) := dk_180 0 9 (dk_at dksX1_hasPack_0 4 rfl rfl)
theorem dX1_hasPack_7 : decode cX1_hasPack 7 = .ok (.iconst 1, 1) := dk_4 (dk_at dksX1_hasPack_0 7 rfl rfl)
theorem dX1_hasPack_8 : decode cX1_hasPack 8 = .ok (.isub, 1) := dk_100 (dk_at dksX1_hasPack_0 8 rfl rfl)
theorem dX1_hasPack_9 : decode cX1_hasPack 9 = .ok (.i2l, 1) := dk_133 (dk_at dksX1_hasPack_0 9 rfl rfl)
theorem dX1_hasPack_10 : decode cX1_hasPack 10 = .ok (.invokestatic 64, 3) := dk_184 0 64 (dk_at dksX1_hasPack_0 10 rfl rfl)
theorem dX1_hasPack_13 : decode cX1_hasPack 13 = .ok (.ireturn, 1) := dk_172 (dk_at dksX1_hasPack_0 13 rfl rfl)
abbrev cX1_begins : ByteArray := prog_6_method_2_code
def yX1_begins : MethodName := ⟨RX1, "begins", "(I)V"⟩
def dkwX1_begins_2 : List UInt8 := [61, 28, 16, 8, 162, 0, 16, 42, 180, 0, 31, 28, 3, 79, 132, 2, 1, 167, 255, 240, 177]
abbrev dktX1_begins_2 : List UInt8 := dkwX1_begins_2 ++ []
def dkwX1_begins_1 : List UInt8 := [181, 0, 47, 3, 61, 28, 8, 162, 0, 16, 42, 180, 0, 21, 28, 4, 79, 132, 2, 1, 167, 255, 241, 3]
abbrev dktX1_begins_1 : List UInt8 := dkwX1_begins_1 ++ dktX1_begins_2
def dkwX1_begins_0 : List UInt8 := [42, 27, 181, 0, 9, 42, 3, 181, 0, 41, 42, 4, 181, 0, 15, 42, 3, 181, 0, 44, 42, 3]
abbrev dktX1_begins_0 : List UInt8 := dkwX1_begins_0 ++ dktX1_begins_1
theorem dksX1_begins_0 : cX1_begins.data.toList.drop 0 = dktX1_begins_0 := by decide +kernel
theorem dksX1_begins_1 : cX1_begins.data.toList.drop 22 = dktX1_begins_1 := dk_seg dksX1_begins_0 22 rfl rfl
theorem dksX1_begins_2 : cX1_begins.data.toList.drop 46 = dktX1_begins_2 := dk_seg dksX1_begins_1 24 rfl rfl
theorem dX1_begins_0 : decode cX1_begins 0 = .ok (.aload_n 0, 1) := dk_42 (dk_at dksX1_begins_0 0 rfl rfl)
theorem dX1_begins_1 : decode cX1_begins 1 = .ok (.iload_n 1, 1) := dk_27 (dk_at dksX1_begins_0 1 rfl rfl)
theorem dX1_begins_2 : decode cX1_begins 2 = .ok (.putfield 9, 3) := dk_181 0 9 (dk_at dksX1_begins_0 2 rfl rfl)
theorem dX1_begins_5 : decode cX1_begins 5 = .ok (.aload_n 0, 1) := dk_42 (dk_at dksX1_begins_0 5 rfl rfl)
theorem dX1_begins_6 : decode cX1_begins 6 = .ok (.iconst 0, 1) := dk_3 (dk_at dksX1_begins_0 6 rfl rfl)
theorem dX1_begins_7 : decode cX1_begins 7 = .ok (.putfield 41, 3) := dk_181 0 41 (dk_at dksX1_begins_0 7 rfl rfl)
theorem dX1_begins_10 : decode cX1_begins 10 = .ok (.aload_n 0, 1) := dk_42 (dk_at dksX1_begins_0 10 rfl rfl)
theorem dX1_begins_11 : decode cX1_begins 11 = .ok (.iconst 1, 1) := dk_4 (dk_at dksX1_begins_0 11 rfl rfl)
theorem dX1_begins_12 : decode cX1_begins 12 = .ok (.putfield 15, 3) := dk_181 0 15 (dk_at dksX1_begins_0 12 rfl rfl)
theorem dX1_begins_15 : decode cX1_begins 15 = .ok (.aload_n 0, 1) := dk_42 (dk_at dksX1_begins_0 15 rfl rfl)
theorem dX1_begins_16 : decode cX1_begins 16 = .ok (.iconst 0, 1) := dk_3 (dk_at dksX1_begins_0 16 rfl rfl)
theorem dX1_begins_17 : decode cX1_begins 17 = .ok (.putfield 44, 3) := dk_181 0 44 (dk_at dksX1_begins_0 17 rfl rfl)
theorem dX1_begins_20 : decode cX1_begins 20 = .ok (.aload_n 0, 1) := dk_42 (dk_at dksX1_begins_0 20 rfl rfl)
theorem dX1_begins_21 : decode cX1_begins 21 = .ok (.iconst 0, 1) := dk_3 (dk_at dksX1_begins_0 21 rfl rfl)
theorem dX1_begins_22 : decode cX1_begins 22 = .ok (.putfield 47, 3) := dk_181 0 47 (dk_at dksX1_begins_1 0 rfl rfl)
theorem dX1_begins_25 : decode cX1_begins 25 = .ok (.iconst 0, 1) := dk_3 (dk_at dksX1_begins_1 3 rfl rfl)
theorem dX1_begins_26 : decode cX1_begins 26 = .ok (.istore_n 2, 1) := dk_61 (dk_at dksX1_begins_1 4 rfl rfl)
theorem dX1_begins_27 : decode cX1_begins 27 = .ok (.iload_n 2, 1) := dk_28 (dk_at dksX1_begins_1 5 rfl rfl)
theorem dX1_begins_28 : decode cX1_begins 28 = .ok (.iconst 5, 1) := dk_8 (dk_at dksX1_begins_1 6 rfl rfl)
theorem dX1_begins_29 : decode cX1_begins 29 = .ok (.if_icmp .ge 16, 3) := dk_162 0 16 (dk_at dksX1_begins_1 7 rfl rfl)
theorem dX1_begins_32 : decode cX1_begins 32 = .ok (.aload_n 0, 1) := dk_42 (dk_at dksX1_begins_1 10 rfl rfl)
theorem dX1_begins_33 : decode cX1_begins 33 = .ok (.getfield 21, 3) := dk_180 0 21 (dk_at dksX1_begins_1 11 rfl rfl)
theorem dX1_begins_36 : decode cX1_begins 36 = .ok (.iload_n 2, 1) := dk_28 (dk_at dksX1_begins_1 14 rfl rfl)
theorem dX1_begins_37 : decode cX1_begins 37 = .ok (.iconst 1, 1) := dk_4 (dk_at dksX1_begins_1 15 rfl rfl)
theorem dX1_begins_38 : decode cX1_begins 38 = .ok (.iastore, 1) := dk_79 (dk_at dksX1_begins_1 16 rfl rfl)
theorem dX1_begins_39 : decode cX1_begins 39 = .ok (.iinc 2 1, 3) := dk_132 2 1 (dk_at dksX1_begins_1 17 rfl rfl)
theorem dX1_begins_42 : decode cX1_begins 42 = .ok (.goto (-15), 3) := dk_167 255 241 (dk_at dksX1_begins_1 20 rfl rfl)
theorem dX1_begins_45 : decode cX1_begins 45 = .ok (.iconst 0, 1) := dk_3 (dk_at dksX1_begins_1 23 rfl rfl)
theorem dX1_begins_46 : decode cX1_begins 46 = .ok (.istore_n 2, 1) := dk_61 (dk_at dksX1_begins_2 0 rfl rfl)
theorem dX1_begins_47 : decode cX1_begins 47 = .ok (.iload_n 2, 1) := dk_28 (dk_at dksX1_begins_2 1 rfl rfl)
theorem dX1_begins_48 : decode cX1_begins 48 = .ok (.bipush 8, 2) := dk_16 8 (dk_at dksX1_begins_2 2 rfl rfl)
theorem dX1_begins_50 : decode cX1_begins 50 = .ok (.if_icmp .ge 16, 3) := dk_162 0 16 (dk_at dksX1_begins_2 4 rfl rfl)
theorem dX1_begins_53 : decode cX1_begins 53 = .ok (.aload_n 0, 1) := dk_42 (dk_at dksX1_begins_2 7 rfl rfl)
theorem dX1_begins_54 : decode cX1_begins 54 = .ok (.getfield 31, 3) := dk_180 0 31 (dk_at dksX1_begins_2 8 rfl rfl)
theorem dX1_begins_57 : decode cX1_begins 57 = .ok (.iload_n 2, 1) := dk_28 (dk_at dksX1_begins_2 11 rfl rfl)
theorem dX1_begins_58 : decode cX1_begins 58 = .ok (.iconst 0, 1) := dk_3 (dk_at dksX1_begins_2 12 rfl rfl)
theorem dX1_begins_59 : decode cX1_begins 59 = .ok (.iastore, 1) := dk_79 (dk_at dksX1_begins_2 13 rfl rfl)
theorem dX1_begins_60 : decode cX1_begins 60 = .ok (.iinc 2 1, 3) := dk_132 2 1 (dk_at dksX1_begins_2 14 rfl rfl)
theorem dX1_begins_63 : decode cX1_begins 63 = .ok (.goto (-16), 3) := dk_167 255 240 (dk_at dksX1_begins_2 17 rfl rfl)
theorem dX1_begins_66 : decode cX1_begins 66 = .ok (.return_, 1) := dk_177 (dk_at dksX1_begins_2 20 rfl rfl)
abbrev cX1_comes : ByteArray := prog_6_method_4_code
def yX1_comes : MethodName := ⟨RX1, "comes", "(II)LWholePacks$Rule;"⟩
def dkwX1_comes_1 : List UInt8 := [181, 0, 41, 45, 176]
abbrev dktX1_comes_1 : List UInt8 := dkwX1_comes_1 ++ []
def dkwX1_comes_0 : List UInt8 := [42, 180, 0, 27, 42, 180, 0, 41, 50, 78, 45, 27, 28, 182, 0, 60, 42, 89, 180, 0, 41, 4, 96]
abbrev dktX1_comes_0 : List UInt8 := dkwX1_comes_0 ++ dktX1_comes_1
theorem dksX1_comes_0 : cX1_comes.data.toList.drop 0 = dktX1_comes_0 := by decide +kernel
theorem dksX1_comes_1 : cX1_comes.data.toList.drop 23 = dktX1_comes_1 := dk_seg dksX1_comes_0 23 rfl rfl
theorem dX1_comes_0 : decode cX1_comes 0 = .ok (.aload_n 0, 1) := dk_42 (dk_at dksX1_comes_0 0 rfl rfl)
theorem dX1_comes_1 : decode cX1_comes 1 = .ok (.getfield 27, 3) := dk_180 0 27 (dk_at dksX1_comes_0 1 rfl rfl)
theorem dX1_comes_4 : decode cX1_comes 4 = .ok (.aload_n 0, 1) := dk_42 (dk_at dksX1_comes_0 4 rfl rfl)
theorem dX1_comes_5 : decode cX1_comes 5 = .ok (.getfield 41, 3) := dk_180 0 41 (dk_at dksX1_comes_0 5 rfl rfl)
theorem dX1_comes_8 : decode cX1_comes 8 = .ok (.aaload, 1) := dk_50 (dk_at dksX1_comes_0 8 rfl rfl)
theorem dX1_comes_9 : decode cX1_comes 9 = .ok (.astore_n 3, 1) := dk_78 (dk_at dksX1_comes_0 9 rfl rfl)
theorem dX1_comes_10 : decode cX1_comes 10 = .ok (.aload_n 3, 1) := dk_45 (dk_at dksX1_comes_0 10 rfl rfl)
theorem dX1_comes_11 : decode cX1_comes 11 = .ok (.iload_n 1, 1) := dk_27 (dk_at dksX1_comes_0 11 rfl rfl)
theorem dX1_comes_12 : decode cX1_comes 12 = .ok (.iload_n 2, 1) := dk_28 (dk_at dksX1_comes_0 12 rfl rfl)
theorem dX1_comes_13 : decode cX1_comes 13 = .ok (.invokevirtual 60, 3) := dk_182 0 60 (dk_at dksX1_comes_0 13 rfl rfl)
theorem dX1_comes_16 : decode cX1_comes 16 = .ok (.aload_n 0, 1) := dk_42 (dk_at dksX1_comes_0 16 rfl rfl)
theorem dX1_comes_17 : decode cX1_comes 17 = .ok (.dup, 1) := dk_89 (dk_at dksX1_comes_0 17 rfl rfl)
theorem dX1_comes_18 : decode cX1_comes 18 = .ok (.getfield 41, 3) := dk_180 0 41 (dk_at dksX1_comes_0 18 rfl rfl)
theorem dX1_comes_21 : decode cX1_comes 21 = .ok (.iconst 1, 1) := dk_4 (dk_at dksX1_comes_0 21 rfl rfl)
theorem dX1_comes_22 : decode cX1_comes 22 = .ok (.iadd, 1) := dk_96 (dk_at dksX1_comes_0 22 rfl rfl)
theorem dX1_comes_23 : decode cX1_comes 23 = .ok (.putfield 41, 3) := dk_181 0 41 (dk_at dksX1_comes_1 0 rfl rfl)
theorem dX1_comes_26 : decode cX1_comes 26 = .ok (.aload_n 3, 1) := dk_45 (dk_at dksX1_comes_1 3 rfl rfl)
theorem dX1_comes_27 : decode cX1_comes 27 = .ok (.areturn, 1) := dk_176 (dk_at dksX1_comes_1 4 rfl rfl)
abbrev cX1_handPoints : ByteArray := prog_6_method_7_code
def yX1_handPoints : MethodName := ⟨RX1, "handPoints", "(I)J"⟩
def dkwX1_handPoints_3 : List UInt8 := [184, 0, 76, 173]
abbrev dktX1_handPoints_3 : List UInt8 := dkwX1_handPoints_3 ++ []
def dkwX1_handPoints_2 : List UInt8 := [21, 4, 50, 27, 182, 0, 72, 105, 97, 65, 132, 4, 1, 167, 255, 200, 32, 42, 180, 0, 15, 133]
abbrev dktX1_handPoints_2 : List UInt8 := dkwX1_handPoints_2 ++ dktX1_handPoints_3
def dkwX1_handPoints_1 : List UInt8 := [42, 180, 0, 9, 160, 0, 16, 42, 180, 0, 27, 21, 4, 50, 182, 0, 68, 167, 0, 14, 42, 180, 0, 27]
abbrev dktX1_handPoints_1 : List UInt8 := dkwX1_handPoints_1 ++ dktX1_handPoints_2
def dkwX1_handPoints_0 : List UInt8 := [9, 65, 3, 54, 4, 21, 4, 42, 180, 0, 41, 162, 0, 53, 32, 42, 180, 0, 31, 21, 4, 46, 133, 27]
abbrev dktX1_handPoints_0 : List UInt8 := dkwX1_handPoints_0 ++ dktX1_handPoints_1
theorem dksX1_handPoints_0 : cX1_handPoints.data.toList.drop 0 = dktX1_handPoints_0 := by decide +kernel
theorem dksX1_handPoints_1 : cX1_handPoints.data.toList.drop 24 = dktX1_handPoints_1 := dk_seg dksX1_handPoints_0 24 rfl rfl
theorem dksX1_handPoints_2 : cX1_handPoints.data.toList.drop 48 = dktX1_handPoints_2 := dk_seg dksX1_handPoints_1 24 rfl rfl
theorem dksX1_handPoints_3 : cX1_handPoints.data.toList.drop 70 = dktX1_handPoints_3 := dk_seg dksX1_handPoints_2 22 rfl rfl
theorem dX1_handPoints_0 : decode cX1_handPoints 0 = .ok (.lconst 0, 1) := dk_9 (dk_at dksX1_handPoints_0 0 rfl rfl)
theorem dX1_handPoints_1 : decode cX1_handPoints 1 = .ok (.lstore_n 2, 1) := dk_65 (dk_at dksX1_handPoints_0 1 rfl rfl)
theorem dX1_handPoints_2 : decode cX1_handPoints 2 = .ok (.iconst 0, 1) := dk_3 (dk_at dksX1_handPoints_0 2 rfl rfl)
theorem dX1_handPoints_3 : decode cX1_handPoints 3 = .ok (.istore 4, 2) := dk_54 4 (dk_at dksX1_handPoints_0 3 rfl rfl)
theorem dX1_handPoints_5 : decode cX1_handPoints 5 = .ok (.iload 4, 2) := dk_21 4 (dk_at dksX1_handPoints_0 5 rfl rfl)
theorem dX1_handPoints_7 : decode cX1_handPoints 7 = .ok (.aload_n 0, 1) := dk_42 (dk_at dksX1_handPoints_0 7 rfl rfl)
theorem dX1_handPoints_8 : decode cX1_handPoints 8 = .ok (.getfield 41, 3) := dk_180 0 41 (dk_at dksX1_handPoints_0 8 rfl rfl)
theorem dX1_handPoints_11 : decode cX1_handPoints 11 = .ok (.if_icmp .ge 53, 3) := dk_162 0 53 (dk_at dksX1_handPoints_0 11 rfl rfl)
theorem dX1_handPoints_14 : decode cX1_handPoints 14 = .ok (.lload_n 2, 1) := dk_32 (dk_at dksX1_handPoints_0 14 rfl rfl)
theorem dX1_handPoints_15 : decode cX1_handPoints 15 = .ok (.aload_n 0, 1) := dk_42 (dk_at dksX1_handPoints_0 15 rfl rfl)
theorem dX1_handPoints_16 : decode cX1_handPoints 16 = .ok (.getfield 31, 3) := dk_180 0 31 (dk_at dksX1_handPoints_0 16 rfl rfl)
theorem dX1_handPoints_19 : decode cX1_handPoints 19 = .ok (.iload 4, 2) := dk_21 4 (dk_at dksX1_handPoints_0 19 rfl rfl)
theorem dX1_handPoints_21 : decode cX1_handPoints 21 = .ok (.iaload, 1) := dk_46 (dk_at dksX1_handPoints_0 21 rfl rfl)
theorem dX1_handPoints_22 : decode cX1_handPoints 22 = .ok (.i2l, 1) := dk_133 (dk_at dksX1_handPoints_0 22 rfl rfl)
theorem dX1_handPoints_23 : decode cX1_handPoints 23 = .ok (.iload_n 1, 1) := dk_27 (dk_at dksX1_handPoints_0 23 rfl rfl)
theorem dX1_handPoints_24 : decode cX1_handPoints 24 = .ok (.aload_n 0, 1) := dk_42 (dk_at dksX1_handPoints_1 0 rfl rfl)
theorem dX1_handPoints_25 : decode cX1_handPoints 25 = .ok (.getfield 9, 3) := dk_180 0 9 (dk_at dksX1_handPoints_1 1 rfl rfl)
theorem dX1_handPoints_28 : decode cX1_handPoints 28 = .ok (.if_icmp .ne 16, 3) := dk_160 0 16 (dk_at dksX1_handPoints_1 4 rfl rfl)
theorem dX1_handPoints_31 : decode cX1_handPoints 31 = .ok (.aload_n 0, 1) := dk_42 (dk_at dksX1_handPoints_1 7 rfl rfl)
theorem dX1_handPoints_32 : decode cX1_handPoints 32 = .ok (.getfield 27, 3) := dk_180 0 27 (dk_at dksX1_handPoints_1 8 rfl rfl)
theorem dX1_handPoints_35 : decode cX1_handPoints 35 = .ok (.iload 4, 2) := dk_21 4 (dk_at dksX1_handPoints_1 11 rfl rfl)
theorem dX1_handPoints_37 : decode cX1_handPoints 37 = .ok (.aaload, 1) := dk_50 (dk_at dksX1_handPoints_1 13 rfl rfl)
theorem dX1_handPoints_38 : decode cX1_handPoints 38 = .ok (.invokevirtual 68, 3) := dk_182 0 68 (dk_at dksX1_handPoints_1 14 rfl rfl)
theorem dX1_handPoints_41 : decode cX1_handPoints 41 = .ok (.goto 14, 3) := dk_167 0 14 (dk_at dksX1_handPoints_1 17 rfl rfl)
theorem dX1_handPoints_44 : decode cX1_handPoints 44 = .ok (.aload_n 0, 1) := dk_42 (dk_at dksX1_handPoints_1 20 rfl rfl)
theorem dX1_handPoints_45 : decode cX1_handPoints 45 = .ok (.getfield 27, 3) := dk_180 0 27 (dk_at dksX1_handPoints_1 21 rfl rfl)
theorem dX1_handPoints_48 : decode cX1_handPoints 48 = .ok (.iload 4, 2) := dk_21 4 (dk_at dksX1_handPoints_2 0 rfl rfl)
theorem dX1_handPoints_50 : decode cX1_handPoints 50 = .ok (.aaload, 1) := dk_50 (dk_at dksX1_handPoints_2 2 rfl rfl)
theorem dX1_handPoints_51 : decode cX1_handPoints 51 = .ok (.iload_n 1, 1) := dk_27 (dk_at dksX1_handPoints_2 3 rfl rfl)
theorem dX1_handPoints_52 : decode cX1_handPoints 52 = .ok (.invokevirtual 72, 3) := dk_182 0 72 (dk_at dksX1_handPoints_2 4 rfl rfl)
theorem dX1_handPoints_55 : decode cX1_handPoints 55 = .ok (.lmul, 1) := dk_105 (dk_at dksX1_handPoints_2 7 rfl rfl)
theorem dX1_handPoints_56 : decode cX1_handPoints 56 = .ok (.ladd, 1) := dk_97 (dk_at dksX1_handPoints_2 8 rfl rfl)
theorem dX1_handPoints_57 : decode cX1_handPoints 57 = .ok (.lstore_n 2, 1) := dk_65 (dk_at dksX1_handPoints_2 9 rfl rfl)
theorem dX1_handPoints_58 : decode cX1_handPoints 58 = .ok (.iinc 4 1, 3) := dk_132 4 1 (dk_at dksX1_handPoints_2 10 rfl rfl)
theorem dX1_handPoints_61 : decode cX1_handPoints 61 = .ok (.goto (-56), 3) := dk_167 255 200 (dk_at dksX1_handPoints_2 13 rfl rfl)
theorem dX1_handPoints_64 : decode cX1_handPoints 64 = .ok (.lload_n 2, 1) := dk_32 (dk_at dksX1_handPoints_2 16 rfl rfl)
theorem dX1_handPoints_65 : decode cX1_handPoints 65 = .ok (.aload_n 0, 1) := dk_42 (dk_at dksX1_handPoints_2 17 rfl rfl)
theorem dX1_handPoints_66 : decode cX1_handPoints 66 = .ok (.getfield 15, 3) := dk_180 0 15 (dk_at dksX1_handPoints_2 18 rfl rfl)
theorem dX1_handPoints_69 : decode cX1_handPoints 69 = .ok (.i2l, 1) := dk_133 (dk_at dksX1_handPoints_2 21 rfl rfl)
theorem dX1_handPoints_70 : decode cX1_handPoints 70 = .ok (.invokestatic 76, 3) := dk_184 0 76 (dk_at dksX1_handPoints_3 0 rfl rfl)
theorem dX1_handPoints_73 : decode cX1_handPoints 73 = .ok (.lreturn, 1) := dk_173 (dk_at dksX1_handPoints_3 3 rfl rfl)
abbrev cX1_like : ByteArray := prog_6_method_3_code
def yX1_like : MethodName := ⟨RX1, "like", "(LWholePacks$Desk;)LWholePacks$Desk;"⟩
def dkwX1_like_5 : List UInt8 := [16, 10, 184, 0, 50, 43, 180, 0, 37, 3, 42, 180, 0, 37, 3, 16, 24, 184, 0, 50, 42, 176]
abbrev dktX1_like_5 : List UInt8 := dkwX1_like_5 ++ []
def dkwX1_like_4 : List UInt8 := [180, 0, 31, 3, 42, 180, 0, 31, 3, 16, 8, 184, 0, 50, 43, 180, 0, 34, 3, 42, 180, 0, 34, 3]
abbrev dktX1_like_4 : List UInt8 := dkwX1_like_4 ++ dktX1_like_5
def dkwX1_like_3 : List UInt8 := [42, 180, 0, 27, 28, 50, 43, 180, 0, 27, 28, 50, 182, 0, 56, 132, 2, 1, 167, 255, 230, 43]
abbrev dktX1_like_3 : List UInt8 := dkwX1_like_3 ++ dktX1_like_4
def dkwX1_like_2 : List UInt8 := [43, 180, 0, 21, 3, 42, 180, 0, 21, 3, 8, 184, 0, 50, 3, 61, 28, 42, 180, 0, 41, 162, 0, 24]
abbrev dktX1_like_2 : List UInt8 := dkwX1_like_2 ++ dktX1_like_3
def dkwX1_like_1 : List UInt8 := [42, 43, 180, 0, 18, 181, 0, 18, 42, 43, 180, 0, 44, 181, 0, 44, 42, 43, 180, 0, 47, 181, 0, 47]
abbrev dktX1_like_1 : List UInt8 := dkwX1_like_1 ++ dktX1_like_2
def dkwX1_like_0 : List UInt8 := [42, 43, 180, 0, 9, 181, 0, 9, 42, 43, 180, 0, 41, 181, 0, 41, 42, 43, 180, 0, 15, 181, 0, 15]
abbrev dktX1_like_0 : List UInt8 := dkwX1_like_0 ++ dktX1_like_1
theorem dksX1_like_0 : cX1_like.data.toList.drop 0 = dktX1_like_0 := by decide +kernel
theorem dksX1_like_1 : cX1_like.data.toList.drop 24 = dktX1_like_1 := dk_seg dksX1_like_0 24 rfl rfl
theorem dksX1_like_2 : cX1_like.data.toList.drop 48 = dktX1_like_2 := dk_seg dksX1_like_1 24 rfl rfl
theorem dksX1_like_3 : cX1_like.data.toList.drop 72 = dktX1_like_3 := dk_seg dksX1_like_2 24 rfl rfl
theorem dksX1_like_4 : cX1_like.data.toList.drop 94 = dktX1_like_4 := dk_seg dksX1_like_3 22 rfl rfl
theorem dksX1_like_5 : cX1_like.data.toList.drop 118 = dktX1_like_5 := dk_seg dksX1_like_4 24 rfl rfl
theorem dX1_like_0 : decode cX1_like 0 = .ok (.aload_n 0, 1) := dk_42 (dk_at dksX1_like_0 0 rfl rfl)
theorem dX1_like_1 : decode cX1_like 1 = .ok (.aload_n 1, 1) := dk_43 (dk_at dksX1_like_0 1 rfl rfl)
theorem dX1_like_2 : decode cX1_like 2 = .ok (.getfield 9, 3) := dk_180 0 9 (dk_at dksX1_like_0 2 rfl rfl)
theorem dX1_like_5 : decode cX1_like 5 = .ok (.putfield 9, 3) := dk_181 0 9 (dk_at dksX1_like_0 5 rfl rfl)
theorem dX1_like_8 : decode cX1_like 8 = .ok (.aload_n 0, 1) := dk_42 (dk_at dksX1_like_0 8 rfl rfl)
theorem dX1_like_9 : decode cX1_like 9 = .ok (.aload_n 1, 1) := dk_43 (dk_at dksX1_like_0 9 rfl rfl)
theorem dX1_like_10 : decode cX1_like 10 = .ok (.getfield 41, 3) := dk_180 0 41 (dk_at dksX1_like_0 10 rfl rfl)
theorem dX1_like_13 : decode cX1_like 13 = .ok (.putfield 41, 3) := dk_181 0 41 (dk_at dksX1_like_0 13 rfl rfl)
theorem dX1_like_16 : decode cX1_like 16 = .ok (.aload_n 0, 1) := dk_42 (dk_at dksX1_like_0 16 rfl rfl)
theorem dX1_like_17 : decode cX1_like 17 = .ok (.aload_n 1, 1) := dk_43 (dk_at dksX1_like_0 17 rfl rfl)
theorem dX1_like_18 : decode cX1_like 18 = .ok (.getfield 15, 3) := dk_180 0 15 (dk_at dksX1_like_0 18 rfl rfl)
theorem dX1_like_21 : decode cX1_like 21 = .ok (.putfield 15, 3) := dk_181 0 15 (dk_at dksX1_like_0 21 rfl rfl)
theorem dX1_like_24 : decode cX1_like 24 = .ok (.aload_n 0, 1) := dk_42 (dk_at dksX1_like_1 0 rfl rfl)
theorem dX1_like_25 : decode cX1_like 25 = .ok (.aload_n 1, 1) := dk_43 (dk_at dksX1_like_1 1 rfl rfl)
theorem dX1_like_26 : decode cX1_like 26 = .ok (.getfield 18, 3) := dk_180 0 18 (dk_at dksX1_like_1 2 rfl rfl)
theorem dX1_like_29 : decode cX1_like 29 = .ok (.putfield 18, 3) := dk_181 0 18 (dk_at dksX1_like_1 5 rfl rfl)
theorem dX1_like_32 : decode cX1_like 32 = .ok (.aload_n 0, 1) := dk_42 (dk_at dksX1_like_1 8 rfl rfl)
theorem dX1_like_33 : decode cX1_like 33 = .ok (.aload_n 1, 1) := dk_43 (dk_at dksX1_like_1 9 rfl rfl)
theorem dX1_like_34 : decode cX1_like 34 = .ok (.getfield 44, 3) := dk_180 0 44 (dk_at dksX1_like_1 10 rfl rfl)
theorem dX1_like_37 : decode cX1_like 37 = .ok (.putfield 44, 3) := dk_181 0 44 (dk_at dksX1_like_1 13 rfl rfl)
theorem dX1_like_40 : decode cX1_like 40 = .ok (.aload_n 0, 1) := dk_42 (dk_at dksX1_like_1 16 rfl rfl)
theorem dX1_like_41 : decode cX1_like 41 = .ok (.aload_n 1, 1) := dk_43 (dk_at dksX1_like_1 17 rfl rfl)
theorem dX1_like_42 : decode cX1_like 42 = .ok (.getfield 47, 3) := dk_180 0 47 (dk_at dksX1_like_1 18 rfl rfl)
theorem dX1_like_45 : decode cX1_like 45 = .ok (.putfield 47, 3) := dk_181 0 47 (dk_at dksX1_like_1 21 rfl rfl)
theorem dX1_like_48 : decode cX1_like 48 = .ok (.aload_n 1, 1) := dk_43 (dk_at dksX1_like_2 0 rfl rfl)
theorem dX1_like_49 : decode cX1_like 49 = .ok (.getfield 21, 3) := dk_180 0 21 (dk_at dksX1_like_2 1 rfl rfl)
theorem dX1_like_52 : decode cX1_like 52 = .ok (.iconst 0, 1) := dk_3 (dk_at dksX1_like_2 4 rfl rfl)
theorem dX1_like_53 : decode cX1_like 53 = .ok (.aload_n 0, 1) := dk_42 (dk_at dksX1_like_2 5 rfl rfl)
theorem dX1_like_54 : decode cX1_like 54 = .ok (.getfield 21, 3) := dk_180 0 21 (dk_at dksX1_like_2 6 rfl rfl)
theorem dX1_like_57 : decode cX1_like 57 = .ok (.iconst 0, 1) := dk_3 (dk_at dksX1_like_2 9 rfl rfl)
theorem dX1_like_58 : decode cX1_like 58 = .ok (.iconst 5, 1) := dk_8 (dk_at dksX1_like_2 10 rfl rfl)
theorem dX1_like_59 : decode cX1_like 59 = .ok (.invokestatic 50, 3) := dk_184 0 50 (dk_at dksX1_like_2 11 rfl rfl)
theorem dX1_like_62 : decode cX1_like 62 = .ok (.iconst 0, 1) := dk_3 (dk_at dksX1_like_2 14 rfl rfl)
theorem dX1_like_63 : decode cX1_like 63 = .ok (.istore_n 2, 1) := dk_61 (dk_at dksX1_like_2 15 rfl rfl)
theorem dX1_like_64 : decode cX1_like 64 = .ok (.iload_n 2, 1) := dk_28 (dk_at dksX1_like_2 16 rfl rfl)
theorem dX1_like_65 : decode cX1_like 65 = .ok (.aload_n 0, 1) := dk_42 (dk_at dksX1_like_2 17 rfl rfl)
theorem dX1_like_66 : decode cX1_like 66 = .ok (.getfield 41, 3) := dk_180 0 41 (dk_at dksX1_like_2 18 rfl rfl)
theorem dX1_like_69 : decode cX1_like 69 = .ok (.if_icmp .ge 24, 3) := dk_162 0 24 (dk_at dksX1_like_2 21 rfl rfl)
theorem dX1_like_72 : decode cX1_like 72 = .ok (.aload_n 0, 1) := dk_42 (dk_at dksX1_like_3 0 rfl rfl)
theorem dX1_like_73 : decode cX1_like 73 = .ok (.getfield 27, 3) := dk_180 0 27 (dk_at dksX1_like_3 1 rfl rfl)
theorem dX1_like_76 : decode cX1_like 76 = .ok (.iload_n 2, 1) := dk_28 (dk_at dksX1_like_3 4 rfl rfl)
theorem dX1_like_77 : decode cX1_like 77 = .ok (.aaload, 1) := dk_50 (dk_at dksX1_like_3 5 rfl rfl)
theorem dX1_like_78 : decode cX1_like 78 = .ok (.aload_n 1, 1) := dk_43 (dk_at dksX1_like_3 6 rfl rfl)
theorem dX1_like_79 : decode cX1_like 79 = .ok (.getfield 27, 3) := dk_180 0 27 (dk_at dksX1_like_3 7 rfl rfl)
theorem dX1_like_82 : decode cX1_like 82 = .ok (.iload_n 2, 1) := dk_28 (dk_at dksX1_like_3 10 rfl rfl)
theorem dX1_like_83 : decode cX1_like 83 = .ok (.aaload, 1) := dk_50 (dk_at dksX1_like_3 11 rfl rfl)
theorem dX1_like_84 : decode cX1_like 84 = .ok (.invokevirtual 56, 3) := dk_182 0 56 (dk_at dksX1_like_3 12 rfl rfl)
theorem dX1_like_87 : decode cX1_like 87 = .ok (.iinc 2 1, 3) := dk_132 2 1 (dk_at dksX1_like_3 15 rfl rfl)
theorem dX1_like_90 : decode cX1_like 90 = .ok (.goto (-26), 3) := dk_167 255 230 (dk_at dksX1_like_3 18 rfl rfl)
theorem dX1_like_93 : decode cX1_like 93 = .ok (.aload_n 1, 1) := dk_43 (dk_at dksX1_like_3 21 rfl rfl)
theorem dX1_like_94 : decode cX1_like 94 = .ok (.getfield 31, 3) := dk_180 0 31 (dk_at dksX1_like_4 0 rfl rfl)
theorem dX1_like_97 : decode cX1_like 97 = .ok (.iconst 0, 1) := dk_3 (dk_at dksX1_like_4 3 rfl rfl)
theorem dX1_like_98 : decode cX1_like 98 = .ok (.aload_n 0, 1) := dk_42 (dk_at dksX1_like_4 4 rfl rfl)
theorem dX1_like_99 : decode cX1_like 99 = .ok (.getfield 31, 3) := dk_180 0 31 (dk_at dksX1_like_4 5 rfl rfl)
theorem dX1_like_102 : decode cX1_like 102 = .ok (.iconst 0, 1) := dk_3 (dk_at dksX1_like_4 8 rfl rfl)
theorem dX1_like_103 : decode cX1_like 103 = .ok (.bipush 8, 2) := dk_16 8 (dk_at dksX1_like_4 9 rfl rfl)
theorem dX1_like_105 : decode cX1_like 105 = .ok (.invokestatic 50, 3) := dk_184 0 50 (dk_at dksX1_like_4 11 rfl rfl)
theorem dX1_like_108 : decode cX1_like 108 = .ok (.aload_n 1, 1) := dk_43 (dk_at dksX1_like_4 14 rfl rfl)
theorem dX1_like_109 : decode cX1_like 109 = .ok (.getfield 34, 3) := dk_180 0 34 (dk_at dksX1_like_4 15 rfl rfl)
theorem dX1_like_112 : decode cX1_like 112 = .ok (.iconst 0, 1) := dk_3 (dk_at dksX1_like_4 18 rfl rfl)
theorem dX1_like_113 : decode cX1_like 113 = .ok (.aload_n 0, 1) := dk_42 (dk_at dksX1_like_4 19 rfl rfl)
theorem dX1_like_114 : decode cX1_like 114 = .ok (.getfield 34, 3) := dk_180 0 34 (dk_at dksX1_like_4 20 rfl rfl)
theorem dX1_like_117 : decode cX1_like 117 = .ok (.iconst 0, 1) := dk_3 (dk_at dksX1_like_4 23 rfl rfl)
theorem dX1_like_118 : decode cX1_like 118 = .ok (.bipush 10, 2) := dk_16 10 (dk_at dksX1_like_5 0 rfl rfl)
theorem dX1_like_120 : decode cX1_like 120 = .ok (.invokestatic 50, 3) := dk_184 0 50 (dk_at dksX1_like_5 2 rfl rfl)
theorem dX1_like_123 : decode cX1_like 123 = .ok (.aload_n 1, 1) := dk_43 (dk_at dksX1_like_5 5 rfl rfl)
theorem dX1_like_124 : decode cX1_like 124 = .ok (.getfield 37, 3) := dk_180 0 37 (dk_at dksX1_like_5 6 rfl rfl)
theorem dX1_like_127 : decode cX1_like 127 = .ok (.iconst 0, 1) := dk_3 (dk_at dksX1_like_5 9 rfl rfl)
theorem dX1_like_128 : decode cX1_like 128 = .ok (.aload_n 0, 1) := dk_42 (dk_at dksX1_like_5 10 rfl rfl)
theorem dX1_like_129 : decode cX1_like 129 = .ok (.getfield 37, 3) := dk_180 0 37 (dk_at dksX1_like_5 11 rfl rfl)
theorem dX1_like_132 : decode cX1_like 132 = .ok (.iconst 0, 1) := dk_3 (dk_at dksX1_like_5 14 rfl rfl)
theorem dX1_like_133 : decode cX1_like 133 = .ok (.bipush 24, 2) := dk_16 24 (dk_at dksX1_like_5 15 rfl rfl)
theorem dX1_like_135 : decode cX1_like 135 = .ok (.invokestatic 50, 3) := dk_184 0 50 (dk_at dksX1_like_5 17 rfl rfl)
theorem dX1_like_138 : decode cX1_like 138 = .ok (.aload_n 0, 1) := dk_42 (dk_at dksX1_like_5 20 rfl rfl)
theorem dX1_like_139 : decode cX1_like 139 = .ok (.areturn, 1) := dk_176 (dk_at dksX1_like_5 21 rfl rfl)
theorem q115 : (Jvm.Cond.initialized "WholePacks$Desk") ∈ lw_all := lw_g (lw_at lw_m1 2 rfl) rfl
theorem q162 : (Jvm.Cond.instantiable "WholePacks$Desk" (11 : Nat)) ∈ lw_all := lw_g (lw_at lw_m1 49 rfl) rfl
theorem q164 : (Jvm.Cond.instanceMethod ({ cls := "WholePacks$Desk", name := "<init>", desc := "()V" } : Jvm.MethodName)) ∈ lw_all := lw_g (lw_at lw_m1 51 rfl) rfl
theorem q165 : (Jvm.Cond.code ({ cls := "WholePacks$Desk", name := "<init>", desc := "()V" } : Jvm.MethodName) prog_6_method_1_code (2 : Nat) (Option.none : Option Jvm.ClassFile.FieldType)) ∈ lw_all := lw_g (lw_at lw_m1 52 rfl) rfl
theorem q166 : (Jvm.Cond.methodLink "WholePacks$Desk" (3 : Nat) ({ cls := "java/lang/Object", name := "<init>", desc := "()V" } : Jvm.MethodName)) ∈ lw_all := lw_g (lw_at lw_m1 53 rfl) rfl
theorem q167 : (Jvm.Cond.classLink "WholePacks$Desk" (25 : Nat) "WholePacks$Rule") ∈ lw_all := lw_g (lw_at lw_m1 54 rfl) rfl
theorem q170 : (Jvm.Cond.methodLinkNest "WholePacks$Desk" (40 : Nat) ({ cls := "WholePacks$Rule", name := "<init>", desc := "()V" } : Jvm.MethodName) "WholePacks") ∈ lw_tbl := lw_at lw_m1 57 rfl
theorem q191 : (Jvm.Cond.fieldLink "WholePacks$Desk" (9 : Nat) "WholePacks$Desk" "n" "I") ∈ lw_all := lw_g (lw_at lw_m1 78 rfl) rfl
theorem q194 : (Jvm.Cond.fieldLink "WholePacks$Desk" (41 : Nat) "WholePacks$Desk" "ruleMany" "I") ∈ lw_all := lw_g (lw_at lw_m1 81 rfl) rfl
theorem q197 : (Jvm.Cond.fieldLink "WholePacks$Desk" (15 : Nat) "WholePacks$Desk" "by" "I") ∈ lw_all := lw_g (lw_at lw_m1 84 rfl) rfl
theorem q199 : (Jvm.Cond.fieldLink "WholePacks$Desk" (18 : Nat) "WholePacks$Desk" "box" "I") ∈ lw_all := lw_g (lw_at lw_m1 86 rfl) rfl
theorem q201 : (Jvm.Cond.fieldLink "WholePacks$Desk" (44 : Nat) "WholePacks$Desk" "seenMany" "I") ∈ lw_all := lw_g (lw_at lw_m1 88 rfl) rfl
theorem q203 : (Jvm.Cond.fieldLink "WholePacks$Desk" (47 : Nat) "WholePacks$Desk" "planMany" "I") ∈ lw_all := lw_g (lw_at lw_m1 90 rfl) rfl
theorem q205 : (Jvm.Cond.fieldLink "WholePacks$Desk" (21 : Nat) "WholePacks$Desk" "costs" "[I") ∈ lw_all := lw_g (lw_at lw_m1 92 rfl) rfl
theorem q208 : (Jvm.Cond.fieldLink "WholePacks$Desk" (27 : Nat) "WholePacks$Desk" "rules" "[LWholePacks$Rule;") ∈ lw_all := lw_g (lw_at lw_m1 95 rfl) rfl
theorem q211 : (Jvm.Cond.fieldLink "WholePacks$Desk" (31 : Nat) "WholePacks$Desk" "hands" "[I") ∈ lw_all := lw_g (lw_at lw_m1 98 rfl) rfl
theorem q213 : (Jvm.Cond.fieldLink "WholePacks$Desk" (34 : Nat) "WholePacks$Desk" "seen" "[I") ∈ lw_all := lw_g (lw_at lw_m1 100 rfl) rfl
theorem q215 : (Jvm.Cond.fieldLink "WholePacks$Desk" (37 : Nat) "WholePacks$Desk" "plans" "[I") ∈ lw_all := lw_g (lw_at lw_m1 102 rfl) rfl
theorem q217 : (Jvm.Cond.lays "WholePacks$Desk" "WholePacks$Desk" "n" "I") ∈ lw_all := lw_g (lw_at lw_m1 104 rfl) rfl
theorem q218 : (Jvm.Cond.soleField "WholePacks$Desk" "n") ∈ lw_all := lw_g (lw_at lw_m1 105 rfl) rfl
theorem q219 : (Jvm.Cond.lays "WholePacks$Desk" "WholePacks$Desk" "ruleMany" "I") ∈ lw_all := lw_g (lw_at lw_m1 106 rfl) rfl
theorem q220 : (Jvm.Cond.soleField "WholePacks$Desk" "ruleMany") ∈ lw_all := lw_g (lw_at lw_m1 107 rfl) rfl
theorem q221 : (Jvm.Cond.lays "WholePacks$Desk" "WholePacks$Desk" "by" "I") ∈ lw_all := lw_g (lw_at lw_m1 108 rfl) rfl
theorem q222 : (Jvm.Cond.soleField "WholePacks$Desk" "by") ∈ lw_all := lw_g (lw_at lw_m1 109 rfl) rfl
theorem q223 : (Jvm.Cond.lays "WholePacks$Desk" "WholePacks$Desk" "box" "I") ∈ lw_all := lw_g (lw_at lw_m1 110 rfl) rfl
theorem q224 : (Jvm.Cond.soleField "WholePacks$Desk" "box") ∈ lw_all := lw_g (lw_at lw_m1 111 rfl) rfl
theorem q225 : (Jvm.Cond.lays "WholePacks$Desk" "WholePacks$Desk" "seenMany" "I") ∈ lw_all := lw_g (lw_at lw_m1 112 rfl) rfl
theorem q226 : (Jvm.Cond.soleField "WholePacks$Desk" "seenMany") ∈ lw_all := lw_g (lw_at lw_m1 113 rfl) rfl
theorem q227 : (Jvm.Cond.lays "WholePacks$Desk" "WholePacks$Desk" "planMany" "I") ∈ lw_all := lw_g (lw_at lw_m1 114 rfl) rfl
theorem q228 : (Jvm.Cond.soleField "WholePacks$Desk" "planMany") ∈ lw_all := lw_g (lw_at lw_m1 115 rfl) rfl
theorem q229 : (Jvm.Cond.laysFinal "WholePacks$Desk" "WholePacks$Desk" "costs" "[I") ∈ lw_all := lw_g (lw_at lw_m1 116 rfl) rfl
theorem q230 : (Jvm.Cond.soleField "WholePacks$Desk" "costs") ∈ lw_all := lw_g (lw_at lw_m1 117 rfl) rfl
theorem q231 : (Jvm.Cond.laysFinal "WholePacks$Desk" "WholePacks$Desk" "rules" "[LWholePacks$Rule;") ∈ lw_all := lw_g (lw_at lw_m1 118 rfl) rfl
theorem q232 : (Jvm.Cond.soleField "WholePacks$Desk" "rules") ∈ lw_all := lw_g (lw_at lw_m1 119 rfl) rfl
theorem q233 : (Jvm.Cond.laysFinal "WholePacks$Desk" "WholePacks$Desk" "hands" "[I") ∈ lw_all := lw_g (lw_at lw_m1 120 rfl) rfl
theorem q234 : (Jvm.Cond.soleField "WholePacks$Desk" "hands") ∈ lw_all := lw_g (lw_at lw_m1 121 rfl) rfl
theorem q235 : (Jvm.Cond.laysFinal "WholePacks$Desk" "WholePacks$Desk" "seen" "[I") ∈ lw_all := lw_g (lw_at lw_m1 122 rfl) rfl
theorem q236 : (Jvm.Cond.soleField "WholePacks$Desk" "seen") ∈ lw_all := lw_g (lw_at lw_m1 123 rfl) rfl
theorem q237 : (Jvm.Cond.laysFinal "WholePacks$Desk" "WholePacks$Desk" "plans" "[I") ∈ lw_all := lw_g (lw_at lw_m1 124 rfl) rfl
theorem q238 : (Jvm.Cond.soleField "WholePacks$Desk" "plans") ∈ lw_all := lw_g (lw_at lw_m1 125 rfl) rfl
theorem q239 : (Jvm.Cond.superclass "WholePacks$Desk" "java/lang/Object") ∈ lw_all := lw_g (lw_at lw_m1 126 rfl) rfl
theorem q427 : (Jvm.Cond.instanceMethod ({ cls := "WholePacks$Desk", name := "hasRule", desc := "(I)Z" } : Jvm.MethodName)) ∈ lw_all := lw_g (lw_at lw_m2 74 rfl) rfl
theorem q428 : (Jvm.Cond.selects "WholePacks$Desk" ({ cls := "WholePacks$Desk", name := "hasRule", desc := "(I)Z" } : Jvm.MethodName) ({ cls := "WholePacks$Desk", name := "hasRule", desc := "(I)Z" } : Jvm.MethodName)) ∈ lw_all := lw_g (lw_at lw_m2 75 rfl) rfl
theorem q429 : (Jvm.Cond.code ({ cls := "WholePacks$Desk", name := "hasRule", desc := "(I)Z" } : Jvm.MethodName) prog_6_method_5_code (2 : Nat) (Option.some Jvm.ClassFile.FieldType.boolean)) ∈ lw_all := lw_g (lw_at lw_m2 76 rfl) rfl
theorem q430 : (Jvm.Cond.methodLinkNest "WholePacks$Desk" (64 : Nat) ({ cls := "WholePacks", name := "in", desc := "(JJJ)Z" } : Jvm.MethodName) "WholePacks") ∈ lw_tbl := lw_at lw_m2 77 rfl
theorem q437 : (Jvm.Cond.instanceMethod ({ cls := "WholePacks$Desk", name := "hasPack", desc := "(I)Z" } : Jvm.MethodName)) ∈ lw_all := lw_g (lw_at lw_m2 84 rfl) rfl
theorem q438 : (Jvm.Cond.selects "WholePacks$Desk" ({ cls := "WholePacks$Desk", name := "hasPack", desc := "(I)Z" } : Jvm.MethodName) ({ cls := "WholePacks$Desk", name := "hasPack", desc := "(I)Z" } : Jvm.MethodName)) ∈ lw_all := lw_g (lw_at lw_m2 85 rfl) rfl
theorem q439 : (Jvm.Cond.code ({ cls := "WholePacks$Desk", name := "hasPack", desc := "(I)Z" } : Jvm.MethodName) prog_6_method_6_code (2 : Nat) (Option.some Jvm.ClassFile.FieldType.boolean)) ∈ lw_all := lw_g (lw_at lw_m2 86 rfl) rfl
theorem q581 : (Jvm.Cond.instanceMethod ({ cls := "WholePacks$Desk", name := "begins", desc := "(I)V" } : Jvm.MethodName)) ∈ lw_all := lw_g (lw_at lw_m2 228 rfl) rfl
theorem q582 : (Jvm.Cond.selects "WholePacks$Desk" ({ cls := "WholePacks$Desk", name := "begins", desc := "(I)V" } : Jvm.MethodName) ({ cls := "WholePacks$Desk", name := "begins", desc := "(I)V" } : Jvm.MethodName)) ∈ lw_all := lw_g (lw_at lw_m2 229 rfl) rfl
theorem q583 : (Jvm.Cond.code ({ cls := "WholePacks$Desk", name := "begins", desc := "(I)V" } : Jvm.MethodName) prog_6_method_2_code (3 : Nat) (Option.none : Option Jvm.ClassFile.FieldType)) ∈ lw_all := lw_g (lw_at lw_m2 230 rfl) rfl
theorem q604 : (Jvm.Cond.instanceMethod ({ cls := "WholePacks$Desk", name := "comes", desc := "(II)LWholePacks$Rule;" } : Jvm.MethodName)) ∈ lw_all := lw_g (lw_at lw_m3 11 rfl) rfl
theorem q605 : (Jvm.Cond.selects "WholePacks$Desk" ({ cls := "WholePacks$Desk", name := "comes", desc := "(II)LWholePacks$Rule;" } : Jvm.MethodName) ({ cls := "WholePacks$Desk", name := "comes", desc := "(II)LWholePacks$Rule;" } : Jvm.MethodName)) ∈ lw_all := lw_g (lw_at lw_m3 12 rfl) rfl
theorem q606 : (Jvm.Cond.code ({ cls := "WholePacks$Desk", name := "comes", desc := "(II)LWholePacks$Rule;" } : Jvm.MethodName) prog_6_method_4_code (4 : Nat) (Option.some (Jvm.ClassFile.FieldType.object "WholePacks$Rule"))) ∈ lw_all := lw_g (lw_at lw_m3 13 rfl) rfl
theorem q607 : (Jvm.Cond.methodLink "WholePacks$Desk" (60 : Nat) ({ cls := "WholePacks$Rule", name := "begins", desc := "(II)V" } : Jvm.MethodName)) ∈ lw_all := lw_g (lw_at lw_m3 14 rfl) rfl
theorem q969 : (Jvm.Cond.instanceMethod ({ cls := "WholePacks$Desk", name := "handPoints", desc := "(I)J" } : Jvm.MethodName)) ∈ lw_all := lw_g (lw_at lw_m4 136 rfl) rfl
theorem q970 : (Jvm.Cond.selects "WholePacks$Desk" ({ cls := "WholePacks$Desk", name := "handPoints", desc := "(I)J" } : Jvm.MethodName) ({ cls := "WholePacks$Desk", name := "handPoints", desc := "(I)J" } : Jvm.MethodName)) ∈ lw_all := lw_g (lw_at lw_m4 137 rfl) rfl
theorem q971 : (Jvm.Cond.code ({ cls := "WholePacks$Desk", name := "handPoints", desc := "(I)J" } : Jvm.MethodName) prog_6_method_7_code (5 : Nat) (Option.some Jvm.ClassFile.FieldType.long)) ∈ lw_all := lw_g (lw_at lw_m4 138 rfl) rfl
theorem q972 : (Jvm.Cond.methodLink "WholePacks$Desk" (68 : Nat) ({ cls := "WholePacks$Rule", name := "limit", desc := "()J" } : Jvm.MethodName)) ∈ lw_all := lw_g (lw_at lw_m4 139 rfl) rfl
theorem q973 : (Jvm.Cond.methodLink "WholePacks$Desk" (72 : Nat) ({ cls := "WholePacks$Rule", name := "points", desc := "(I)J" } : Jvm.MethodName)) ∈ lw_all := lw_g (lw_at lw_m4 140 rfl) rfl
theorem q974 : (Jvm.Cond.methodLink "WholePacks$Desk" (76 : Nat) ({ cls := "java/lang/Math", name := "floorDiv", desc := "(JJ)J" } : Jvm.MethodName)) ∈ lw_all := lw_g (lw_at lw_m4 141 rfl) rfl
theorem q1040 : (Jvm.Cond.selects "WholePacks$Desk" ({ cls := "java/lang/Object", name := "getClass", desc := "()Ljava/lang/Class;" } : Jvm.MethodName) ({ cls := "java/lang/Object", name := "getClass", desc := "()Ljava/lang/Class;" } : Jvm.MethodName)) ∈ lw_all := lw_g (lw_at lw_m4 207 rfl) rfl
theorem q1286 : (Jvm.Cond.instanceMethod ({ cls := "WholePacks$Desk", name := "like", desc := "(LWholePacks$Desk;)LWholePacks$Desk;" } : Jvm.MethodName)) ∈ lw_all := lw_g (lw_at lw_m5 213 rfl) rfl
theorem q1287 : (Jvm.Cond.selects "WholePacks$Desk" ({ cls := "WholePacks$Desk", name := "like", desc := "(LWholePacks$Desk;)LWholePacks$Desk;" } : Jvm.MethodName) ({ cls := "WholePacks$Desk", name := "like", desc := "(LWholePacks$Desk;)LWholePacks$Desk;" } : Jvm.MethodName)) ∈ lw_all := lw_g (lw_at lw_m5 214 rfl) rfl
theorem q1288 : (Jvm.Cond.code ({ cls := "WholePacks$Desk", name := "like", desc := "(LWholePacks$Desk;)LWholePacks$Desk;" } : Jvm.MethodName) prog_6_method_3_code (3 : Nat) (Option.some (Jvm.ClassFile.FieldType.object "WholePacks$Desk"))) ∈ lw_all := lw_g (lw_at lw_m5 215 rfl) rfl
theorem q1289 : (Jvm.Cond.methodLink "WholePacks$Desk" (50 : Nat) ({ cls := "java/lang/System", name := "arraycopy", desc := "(Ljava/lang/Object;ILjava/lang/Object;II)V" } : Jvm.MethodName)) ∈ lw_all := lw_g (lw_at lw_m5 216 rfl) rfl
theorem q1290 : (Jvm.Cond.methodLink "WholePacks$Desk" (56 : Nat) ({ cls := "WholePacks$Rule", name := "like", desc := "(LWholePacks$Rule;)V" } : Jvm.MethodName)) ∈ lw_all := lw_g (lw_at lw_m5 217 rfl) rfl
theorem q2406 : (Jvm.Cond.castable "WholePacks$Desk" "java/lang/Object") ∈ lw_tbl := lw_at lw_m10 133 rfl
theorem in_X1 : ∀ w ∈ wsX10, w ∈ lw_all := lw_in wsX10 [217, 219, 221, 223, 225, 227, 229, 231, 233, 235, 237] (by decide +kernel) (by decide +kernel)
/-! WholePacks$Rule -/
set_option maxRecDepth 100000
def RX2 : String := "WholePacks$Rule"
def TX2 : u_T := fun k => match k with
  | 0 => ("WholePacks$Rule", "sort", "I", false)
  | 1 => ("WholePacks$Rule", "bound", "I", false)
  | _ => ("WholePacks$Rule", "factors", "[I", true)
def tyX2 : Nat → FieldType := fun k => match k with
  | 0 => .int
  | 1 => .int
  | _ => .array .int
abbrev wsX20 : List Cond := u_ws RX2 TX2 3
theorem nmX2 : ∀ a, a < 3 → ∀ b, b < 3 → a ≠ b → (TX2 a).2.1 ≠ (TX2 b).2.1 := by decide +kernel
theorem tyX2_ok : ∀ k, k < 3 → parseFieldDescriptor (TX2 k).2.2.1 = some (tyX2 k) := by decide +kernel
abbrev cX2_init : ByteArray := prog_14_method_1_code
def yX2_init : MethodName := ⟨RX2, "<init>", "()V"⟩
def dkwX2_init_0 : List UInt8 := [42, 183, 0, 3, 42, 8, 188, 10, 181, 0, 9, 177]
abbrev dktX2_init_0 : List UInt8 := dkwX2_init_0 ++ []
theorem dksX2_init_0 : cX2_init.data.toList.drop 0 = dktX2_init_0 := by decide +kernel
theorem dX2_init_0 : decode cX2_init 0 = .ok (.aload_n 0, 1) := dk_42 (dk_at dksX2_init_0 0 rfl rfl)
theorem dX2_init_1 : decode cX2_init 1 = .ok (.invokespecial 3, 3) := dk_183 0 3 (dk_at dksX2_init_0 1 rfl rfl)
theorem dX2_init_4 : decode cX2_init 4 = .ok (.aload_n 0, 1) := dk_42 (dk_at dksX2_init_0 4 rfl rfl)
theorem dX2_init_5 : decode cX2_init 5 = .ok (.iconst 5, 1) := dk_8 (dk_at dksX2_init_0 5 rfl rfl)
theorem dX2_init_6 : decode cX2_init 6 = .ok (.newarray .int, 2) := dk_188_10 (dk_at dksX2_init_0 6 rfl rfl)
theorem dX2_init_8 : decode cX2_init 8 = .ok (.putfield 9, 3) := dk_181 0 9 (dk_at dksX2_init_0 8 rfl rfl)
theorem dX2_init_11 : decode cX2_init 11 = .ok (.return_, 1) := dk_177 (dk_at dksX2_init_0 11 rfl rfl)
abbrev cX2_begins : ByteArray := prog_14_method_2_code
def yX2_begins : MethodName := ⟨RX2, "begins", "(II)V"⟩
def dkwX2_begins_1 : List UInt8 := [132, 3, 1, 167, 255, 241, 177]
abbrev dktX2_begins_1 : List UInt8 := dkwX2_begins_1 ++ []
def dkwX2_begins_0 : List UInt8 := [42, 27, 181, 0, 15, 42, 28, 181, 0, 19, 3, 62, 29, 8, 162, 0, 16, 42, 180, 0, 9, 29, 3, 79]
abbrev dktX2_begins_0 : List UInt8 := dkwX2_begins_0 ++ dktX2_begins_1
theorem dksX2_begins_0 : cX2_begins.data.toList.drop 0 = dktX2_begins_0 := by decide +kernel
theorem dksX2_begins_1 : cX2_begins.data.toList.drop 24 = dktX2_begins_1 := dk_seg dksX2_begins_0 24 rfl rfl
theorem dX2_begins_0 : decode cX2_begins 0 = .ok (.aload_n 0, 1) := dk_42 (dk_at dksX2_begins_0 0 rfl rfl)
theorem dX2_begins_1 : decode cX2_begins 1 = .ok (.iload_n 1, 1) := dk_27 (dk_at dksX2_begins_0 1 rfl rfl)
theorem dX2_begins_2 : decode cX2_begins 2 = .ok (.putfield 15, 3) := dk_181 0 15 (dk_at dksX2_begins_0 2 rfl rfl)
theorem dX2_begins_5 : decode cX2_begins 5 = .ok (.aload_n 0, 1) := dk_42 (dk_at dksX2_begins_0 5 rfl rfl)
theorem dX2_begins_6 : decode cX2_begins 6 = .ok (.iload_n 2, 1) := dk_28 (dk_at dksX2_begins_0 6 rfl rfl)
theorem dX2_begins_7 : decode cX2_begins 7 = .ok (.putfield 19, 3) := dk_181 0 19 (dk_at dksX2_begins_0 7 rfl rfl)
theorem dX2_begins_10 : decode cX2_begins 10 = .ok (.iconst 0, 1) := dk_3 (dk_at dksX2_begins_0 10 rfl rfl)
theorem dX2_begins_11 : decode cX2_begins 11 = .ok (.istore_n 3, 1) := dk_62 (dk_at dksX2_begins_0 11 rfl rfl)
theorem dX2_begins_12 : decode cX2_begins 12 = .ok (.iload_n 3, 1) := dk_29 (dk_at dksX2_begins_0 12 rfl rfl)
theorem dX2_begins_13 : decode cX2_begins 13 = .ok (.iconst 5, 1) := dk_8 (dk_at dksX2_begins_0 13 rfl rfl)
theorem dX2_begins_14 : decode cX2_begins 14 = .ok (.if_icmp .ge 16, 3) := dk_162 0 16 (dk_at dksX2_begins_0 14 rfl rfl)
theorem dX2_begins_17 : decode cX2_begins 17 = .ok (.aload_n 0, 1) := dk_42 (dk_at dksX2_begins_0 17 rfl rfl)
theorem dX2_begins_18 : decode cX2_begins 18 = .ok (.getfield 9, 3) := dk_180 0 9 (dk_at dksX2_begins_0 18 rfl rfl)
theorem dX2_begins_21 : decode cX2_begins 21 = .ok (.iload_n 3, 1) := dk_29 (dk_at dksX2_begins_0 21 rfl rfl)
theorem dX2_begins_22 : decode cX2_begins 22 = .ok (.iconst 0, 1) := dk_3 (dk_at dksX2_begins_0 22 rfl rfl)
theorem dX2_begins_23 : decode cX2_begins 23 = .ok (.iastore, 1) := dk_79 (dk_at dksX2_begins_0 23 rfl rfl)
theorem dX2_begins_24 : decode cX2_begins 24 = .ok (.iinc 3 1, 3) := dk_132 3 1 (dk_at dksX2_begins_1 0 rfl rfl)
theorem dX2_begins_27 : decode cX2_begins 27 = .ok (.goto (-15), 3) := dk_167 255 241 (dk_at dksX2_begins_1 3 rfl rfl)
theorem dX2_begins_30 : decode cX2_begins 30 = .ok (.return_, 1) := dk_177 (dk_at dksX2_begins_1 6 rfl rfl)
abbrev cX2_like : ByteArray := prog_14_method_3_code
def yX2_like : MethodName := ⟨RX2, "like", "(LWholePacks$Rule;)V"⟩
def dkwX2_like_1 : List UInt8 := [180, 0, 9, 3, 8, 184, 0, 22, 177]
abbrev dktX2_like_1 : List UInt8 := dkwX2_like_1 ++ []
def dkwX2_like_0 : List UInt8 := [42, 43, 180, 0, 15, 181, 0, 15, 42, 43, 180, 0, 19, 181, 0, 19, 43, 180, 0, 9, 3, 42]
abbrev dktX2_like_0 : List UInt8 := dkwX2_like_0 ++ dktX2_like_1
theorem dksX2_like_0 : cX2_like.data.toList.drop 0 = dktX2_like_0 := by decide +kernel
theorem dksX2_like_1 : cX2_like.data.toList.drop 22 = dktX2_like_1 := dk_seg dksX2_like_0 22 rfl rfl
theorem dX2_like_0 : decode cX2_like 0 = .ok (.aload_n 0, 1) := dk_42 (dk_at dksX2_like_0 0 rfl rfl)
theorem dX2_like_1 : decode cX2_like 1 = .ok (.aload_n 1, 1) := dk_43 (dk_at dksX2_like_0 1 rfl rfl)
theorem dX2_like_2 : decode cX2_like 2 = .ok (.getfield 15, 3) := dk_180 0 15 (dk_at dksX2_like_0 2 rfl rfl)
theorem dX2_like_5 : decode cX2_like 5 = .ok (.putfield 15, 3) := dk_181 0 15 (dk_at dksX2_like_0 5 rfl rfl)
theorem dX2_like_8 : decode cX2_like 8 = .ok (.aload_n 0, 1) := dk_42 (dk_at dksX2_like_0 8 rfl rfl)
theorem dX2_like_9 : decode cX2_like 9 = .ok (.aload_n 1, 1) := dk_43 (dk_at dksX2_like_0 9 rfl rfl)
theorem dX2_like_10 : decode cX2_like 10 = .ok (.getfield 19, 3) := dk_180 0 19 (dk_at dksX2_like_0 10 rfl rfl)
theorem dX2_like_13 : decode cX2_like 13 = .ok (.putfield 19, 3) := dk_181 0 19 (dk_at dksX2_like_0 13 rfl rfl)
theorem dX2_like_16 : decode cX2_like 16 = .ok (.aload_n 1, 1) := dk_43 (dk_at dksX2_like_0 16 rfl rfl)
theorem dX2_like_17 : decode cX2_like 17 = .ok (.getfield 9, 3) := dk_180 0 9 (dk_at dksX2_like_0 17 rfl rfl)
theorem dX2_like_20 : decode cX2_like 20 = .ok (.iconst 0, 1) := dk_3 (dk_at dksX2_like_0 20 rfl rfl)
theorem dX2_like_21 : decode cX2_like 21 = .ok (.aload_n 0, 1) := dk_42 (dk_at dksX2_like_0 21 rfl rfl)
theorem dX2_like_22 : decode cX2_like 22 = .ok (.getfield 9, 3) := dk_180 0 9 (dk_at dksX2_like_1 0 rfl rfl)
theorem dX2_like_25 : decode cX2_like 25 = .ok (.iconst 0, 1) := dk_3 (dk_at dksX2_like_1 3 rfl rfl)
theorem dX2_like_26 : decode cX2_like 26 = .ok (.iconst 5, 1) := dk_8 (dk_at dksX2_like_1 4 rfl rfl)
theorem dX2_like_27 : decode cX2_like 27 = .ok (.invokestatic 22, 3) := dk_184 0 22 (dk_at dksX2_like_1 5 rfl rfl)
theorem dX2_like_30 : decode cX2_like 30 = .ok (.return_, 1) := dk_177 (dk_at dksX2_like_1 8 rfl rfl)
abbrev cX2_limit : ByteArray := prog_14_method_5_code
def yX2_limit : MethodName := ⟨RX2, "limit", "()J"⟩
def dkwX2_limit_0 : List UInt8 := [42, 180, 0, 15, 154, 0, 12, 42, 180, 0, 19, 116, 133, 167, 0, 8, 42, 180, 0, 19, 133, 173]
abbrev dktX2_limit_0 : List UInt8 := dkwX2_limit_0 ++ []
theorem dksX2_limit_0 : cX2_limit.data.toList.drop 0 = dktX2_limit_0 := by decide +kernel
theorem dX2_limit_0 : decode cX2_limit 0 = .ok (.aload_n 0, 1) := dk_42 (dk_at dksX2_limit_0 0 rfl rfl)
theorem dX2_limit_1 : decode cX2_limit 1 = .ok (.getfield 15, 3) := dk_180 0 15 (dk_at dksX2_limit_0 1 rfl rfl)
theorem dX2_limit_4 : decode cX2_limit 4 = .ok (.ifCond .ne 12, 3) := dk_154 0 12 (dk_at dksX2_limit_0 4 rfl rfl)
theorem dX2_limit_7 : decode cX2_limit 7 = .ok (.aload_n 0, 1) := dk_42 (dk_at dksX2_limit_0 7 rfl rfl)
theorem dX2_limit_8 : decode cX2_limit 8 = .ok (.getfield 19, 3) := dk_180 0 19 (dk_at dksX2_limit_0 8 rfl rfl)
theorem dX2_limit_11 : decode cX2_limit 11 = .ok (.ineg, 1) := dk_116 (dk_at dksX2_limit_0 11 rfl rfl)
theorem dX2_limit_12 : decode cX2_limit 12 = .ok (.i2l, 1) := dk_133 (dk_at dksX2_limit_0 12 rfl rfl)
theorem dX2_limit_13 : decode cX2_limit 13 = .ok (.goto 8, 3) := dk_167 0 8 (dk_at dksX2_limit_0 13 rfl rfl)
theorem dX2_limit_16 : decode cX2_limit 16 = .ok (.aload_n 0, 1) := dk_42 (dk_at dksX2_limit_0 16 rfl rfl)
theorem dX2_limit_17 : decode cX2_limit 17 = .ok (.getfield 19, 3) := dk_180 0 19 (dk_at dksX2_limit_0 17 rfl rfl)
theorem dX2_limit_20 : decode cX2_limit 20 = .ok (.i2l, 1) := dk_133 (dk_at dksX2_limit_0 20 rfl rfl)
theorem dX2_limit_21 : decode cX2_limit 21 = .ok (.lreturn, 1) := dk_173 (dk_at dksX2_limit_0 21 rfl rfl)
abbrev cX2_points : ByteArray := prog_14_method_4_code
def yX2_points : MethodName := ⟨RX2, "points", "(I)J"⟩
def dkwX2_points_1 : List UInt8 := [133, 173]
abbrev dktX2_points_1 : List UInt8 := dkwX2_points_1 ++ []
def dkwX2_points_0 : List UInt8 := [42, 180, 0, 15, 154, 0, 14, 42, 180, 0, 9, 27, 46, 116, 133, 167, 0, 10, 42, 180, 0, 9, 27, 46]
abbrev dktX2_points_0 : List UInt8 := dkwX2_points_0 ++ dktX2_points_1
theorem dksX2_points_0 : cX2_points.data.toList.drop 0 = dktX2_points_0 := by decide +kernel
theorem dksX2_points_1 : cX2_points.data.toList.drop 24 = dktX2_points_1 := dk_seg dksX2_points_0 24 rfl rfl
theorem dX2_points_0 : decode cX2_points 0 = .ok (.aload_n 0, 1) := dk_42 (dk_at dksX2_points_0 0 rfl rfl)
theorem dX2_points_1 : decode cX2_points 1 = .ok (.getfield 15, 3) := dk_180 0 15 (dk_at dksX2_points_0 1 rfl rfl)
theorem dX2_points_4 : decode cX2_points 4 = .ok (.ifCond .ne 14, 3) := dk_154 0 14 (dk_at dksX2_points_0 4 rfl rfl)
theorem dX2_points_7 : decode cX2_points 7 = .ok (.aload_n 0, 1) := dk_42 (dk_at dksX2_points_0 7 rfl rfl)
theorem dX2_points_8 : decode cX2_points 8 = .ok (.getfield 9, 3) := dk_180 0 9 (dk_at dksX2_points_0 8 rfl rfl)
theorem dX2_points_11 : decode cX2_points 11 = .ok (.iload_n 1, 1) := dk_27 (dk_at dksX2_points_0 11 rfl rfl)
theorem dX2_points_12 : decode cX2_points 12 = .ok (.iaload, 1) := dk_46 (dk_at dksX2_points_0 12 rfl rfl)
theorem dX2_points_13 : decode cX2_points 13 = .ok (.ineg, 1) := dk_116 (dk_at dksX2_points_0 13 rfl rfl)
theorem dX2_points_14 : decode cX2_points 14 = .ok (.i2l, 1) := dk_133 (dk_at dksX2_points_0 14 rfl rfl)
theorem dX2_points_15 : decode cX2_points 15 = .ok (.goto 10, 3) := dk_167 0 10 (dk_at dksX2_points_0 15 rfl rfl)
theorem dX2_points_18 : decode cX2_points 18 = .ok (.aload_n 0, 1) := dk_42 (dk_at dksX2_points_0 18 rfl rfl)
theorem dX2_points_19 : decode cX2_points 19 = .ok (.getfield 9, 3) := dk_180 0 9 (dk_at dksX2_points_0 19 rfl rfl)
theorem dX2_points_22 : decode cX2_points 22 = .ok (.iload_n 1, 1) := dk_27 (dk_at dksX2_points_0 22 rfl rfl)
theorem dX2_points_23 : decode cX2_points 23 = .ok (.iaload, 1) := dk_46 (dk_at dksX2_points_0 23 rfl rfl)
theorem dX2_points_24 : decode cX2_points 24 = .ok (.i2l, 1) := dk_133 (dk_at dksX2_points_1 0 rfl rfl)
theorem dX2_points_25 : decode cX2_points 25 = .ok (.lreturn, 1) := dk_173 (dk_at dksX2_points_1 1 rfl rfl)
theorem q116 : (Jvm.Cond.initialized "WholePacks$Rule") ∈ lw_all := lw_g (lw_at lw_m1 3 rfl) rfl
theorem q169 : (Jvm.Cond.instantiable "WholePacks$Rule" (3 : Nat)) ∈ lw_all := lw_g (lw_at lw_m1 56 rfl) rfl
theorem q171 : (Jvm.Cond.instanceMethod ({ cls := "WholePacks$Rule", name := "<init>", desc := "()V" } : Jvm.MethodName)) ∈ lw_all := lw_g (lw_at lw_m1 58 rfl) rfl
theorem q172 : (Jvm.Cond.code ({ cls := "WholePacks$Rule", name := "<init>", desc := "()V" } : Jvm.MethodName) prog_14_method_1_code (1 : Nat) (Option.none : Option Jvm.ClassFile.FieldType)) ∈ lw_all := lw_g (lw_at lw_m1 59 rfl) rfl
theorem q173 : (Jvm.Cond.methodLink "WholePacks$Rule" (3 : Nat) ({ cls := "java/lang/Object", name := "<init>", desc := "()V" } : Jvm.MethodName)) ∈ lw_all := lw_g (lw_at lw_m1 60 rfl) rfl
theorem q174 : (Jvm.Cond.fieldLink "WholePacks$Rule" (15 : Nat) "WholePacks$Rule" "sort" "I") ∈ lw_all := lw_g (lw_at lw_m1 61 rfl) rfl
theorem q177 : (Jvm.Cond.fieldLink "WholePacks$Rule" (19 : Nat) "WholePacks$Rule" "bound" "I") ∈ lw_all := lw_g (lw_at lw_m1 64 rfl) rfl
theorem q180 : (Jvm.Cond.fieldLink "WholePacks$Rule" (9 : Nat) "WholePacks$Rule" "factors" "[I") ∈ lw_all := lw_g (lw_at lw_m1 67 rfl) rfl
theorem q183 : (Jvm.Cond.lays "WholePacks$Rule" "WholePacks$Rule" "sort" "I") ∈ lw_all := lw_g (lw_at lw_m1 70 rfl) rfl
theorem q184 : (Jvm.Cond.soleField "WholePacks$Rule" "sort") ∈ lw_all := lw_g (lw_at lw_m1 71 rfl) rfl
theorem q185 : (Jvm.Cond.lays "WholePacks$Rule" "WholePacks$Rule" "bound" "I") ∈ lw_all := lw_g (lw_at lw_m1 72 rfl) rfl
theorem q186 : (Jvm.Cond.soleField "WholePacks$Rule" "bound") ∈ lw_all := lw_g (lw_at lw_m1 73 rfl) rfl
theorem q187 : (Jvm.Cond.laysFinal "WholePacks$Rule" "WholePacks$Rule" "factors" "[I") ∈ lw_all := lw_g (lw_at lw_m1 74 rfl) rfl
theorem q188 : (Jvm.Cond.soleField "WholePacks$Rule" "factors") ∈ lw_all := lw_g (lw_at lw_m1 75 rfl) rfl
theorem q189 : (Jvm.Cond.superclass "WholePacks$Rule" "java/lang/Object") ∈ lw_all := lw_g (lw_at lw_m1 76 rfl) rfl
theorem q608 : (Jvm.Cond.instanceMethod ({ cls := "WholePacks$Rule", name := "begins", desc := "(II)V" } : Jvm.MethodName)) ∈ lw_all := lw_g (lw_at lw_m3 15 rfl) rfl
theorem q609 : (Jvm.Cond.selects "WholePacks$Rule" ({ cls := "WholePacks$Rule", name := "begins", desc := "(II)V" } : Jvm.MethodName) ({ cls := "WholePacks$Rule", name := "begins", desc := "(II)V" } : Jvm.MethodName)) ∈ lw_all := lw_g (lw_at lw_m3 16 rfl) rfl
theorem q610 : (Jvm.Cond.code ({ cls := "WholePacks$Rule", name := "begins", desc := "(II)V" } : Jvm.MethodName) prog_14_method_2_code (4 : Nat) (Option.none : Option Jvm.ClassFile.FieldType)) ∈ lw_all := lw_g (lw_at lw_m3 17 rfl) rfl
theorem q757 : (Jvm.Cond.instanceMethod ({ cls := "WholePacks$Rule", name := "like", desc := "(LWholePacks$Rule;)V" } : Jvm.MethodName)) ∈ lw_all := lw_g (lw_at lw_m3 164 rfl) rfl
theorem q758 : (Jvm.Cond.selects "WholePacks$Rule" ({ cls := "WholePacks$Rule", name := "like", desc := "(LWholePacks$Rule;)V" } : Jvm.MethodName) ({ cls := "WholePacks$Rule", name := "like", desc := "(LWholePacks$Rule;)V" } : Jvm.MethodName)) ∈ lw_all := lw_g (lw_at lw_m3 165 rfl) rfl
theorem q759 : (Jvm.Cond.code ({ cls := "WholePacks$Rule", name := "like", desc := "(LWholePacks$Rule;)V" } : Jvm.MethodName) prog_14_method_3_code (2 : Nat) (Option.none : Option Jvm.ClassFile.FieldType)) ∈ lw_all := lw_g (lw_at lw_m3 166 rfl) rfl
theorem q760 : (Jvm.Cond.methodLink "WholePacks$Rule" (22 : Nat) ({ cls := "java/lang/System", name := "arraycopy", desc := "(Ljava/lang/Object;ILjava/lang/Object;II)V" } : Jvm.MethodName)) ∈ lw_all := lw_g (lw_at lw_m3 167 rfl) rfl
theorem q782 : (Jvm.Cond.instanceMethod ({ cls := "WholePacks$Rule", name := "limit", desc := "()J" } : Jvm.MethodName)) ∈ lw_all := lw_g (lw_at lw_m3 189 rfl) rfl
theorem q783 : (Jvm.Cond.selects "WholePacks$Rule" ({ cls := "WholePacks$Rule", name := "limit", desc := "()J" } : Jvm.MethodName) ({ cls := "WholePacks$Rule", name := "limit", desc := "()J" } : Jvm.MethodName)) ∈ lw_all := lw_g (lw_at lw_m3 190 rfl) rfl
theorem q784 : (Jvm.Cond.code ({ cls := "WholePacks$Rule", name := "limit", desc := "()J" } : Jvm.MethodName) prog_14_method_5_code (1 : Nat) (Option.some Jvm.ClassFile.FieldType.long)) ∈ lw_all := lw_g (lw_at lw_m3 191 rfl) rfl
theorem q790 : (Jvm.Cond.instanceMethod ({ cls := "WholePacks$Rule", name := "points", desc := "(I)J" } : Jvm.MethodName)) ∈ lw_all := lw_g (lw_at lw_m3 197 rfl) rfl
theorem q791 : (Jvm.Cond.selects "WholePacks$Rule" ({ cls := "WholePacks$Rule", name := "points", desc := "(I)J" } : Jvm.MethodName) ({ cls := "WholePacks$Rule", name := "points", desc := "(I)J" } : Jvm.MethodName)) ∈ lw_all := lw_g (lw_at lw_m3 198 rfl) rfl
theorem q792 : (Jvm.Cond.code ({ cls := "WholePacks$Rule", name := "points", desc := "(I)J" } : Jvm.MethodName) prog_14_method_4_code (2 : Nat) (Option.some Jvm.ClassFile.FieldType.long)) ∈ lw_all := lw_g (lw_at lw_m3 199 rfl) rfl
theorem q1046 : (Jvm.Cond.selects "WholePacks$Rule" ({ cls := "java/lang/Object", name := "getClass", desc := "()Ljava/lang/Class;" } : Jvm.MethodName) ({ cls := "java/lang/Object", name := "getClass", desc := "()Ljava/lang/Class;" } : Jvm.MethodName)) ∈ lw_all := lw_g (lw_at lw_m4 213 rfl) rfl
theorem q2397 : (Jvm.Cond.castable "WholePacks$Rule" "java/lang/Object") ∈ lw_tbl := lw_at lw_m10 124 rfl
theorem in_X2 : ∀ w ∈ wsX20, w ∈ lw_all := lw_in wsX20 [183, 185, 187] (by decide +kernel) (by decide +kernel)
/-! WholePacks$Cut -/
set_option maxRecDepth 100000
def RX4 : String := "WholePacks$Cut"
def TX4 : u_T := fun k => match k with
  | 0 => ("WholePacks$Cut", "points", "[J", true)
  | 1 => ("WholePacks$Cut", "limit", "J", false)
  | 2 => ("WholePacks$Cut", "below", "J", false)
  | _ => ("WholePacks$Cut", "weights", "[J", true)
def tyX4 : Nat → FieldType := fun k => match k with
  | 0 => .array .long
  | 1 => .long
  | 2 => .long
  | _ => .array .long
abbrev wsX40 : List Cond := u_ws RX4 TX4 4
theorem nmX4 : ∀ a, a < 4 → ∀ b, b < 4 → a ≠ b → (TX4 a).2.1 ≠ (TX4 b).2.1 := by decide +kernel
theorem tyX4_ok : ∀ k, k < 4 → parseFieldDescriptor (TX4 k).2.2.1 = some (tyX4 k) := by decide +kernel
abbrev cX4_init : ByteArray := prog_4_method_1_code
def yX4_init : MethodName := ⟨RX4, "<init>", "()V"⟩
def dkwX4_init_0 : List UInt8 := [42, 183, 0, 3, 42, 8, 188, 11, 181, 0, 9, 42, 16, 20, 188, 11, 181, 0, 15, 177]
abbrev dktX4_init_0 : List UInt8 := dkwX4_init_0 ++ []
theorem dksX4_init_0 : cX4_init.data.toList.drop 0 = dktX4_init_0 := by decide +kernel
theorem dX4_init_0 : decode cX4_init 0 = .ok (.aload_n 0, 1) := dk_42 (dk_at dksX4_init_0 0 rfl rfl)
theorem dX4_init_1 : decode cX4_init 1 = .ok (.invokespecial 3, 3) := dk_183 0 3 (dk_at dksX4_init_0 1 rfl rfl)
theorem dX4_init_4 : decode cX4_init 4 = .ok (.aload_n 0, 1) := dk_42 (dk_at dksX4_init_0 4 rfl rfl)
theorem dX4_init_5 : decode cX4_init 5 = .ok (.iconst 5, 1) := dk_8 (dk_at dksX4_init_0 5 rfl rfl)
theorem dX4_init_6 : decode cX4_init 6 = .ok (.newarray .long, 2) := dk_188_11 (dk_at dksX4_init_0 6 rfl rfl)
theorem dX4_init_8 : decode cX4_init 8 = .ok (.putfield 9, 3) := dk_181 0 9 (dk_at dksX4_init_0 8 rfl rfl)
theorem dX4_init_11 : decode cX4_init 11 = .ok (.aload_n 0, 1) := dk_42 (dk_at dksX4_init_0 11 rfl rfl)
theorem dX4_init_12 : decode cX4_init 12 = .ok (.bipush 20, 2) := dk_16 20 (dk_at dksX4_init_0 12 rfl rfl)
theorem dX4_init_14 : decode cX4_init 14 = .ok (.newarray .long, 2) := dk_188_11 (dk_at dksX4_init_0 14 rfl rfl)
theorem dX4_init_16 : decode cX4_init 16 = .ok (.putfield 15, 3) := dk_181 0 15 (dk_at dksX4_init_0 16 rfl rfl)
theorem dX4_init_19 : decode cX4_init 19 = .ok (.return_, 1) := dk_177 (dk_at dksX4_init_0 19 rfl rfl)
abbrev cX4_begins : ByteArray := prog_4_method_2_code
def yX4_begins : MethodName := ⟨RX4, "begins", "()V"⟩
def dkwX4_begins_2 : List UInt8 := [177]
abbrev dktX4_begins_2 : List UInt8 := dkwX4_begins_2 ++ []
def dkwX4_begins_1 : List UInt8 := [167, 255, 241, 3, 60, 27, 16, 20, 162, 0, 16, 42, 180, 0, 15, 27, 9, 80, 132, 1, 1, 167, 255, 240]
abbrev dktX4_begins_1 : List UInt8 := dkwX4_begins_1 ++ dktX4_begins_2
def dkwX4_begins_0 : List UInt8 := [42, 9, 181, 0, 18, 3, 60, 27, 8, 162, 0, 16, 42, 180, 0, 9, 27, 9, 80, 132, 1, 1]
abbrev dktX4_begins_0 : List UInt8 := dkwX4_begins_0 ++ dktX4_begins_1
theorem dksX4_begins_0 : cX4_begins.data.toList.drop 0 = dktX4_begins_0 := by decide +kernel
theorem dksX4_begins_1 : cX4_begins.data.toList.drop 22 = dktX4_begins_1 := dk_seg dksX4_begins_0 22 rfl rfl
theorem dksX4_begins_2 : cX4_begins.data.toList.drop 46 = dktX4_begins_2 := dk_seg dksX4_begins_1 24 rfl rfl
theorem dX4_begins_0 : decode cX4_begins 0 = .ok (.aload_n 0, 1) := dk_42 (dk_at dksX4_begins_0 0 rfl rfl)
theorem dX4_begins_1 : decode cX4_begins 1 = .ok (.lconst 0, 1) := dk_9 (dk_at dksX4_begins_0 1 rfl rfl)
theorem dX4_begins_2 : decode cX4_begins 2 = .ok (.putfield 18, 3) := dk_181 0 18 (dk_at dksX4_begins_0 2 rfl rfl)
theorem dX4_begins_5 : decode cX4_begins 5 = .ok (.iconst 0, 1) := dk_3 (dk_at dksX4_begins_0 5 rfl rfl)
theorem dX4_begins_6 : decode cX4_begins 6 = .ok (.istore_n 1, 1) := dk_60 (dk_at dksX4_begins_0 6 rfl rfl)
theorem dX4_begins_7 : decode cX4_begins 7 = .ok (.iload_n 1, 1) := dk_27 (dk_at dksX4_begins_0 7 rfl rfl)
theorem dX4_begins_8 : decode cX4_begins 8 = .ok (.iconst 5, 1) := dk_8 (dk_at dksX4_begins_0 8 rfl rfl)
theorem dX4_begins_9 : decode cX4_begins 9 = .ok (.if_icmp .ge 16, 3) := dk_162 0 16 (dk_at dksX4_begins_0 9 rfl rfl)
theorem dX4_begins_12 : decode cX4_begins 12 = .ok (.aload_n 0, 1) := dk_42 (dk_at dksX4_begins_0 12 rfl rfl)
theorem dX4_begins_13 : decode cX4_begins 13 = .ok (.getfield 9, 3) := dk_180 0 9 (dk_at dksX4_begins_0 13 rfl rfl)
theorem dX4_begins_16 : decode cX4_begins 16 = .ok (.iload_n 1, 1) := dk_27 (dk_at dksX4_begins_0 16 rfl rfl)
theorem dX4_begins_17 : decode cX4_begins 17 = .ok (.lconst 0, 1) := dk_9 (dk_at dksX4_begins_0 17 rfl rfl)
theorem dX4_begins_18 : decode cX4_begins 18 = .ok (.lastore, 1) := dk_80 (dk_at dksX4_begins_0 18 rfl rfl)
theorem dX4_begins_19 : decode cX4_begins 19 = .ok (.iinc 1 1, 3) := dk_132 1 1 (dk_at dksX4_begins_0 19 rfl rfl)
theorem dX4_begins_22 : decode cX4_begins 22 = .ok (.goto (-15), 3) := dk_167 255 241 (dk_at dksX4_begins_1 0 rfl rfl)
theorem dX4_begins_25 : decode cX4_begins 25 = .ok (.iconst 0, 1) := dk_3 (dk_at dksX4_begins_1 3 rfl rfl)
theorem dX4_begins_26 : decode cX4_begins 26 = .ok (.istore_n 1, 1) := dk_60 (dk_at dksX4_begins_1 4 rfl rfl)
theorem dX4_begins_27 : decode cX4_begins 27 = .ok (.iload_n 1, 1) := dk_27 (dk_at dksX4_begins_1 5 rfl rfl)
theorem dX4_begins_28 : decode cX4_begins 28 = .ok (.bipush 20, 2) := dk_16 20 (dk_at dksX4_begins_1 6 rfl rfl)
theorem dX4_begins_30 : decode cX4_begins 30 = .ok (.if_icmp .ge 16, 3) := dk_162 0 16 (dk_at dksX4_begins_1 8 rfl rfl)
theorem dX4_begins_33 : decode cX4_begins 33 = .ok (.aload_n 0, 1) := dk_42 (dk_at dksX4_begins_1 11 rfl rfl)
theorem dX4_begins_34 : decode cX4_begins 34 = .ok (.getfield 15, 3) := dk_180 0 15 (dk_at dksX4_begins_1 12 rfl rfl)
theorem dX4_begins_37 : decode cX4_begins 37 = .ok (.iload_n 1, 1) := dk_27 (dk_at dksX4_begins_1 15 rfl rfl)
theorem dX4_begins_38 : decode cX4_begins 38 = .ok (.lconst 0, 1) := dk_9 (dk_at dksX4_begins_1 16 rfl rfl)
theorem dX4_begins_39 : decode cX4_begins 39 = .ok (.lastore, 1) := dk_80 (dk_at dksX4_begins_1 17 rfl rfl)
theorem dX4_begins_40 : decode cX4_begins 40 = .ok (.iinc 1 1, 3) := dk_132 1 1 (dk_at dksX4_begins_1 18 rfl rfl)
theorem dX4_begins_43 : decode cX4_begins 43 = .ok (.goto (-16), 3) := dk_167 255 240 (dk_at dksX4_begins_1 21 rfl rfl)
theorem dX4_begins_46 : decode cX4_begins 46 = .ok (.return_, 1) := dk_177 (dk_at dksX4_begins_2 0 rfl rfl)
abbrev cX4_gets : ByteArray := prog_4_method_3_code
def yX4_gets : MethodName := ⟨RX4, "gets", "(JIJ)V"⟩
def dkwX4_gets_0 : List UInt8 := [42, 180, 0, 9, 29, 92, 47, 31, 22, 4, 105, 97, 80, 177]
abbrev dktX4_gets_0 : List UInt8 := dkwX4_gets_0 ++ []
theorem dksX4_gets_0 : cX4_gets.data.toList.drop 0 = dktX4_gets_0 := by decide +kernel
theorem dX4_gets_0 : decode cX4_gets 0 = .ok (.aload_n 0, 1) := dk_42 (dk_at dksX4_gets_0 0 rfl rfl)
theorem dX4_gets_1 : decode cX4_gets 1 = .ok (.getfield 9, 3) := dk_180 0 9 (dk_at dksX4_gets_0 1 rfl rfl)
theorem dX4_gets_4 : decode cX4_gets 4 = .ok (.iload_n 3, 1) := dk_29 (dk_at dksX4_gets_0 4 rfl rfl)
theorem dX4_gets_5 : decode cX4_gets 5 = .ok (.dup2, 1) := dk_92 (dk_at dksX4_gets_0 5 rfl rfl)
theorem dX4_gets_6 : decode cX4_gets 6 = .ok (.laload, 1) := dk_47 (dk_at dksX4_gets_0 6 rfl rfl)
theorem dX4_gets_7 : decode cX4_gets 7 = .ok (.lload_n 1, 1) := dk_31 (dk_at dksX4_gets_0 7 rfl rfl)
theorem dX4_gets_8 : decode cX4_gets 8 = .ok (.lload 4, 2) := dk_22 4 (dk_at dksX4_gets_0 8 rfl rfl)
theorem dX4_gets_10 : decode cX4_gets 10 = .ok (.lmul, 1) := dk_105 (dk_at dksX4_gets_0 10 rfl rfl)
theorem dX4_gets_11 : decode cX4_gets 11 = .ok (.ladd, 1) := dk_97 (dk_at dksX4_gets_0 11 rfl rfl)
theorem dX4_gets_12 : decode cX4_gets 12 = .ok (.lastore, 1) := dk_80 (dk_at dksX4_gets_0 12 rfl rfl)
theorem dX4_gets_13 : decode cX4_gets 13 = .ok (.return_, 1) := dk_177 (dk_at dksX4_gets_0 13 rfl rfl)
abbrev cX4_isSmall : ByteArray := prog_4_method_4_code
def yX4_isSmall : MethodName := ⟨RX4, "isSmall", "()Z"⟩
def dkwX4_isSmall_2 : List UInt8 := [167, 0, 4, 3, 60, 132, 2, 1, 167, 255, 220, 27, 172]
abbrev dktX4_isSmall_2 : List UInt8 := dkwX4_isSmall_2 ++ []
def dkwX4_isSmall_1 : List UInt8 := [153, 0, 25, 42, 180, 0, 9, 28, 47, 20, 0, 22, 20, 0, 24, 184, 0, 26, 153, 0, 7, 4]
abbrev dktX4_isSmall_1 : List UInt8 := dkwX4_isSmall_1 ++ dktX4_isSmall_2
def dkwX4_isSmall_0 : List UInt8 := [42, 180, 0, 18, 20, 0, 22, 20, 0, 24, 184, 0, 26, 60, 3, 61, 28, 8, 162, 0, 37, 27]
abbrev dktX4_isSmall_0 : List UInt8 := dkwX4_isSmall_0 ++ dktX4_isSmall_1
theorem dksX4_isSmall_0 : cX4_isSmall.data.toList.drop 0 = dktX4_isSmall_0 := by decide +kernel
theorem dksX4_isSmall_1 : cX4_isSmall.data.toList.drop 22 = dktX4_isSmall_1 := dk_seg dksX4_isSmall_0 22 rfl rfl
theorem dksX4_isSmall_2 : cX4_isSmall.data.toList.drop 44 = dktX4_isSmall_2 := dk_seg dksX4_isSmall_1 22 rfl rfl
theorem dX4_isSmall_0 : decode cX4_isSmall 0 = .ok (.aload_n 0, 1) := dk_42 (dk_at dksX4_isSmall_0 0 rfl rfl)
theorem dX4_isSmall_1 : decode cX4_isSmall 1 = .ok (.getfield 18, 3) := dk_180 0 18 (dk_at dksX4_isSmall_0 1 rfl rfl)
theorem dX4_isSmall_4 : decode cX4_isSmall 4 = .ok (.ldc2_w 22, 3) := dk_20 0 22 (dk_at dksX4_isSmall_0 4 rfl rfl)
theorem dX4_isSmall_7 : decode cX4_isSmall 7 = .ok (.ldc2_w 24, 3) := dk_20 0 24 (dk_at dksX4_isSmall_0 7 rfl rfl)
theorem dX4_isSmall_10 : decode cX4_isSmall 10 = .ok (.invokestatic 26, 3) := dk_184 0 26 (dk_at dksX4_isSmall_0 10 rfl rfl)
theorem dX4_isSmall_13 : decode cX4_isSmall 13 = .ok (.istore_n 1, 1) := dk_60 (dk_at dksX4_isSmall_0 13 rfl rfl)
theorem dX4_isSmall_14 : decode cX4_isSmall 14 = .ok (.iconst 0, 1) := dk_3 (dk_at dksX4_isSmall_0 14 rfl rfl)
theorem dX4_isSmall_15 : decode cX4_isSmall 15 = .ok (.istore_n 2, 1) := dk_61 (dk_at dksX4_isSmall_0 15 rfl rfl)
theorem dX4_isSmall_16 : decode cX4_isSmall 16 = .ok (.iload_n 2, 1) := dk_28 (dk_at dksX4_isSmall_0 16 rfl rfl)
theorem dX4_isSmall_17 : decode cX4_isSmall 17 = .ok (.iconst 5, 1) := dk_8 (dk_at dksX4_isSmall_0 17 rfl rfl)
theorem dX4_isSmall_18 : decode cX4_isSmall 18 = .ok (.if_icmp .ge 37, 3) := dk_162 0 37 (dk_at dksX4_isSmall_0 18 rfl rfl)
theorem dX4_isSmall_21 : decode cX4_isSmall 21 = .ok (.iload_n 1, 1) := dk_27 (dk_at dksX4_isSmall_0 21 rfl rfl)
theorem dX4_isSmall_22 : decode cX4_isSmall 22 = .ok (.ifCond .eq 25, 3) := dk_153 0 25 (dk_at dksX4_isSmall_1 0 rfl rfl)
theorem dX4_isSmall_25 : decode cX4_isSmall 25 = .ok (.aload_n 0, 1) := dk_42 (dk_at dksX4_isSmall_1 3 rfl rfl)
theorem dX4_isSmall_26 : decode cX4_isSmall 26 = .ok (.getfield 9, 3) := dk_180 0 9 (dk_at dksX4_isSmall_1 4 rfl rfl)
theorem dX4_isSmall_29 : decode cX4_isSmall 29 = .ok (.iload_n 2, 1) := dk_28 (dk_at dksX4_isSmall_1 7 rfl rfl)
theorem dX4_isSmall_30 : decode cX4_isSmall 30 = .ok (.laload, 1) := dk_47 (dk_at dksX4_isSmall_1 8 rfl rfl)
theorem dX4_isSmall_31 : decode cX4_isSmall 31 = .ok (.ldc2_w 22, 3) := dk_20 0 22 (dk_at dksX4_isSmall_1 9 rfl rfl)
theorem dX4_isSmall_34 : decode cX4_isSmall 34 = .ok (.ldc2_w 24, 3) := dk_20 0 24 (dk_at dksX4_isSmall_1 12 rfl rfl)
theorem dX4_isSmall_37 : decode cX4_isSmall 37 = .ok (.invokestatic 26, 3) := dk_184 0 26 (dk_at dksX4_isSmall_1 15 rfl rfl)
theorem dX4_isSmall_40 : decode cX4_isSmall 40 = .ok (.ifCond .eq 7, 3) := dk_153 0 7 (dk_at dksX4_isSmall_1 18 rfl rfl)
theorem dX4_isSmall_43 : decode cX4_isSmall 43 = .ok (.iconst 1, 1) := dk_4 (dk_at dksX4_isSmall_1 21 rfl rfl)
theorem dX4_isSmall_44 : decode cX4_isSmall 44 = .ok (.goto 4, 3) := dk_167 0 4 (dk_at dksX4_isSmall_2 0 rfl rfl)
theorem dX4_isSmall_47 : decode cX4_isSmall 47 = .ok (.iconst 0, 1) := dk_3 (dk_at dksX4_isSmall_2 3 rfl rfl)
theorem dX4_isSmall_48 : decode cX4_isSmall 48 = .ok (.istore_n 1, 1) := dk_60 (dk_at dksX4_isSmall_2 4 rfl rfl)
theorem dX4_isSmall_49 : decode cX4_isSmall 49 = .ok (.iinc 2 1, 3) := dk_132 2 1 (dk_at dksX4_isSmall_2 5 rfl rfl)
theorem dX4_isSmall_52 : decode cX4_isSmall 52 = .ok (.goto (-36), 3) := dk_167 255 220 (dk_at dksX4_isSmall_2 8 rfl rfl)
theorem dX4_isSmall_55 : decode cX4_isSmall 55 = .ok (.iload_n 1, 1) := dk_27 (dk_at dksX4_isSmall_2 11 rfl rfl)
theorem dX4_isSmall_56 : decode cX4_isSmall 56 = .ok (.ireturn, 1) := dk_172 (dk_at dksX4_isSmall_2 12 rfl rfl)
theorem q118 : (Jvm.Cond.initialized "WholePacks$Cut") ∈ lw_all := lw_g (lw_at lw_m1 5 rfl) rfl
theorem q248 : (Jvm.Cond.instantiable "WholePacks$Cut" (4 : Nat)) ∈ lw_all := lw_g (lw_at lw_m1 135 rfl) rfl
theorem q250 : (Jvm.Cond.instanceMethod ({ cls := "WholePacks$Cut", name := "<init>", desc := "()V" } : Jvm.MethodName)) ∈ lw_all := lw_g (lw_at lw_m1 137 rfl) rfl
theorem q251 : (Jvm.Cond.code ({ cls := "WholePacks$Cut", name := "<init>", desc := "()V" } : Jvm.MethodName) prog_4_method_1_code (1 : Nat) (Option.none : Option Jvm.ClassFile.FieldType)) ∈ lw_all := lw_g (lw_at lw_m1 138 rfl) rfl
theorem q252 : (Jvm.Cond.methodLink "WholePacks$Cut" (3 : Nat) ({ cls := "java/lang/Object", name := "<init>", desc := "()V" } : Jvm.MethodName)) ∈ lw_all := lw_g (lw_at lw_m1 139 rfl) rfl
theorem q253 : (Jvm.Cond.fieldLink "WholePacks$Cut" (9 : Nat) "WholePacks$Cut" "points" "[J") ∈ lw_all := lw_g (lw_at lw_m1 140 rfl) rfl
theorem q256 : (Jvm.Cond.fieldLink "WholePacks$Cut" (18 : Nat) "WholePacks$Cut" "limit" "J") ∈ lw_all := lw_g (lw_at lw_m1 143 rfl) rfl
theorem q261 : (Jvm.Cond.fieldLink "WholePacks$Cut" (15 : Nat) "WholePacks$Cut" "weights" "[J") ∈ lw_all := lw_g (lw_at lw_m1 148 rfl) rfl
theorem q264 : (Jvm.Cond.laysFinal "WholePacks$Cut" "WholePacks$Cut" "points" "[J") ∈ lw_all := lw_g (lw_at lw_m1 151 rfl) rfl
theorem q265 : (Jvm.Cond.soleField "WholePacks$Cut" "points") ∈ lw_all := lw_g (lw_at lw_m1 152 rfl) rfl
theorem q266 : (Jvm.Cond.lays "WholePacks$Cut" "WholePacks$Cut" "limit" "J") ∈ lw_all := lw_g (lw_at lw_m1 153 rfl) rfl
theorem q267 : (Jvm.Cond.soleField "WholePacks$Cut" "limit") ∈ lw_all := lw_g (lw_at lw_m1 154 rfl) rfl
theorem q268 : (Jvm.Cond.lays "WholePacks$Cut" "WholePacks$Cut" "below" "J") ∈ lw_all := lw_g (lw_at lw_m1 155 rfl) rfl
theorem q269 : (Jvm.Cond.soleField "WholePacks$Cut" "below") ∈ lw_all := lw_g (lw_at lw_m1 156 rfl) rfl
theorem q270 : (Jvm.Cond.laysFinal "WholePacks$Cut" "WholePacks$Cut" "weights" "[J") ∈ lw_all := lw_g (lw_at lw_m1 157 rfl) rfl
theorem q271 : (Jvm.Cond.soleField "WholePacks$Cut" "weights") ∈ lw_all := lw_g (lw_at lw_m1 158 rfl) rfl
theorem q272 : (Jvm.Cond.superclass "WholePacks$Cut" "java/lang/Object") ∈ lw_all := lw_g (lw_at lw_m1 159 rfl) rfl
theorem q864 : (Jvm.Cond.instanceMethod ({ cls := "WholePacks$Cut", name := "begins", desc := "()V" } : Jvm.MethodName)) ∈ lw_all := lw_g (lw_at lw_m4 31 rfl) rfl
theorem q865 : (Jvm.Cond.selects "WholePacks$Cut" ({ cls := "WholePacks$Cut", name := "begins", desc := "()V" } : Jvm.MethodName) ({ cls := "WholePacks$Cut", name := "begins", desc := "()V" } : Jvm.MethodName)) ∈ lw_all := lw_g (lw_at lw_m4 32 rfl) rfl
theorem q866 : (Jvm.Cond.code ({ cls := "WholePacks$Cut", name := "begins", desc := "()V" } : Jvm.MethodName) prog_4_method_2_code (2 : Nat) (Option.none : Option Jvm.ClassFile.FieldType)) ∈ lw_all := lw_g (lw_at lw_m4 33 rfl) rfl
theorem q868 : (Jvm.Cond.instanceMethod ({ cls := "WholePacks$Cut", name := "gets", desc := "(JIJ)V" } : Jvm.MethodName)) ∈ lw_all := lw_g (lw_at lw_m4 35 rfl) rfl
theorem q869 : (Jvm.Cond.selects "WholePacks$Cut" ({ cls := "WholePacks$Cut", name := "gets", desc := "(JIJ)V" } : Jvm.MethodName) ({ cls := "WholePacks$Cut", name := "gets", desc := "(JIJ)V" } : Jvm.MethodName)) ∈ lw_all := lw_g (lw_at lw_m4 36 rfl) rfl
theorem q870 : (Jvm.Cond.code ({ cls := "WholePacks$Cut", name := "gets", desc := "(JIJ)V" } : Jvm.MethodName) prog_4_method_3_code (6 : Nat) (Option.none : Option Jvm.ClassFile.FieldType)) ∈ lw_all := lw_g (lw_at lw_m4 37 rfl) rfl
theorem q882 : (Jvm.Cond.instanceMethod ({ cls := "WholePacks$Cut", name := "isSmall", desc := "()Z" } : Jvm.MethodName)) ∈ lw_all := lw_g (lw_at lw_m4 49 rfl) rfl
theorem q883 : (Jvm.Cond.selects "WholePacks$Cut" ({ cls := "WholePacks$Cut", name := "isSmall", desc := "()Z" } : Jvm.MethodName) ({ cls := "WholePacks$Cut", name := "isSmall", desc := "()Z" } : Jvm.MethodName)) ∈ lw_all := lw_g (lw_at lw_m4 50 rfl) rfl
theorem q884 : (Jvm.Cond.code ({ cls := "WholePacks$Cut", name := "isSmall", desc := "()Z" } : Jvm.MethodName) prog_4_method_4_code (3 : Nat) (Option.some Jvm.ClassFile.FieldType.boolean)) ∈ lw_all := lw_g (lw_at lw_m4 51 rfl) rfl
theorem q885 : (Jvm.Cond.constantLong "WholePacks$Cut" (22 : Nat) (-1000000000 : Int64)) ∈ lw_all := lw_g (lw_at lw_m4 52 rfl) rfl
theorem q886 : (Jvm.Cond.constantLong "WholePacks$Cut" (24 : Nat) (1000000000 : Int64)) ∈ lw_all := lw_g (lw_at lw_m4 53 rfl) rfl
theorem q887 : (Jvm.Cond.methodLinkNest "WholePacks$Cut" (26 : Nat) ({ cls := "WholePacks", name := "in", desc := "(JJJ)Z" } : Jvm.MethodName) "WholePacks") ∈ lw_tbl := lw_at lw_m4 54 rfl
theorem q1038 : (Jvm.Cond.selects "WholePacks$Cut" ({ cls := "java/lang/Object", name := "getClass", desc := "()Ljava/lang/Class;" } : Jvm.MethodName) ({ cls := "java/lang/Object", name := "getClass", desc := "()Ljava/lang/Class;" } : Jvm.MethodName)) ∈ lw_all := lw_g (lw_at lw_m4 205 rfl) rfl
theorem q2398 : (Jvm.Cond.castable "WholePacks$Cut" "java/lang/Object") ∈ lw_tbl := lw_at lw_m10 125 rfl
theorem in_X4 : ∀ w ∈ wsX40, w ∈ lw_all := lw_in wsX40 [264, 266, 268, 270] (by decide +kernel) (by decide +kernel)
/-! WholePacks$Dearer -/
set_option maxRecDepth 100000
def RX5 : String := "WholePacks$Dearer"
abbrev cX5_init : ByteArray := prog_5_method_1_code
def yX5_init : MethodName := ⟨RX5, "<init>", "()V"⟩
theorem dX5_init_0 : decode cX5_init 0 = .ok (.aload_n 0, 1) := by decide +kernel
theorem dX5_init_1 : decode cX5_init 1 = .ok (.invokespecial 1, 3) := by decide +kernel
theorem dX5_init_4 : decode cX5_init 4 = .ok (.return_, 1) := by decide +kernel
abbrev cX5_compare : ByteArray := prog_5_method_3_code
def yX5_compare : MethodName := ⟨RX5, "compare", "(Ljava/lang/Object;Ljava/lang/Object;)I"⟩
def dkwX5_compare_0 : List UInt8 := [42, 43, 192, 0, 8, 44, 192, 0, 8, 182, 0, 20, 172]
abbrev dktX5_compare_0 : List UInt8 := dkwX5_compare_0 ++ []
theorem dksX5_compare_0 : cX5_compare.data.toList.drop 0 = dktX5_compare_0 := by decide +kernel
theorem dX5_compare_0 : decode cX5_compare 0 = .ok (.aload_n 0, 1) := dk_42 (dk_at dksX5_compare_0 0 rfl rfl)
theorem dX5_compare_1 : decode cX5_compare 1 = .ok (.aload_n 1, 1) := dk_43 (dk_at dksX5_compare_0 1 rfl rfl)
theorem dX5_compare_2 : decode cX5_compare 2 = .ok (.checkcast 8, 3) := dk_192 0 8 (dk_at dksX5_compare_0 2 rfl rfl)
theorem dX5_compare_5 : decode cX5_compare 5 = .ok (.aload_n 2, 1) := dk_44 (dk_at dksX5_compare_0 5 rfl rfl)
theorem dX5_compare_6 : decode cX5_compare 6 = .ok (.checkcast 8, 3) := dk_192 0 8 (dk_at dksX5_compare_0 6 rfl rfl)
theorem dX5_compare_9 : decode cX5_compare 9 = .ok (.invokevirtual 20, 3) := dk_182 0 20 (dk_at dksX5_compare_0 9 rfl rfl)
theorem dX5_compare_12 : decode cX5_compare 12 = .ok (.ireturn, 1) := dk_172 (dk_at dksX5_compare_0 12 rfl rfl)
abbrev cX5_compare_2 : ByteArray := prog_5_method_2_code
def yX5_compare_2 : MethodName := ⟨RX5, "compare", "(LWholePacks$Found;LWholePacks$Found;)I"⟩
def dkwX5_compare_2_1 : List UInt8 := [2, 167, 0, 4, 4, 172]
abbrev dktX5_compare_2_1 : List UInt8 := dkwX5_compare_2_1 ++ []
def dkwX5_compare_2_0 : List UInt8 := [43, 44, 166, 0, 7, 3, 167, 0, 23, 43, 44, 180, 0, 7, 44, 180, 0, 13, 182, 0, 16, 153, 0, 7]
abbrev dktX5_compare_2_0 : List UInt8 := dkwX5_compare_2_0 ++ dktX5_compare_2_1
theorem dksX5_compare_2_0 : cX5_compare_2.data.toList.drop 0 = dktX5_compare_2_0 := by decide +kernel
theorem dksX5_compare_2_1 : cX5_compare_2.data.toList.drop 24 = dktX5_compare_2_1 := dk_seg dksX5_compare_2_0 24 rfl rfl
theorem dX5_compare_2_0 : decode cX5_compare_2 0 = .ok (.aload_n 1, 1) := dk_43 (dk_at dksX5_compare_2_0 0 rfl rfl)
theorem dX5_compare_2_1 : decode cX5_compare_2 1 = .ok (.aload_n 2, 1) := dk_44 (dk_at dksX5_compare_2_0 1 rfl rfl)
theorem dX5_compare_2_2 : decode cX5_compare_2 2 = .ok (.if_acmp .ne 7, 3) := dk_166 0 7 (dk_at dksX5_compare_2_0 2 rfl rfl)
theorem dX5_compare_2_5 : decode cX5_compare_2 5 = .ok (.iconst 0, 1) := dk_3 (dk_at dksX5_compare_2_0 5 rfl rfl)
theorem dX5_compare_2_6 : decode cX5_compare_2 6 = .ok (.goto 23, 3) := dk_167 0 23 (dk_at dksX5_compare_2_0 6 rfl rfl)
theorem dX5_compare_2_9 : decode cX5_compare_2 9 = .ok (.aload_n 1, 1) := dk_43 (dk_at dksX5_compare_2_0 9 rfl rfl)
theorem dX5_compare_2_10 : decode cX5_compare_2 10 = .ok (.aload_n 2, 1) := dk_44 (dk_at dksX5_compare_2_0 10 rfl rfl)
theorem dX5_compare_2_11 : decode cX5_compare_2 11 = .ok (.getfield 7, 3) := dk_180 0 7 (dk_at dksX5_compare_2_0 11 rfl rfl)
theorem dX5_compare_2_14 : decode cX5_compare_2 14 = .ok (.aload_n 2, 1) := dk_44 (dk_at dksX5_compare_2_0 14 rfl rfl)
theorem dX5_compare_2_15 : decode cX5_compare_2 15 = .ok (.getfield 13, 3) := dk_180 0 13 (dk_at dksX5_compare_2_0 15 rfl rfl)
theorem dX5_compare_2_18 : decode cX5_compare_2 18 = .ok (.invokevirtual 16, 3) := dk_182 0 16 (dk_at dksX5_compare_2_0 18 rfl rfl)
theorem dX5_compare_2_21 : decode cX5_compare_2 21 = .ok (.ifCond .eq 7, 3) := dk_153 0 7 (dk_at dksX5_compare_2_0 21 rfl rfl)
theorem dX5_compare_2_24 : decode cX5_compare_2 24 = .ok (.iconst (-1), 1) := dk_2 (dk_at dksX5_compare_2_1 0 rfl rfl)
theorem dX5_compare_2_25 : decode cX5_compare_2 25 = .ok (.goto 4, 3) := dk_167 0 4 (dk_at dksX5_compare_2_1 1 rfl rfl)
theorem dX5_compare_2_28 : decode cX5_compare_2 28 = .ok (.iconst 1, 1) := dk_4 (dk_at dksX5_compare_2_1 4 rfl rfl)
theorem dX5_compare_2_29 : decode cX5_compare_2 29 = .ok (.ireturn, 1) := dk_172 (dk_at dksX5_compare_2_1 5 rfl rfl)
theorem q124 : (Jvm.Cond.initialized "WholePacks$Dearer") ∈ lw_all := lw_g (lw_at lw_m1 11 rfl) rfl
theorem q367 : (Jvm.Cond.instantiable "WholePacks$Dearer" (0 : Nat)) ∈ lw_all := lw_g (lw_at lw_m2 14 rfl) rfl
theorem q369 : (Jvm.Cond.instanceMethod ({ cls := "WholePacks$Dearer", name := "<init>", desc := "()V" } : Jvm.MethodName)) ∈ lw_all := lw_g (lw_at lw_m2 16 rfl) rfl
theorem q370 : (Jvm.Cond.code ({ cls := "WholePacks$Dearer", name := "<init>", desc := "()V" } : Jvm.MethodName) prog_5_method_1_code (1 : Nat) (Option.none : Option Jvm.ClassFile.FieldType)) ∈ lw_all := lw_g (lw_at lw_m2 17 rfl) rfl
theorem q371 : (Jvm.Cond.methodLink "WholePacks$Dearer" (1 : Nat) ({ cls := "java/lang/Object", name := "<init>", desc := "()V" } : Jvm.MethodName)) ∈ lw_all := lw_g (lw_at lw_m2 18 rfl) rfl
theorem q372 : (Jvm.Cond.superclass "WholePacks$Dearer" "java/lang/Object") ∈ lw_all := lw_g (lw_at lw_m2 19 rfl) rfl
theorem q449 : (Jvm.Cond.fieldLinkNest "WholePacks$Dearer" (7 : Nat) "WholePacks$Found" "cost" "I" "WholePacks") ∈ lw_tbl := lw_at lw_m2 96 rfl
theorem q451 : (Jvm.Cond.fieldLinkNest "WholePacks$Dearer" (13 : Nat) "WholePacks$Found" "code" "I" "WholePacks") ∈ lw_tbl := lw_at lw_m2 98 rfl
theorem q1039 : (Jvm.Cond.selects "WholePacks$Dearer" ({ cls := "java/lang/Object", name := "getClass", desc := "()Ljava/lang/Class;" } : Jvm.MethodName) ({ cls := "java/lang/Object", name := "getClass", desc := "()Ljava/lang/Class;" } : Jvm.MethodName)) ∈ lw_all := lw_g (lw_at lw_m4 206 rfl) rfl
theorem q1081 : (Jvm.Cond.castable "WholePacks$Dearer" "java/util/Comparator") ∈ lw_tbl := lw_at lw_m5 8 rfl
theorem q1082 : (Jvm.Cond.selects "WholePacks$Dearer" ({ cls := "java/util/Comparator", name := "compare", desc := "(Ljava/lang/Object;Ljava/lang/Object;)I" } : Jvm.MethodName) ({ cls := "WholePacks$Dearer", name := "compare", desc := "(Ljava/lang/Object;Ljava/lang/Object;)I" } : Jvm.MethodName)) ∈ lw_all := lw_g (lw_at lw_m5 9 rfl) rfl
theorem q1083 : (Jvm.Cond.unhidden "WholePacks$Dearer" "compare" "(Ljava/lang/Object;Ljava/lang/Object;)I") ∈ lw_tbl := lw_at lw_m5 10 rfl
theorem q1084 : (Jvm.Cond.instanceMethod ({ cls := "WholePacks$Dearer", name := "compare", desc := "(Ljava/lang/Object;Ljava/lang/Object;)I" } : Jvm.MethodName)) ∈ lw_all := lw_g (lw_at lw_m5 11 rfl) rfl
theorem q1085 : (Jvm.Cond.publicMethod ({ cls := "WholePacks$Dearer", name := "compare", desc := "(Ljava/lang/Object;Ljava/lang/Object;)I" } : Jvm.MethodName)) ∈ lw_tbl := lw_at lw_m5 12 rfl
theorem q1086 : (Jvm.Cond.code ({ cls := "WholePacks$Dearer", name := "compare", desc := "(Ljava/lang/Object;Ljava/lang/Object;)I" } : Jvm.MethodName) prog_5_method_3_code (3 : Nat) (Option.some Jvm.ClassFile.FieldType.int)) ∈ lw_all := lw_g (lw_at lw_m5 13 rfl) rfl
theorem q1087 : (Jvm.Cond.classLink "WholePacks$Dearer" (8 : Nat) "WholePacks$Found") ∈ lw_all := lw_g (lw_at lw_m5 14 rfl) rfl
theorem q1088 : (Jvm.Cond.methodLink "WholePacks$Dearer" (20 : Nat) ({ cls := "WholePacks$Dearer", name := "compare", desc := "(LWholePacks$Found;LWholePacks$Found;)I" } : Jvm.MethodName)) ∈ lw_all := lw_g (lw_at lw_m5 15 rfl) rfl
theorem q1089 : (Jvm.Cond.instanceMethod ({ cls := "WholePacks$Dearer", name := "compare", desc := "(LWholePacks$Found;LWholePacks$Found;)I" } : Jvm.MethodName)) ∈ lw_all := lw_g (lw_at lw_m5 16 rfl) rfl
theorem q1090 : (Jvm.Cond.selects "WholePacks$Dearer" ({ cls := "WholePacks$Dearer", name := "compare", desc := "(LWholePacks$Found;LWholePacks$Found;)I" } : Jvm.MethodName) ({ cls := "WholePacks$Dearer", name := "compare", desc := "(LWholePacks$Found;LWholePacks$Found;)I" } : Jvm.MethodName)) ∈ lw_all := lw_g (lw_at lw_m5 17 rfl) rfl
theorem q1091 : (Jvm.Cond.code ({ cls := "WholePacks$Dearer", name := "compare", desc := "(LWholePacks$Found;LWholePacks$Found;)I" } : Jvm.MethodName) prog_5_method_2_code (3 : Nat) (Option.some Jvm.ClassFile.FieldType.int)) ∈ lw_all := lw_g (lw_at lw_m5 18 rfl) rfl
theorem q1092 : (Jvm.Cond.methodLink "WholePacks$Dearer" (16 : Nat) ({ cls := "WholePacks$Found", name := "isBehind", desc := "(II)Z" } : Jvm.MethodName)) ∈ lw_all := lw_g (lw_at lw_m5 19 rfl) rfl
theorem q2410 : (Jvm.Cond.castable "WholePacks$Dearer" "java/lang/Object") ∈ lw_tbl := lw_at lw_m10 137 rfl
/-! WholePacks$Tape -/
set_option maxRecDepth 100000
def RX6 : String := "WholePacks$Tape"
def TX6 : u_T := fun k => match k with
  | _ => ("WholePacks$Tape", "row", "Ljava/lang/Object;", false)
def tyX6 : Nat → FieldType := fun k => match k with
  | _ => .object "java/lang/Object"
abbrev wsX60 : List Cond := u_ws RX6 TX6 1
theorem nmX6 : ∀ a, a < 1 → ∀ b, b < 1 → a ≠ b → (TX6 a).2.1 ≠ (TX6 b).2.1 := by decide +kernel
theorem tyX6_ok : ∀ k, k < 1 → parseFieldDescriptor (TX6 k).2.2.1 = some (tyX6 k) := by decide +kernel
abbrev cX6_init : ByteArray := prog_17_method_1_code
def yX6_init : MethodName := ⟨RX6, "<init>", "()V"⟩
theorem dX6_init_0 : decode cX6_init 0 = .ok (.aload_n 0, 1) := by decide +kernel
theorem dX6_init_1 : decode cX6_init 1 = .ok (.invokespecial 1, 3) := by decide +kernel
theorem dX6_init_4 : decode cX6_init 4 = .ok (.return_, 1) := by decide +kernel
abbrev cX6_sort : ByteArray := prog_17_method_2_code
def yX6_sort : MethodName := ⟨RX6, "sort", "()I"⟩
def dkwX6_sort_2 : List UInt8 := [153, 0, 7, 5, 167, 0, 18, 42, 180, 0, 7, 193, 0, 19, 153, 0, 7, 6, 167, 0, 4, 7, 172]
abbrev dktX6_sort_2 : List UInt8 := dkwX6_sort_2 ++ []
def dkwX6_sort_1 : List UInt8 := [167, 0, 46, 42, 180, 0, 7, 193, 0, 15, 153, 0, 7, 4, 167, 0, 32, 42, 180, 0, 7, 193, 0, 17]
abbrev dktX6_sort_1 : List UInt8 := dkwX6_sort_1 ++ dktX6_sort_2
def dkwX6_sort_0 : List UInt8 := [42, 180, 0, 7, 199, 0, 7, 2, 167, 0, 60, 42, 180, 0, 7, 193, 0, 13, 153, 0, 7, 3]
abbrev dktX6_sort_0 : List UInt8 := dkwX6_sort_0 ++ dktX6_sort_1
theorem dksX6_sort_0 : cX6_sort.data.toList.drop 0 = dktX6_sort_0 := by decide +kernel
theorem dksX6_sort_1 : cX6_sort.data.toList.drop 22 = dktX6_sort_1 := dk_seg dksX6_sort_0 22 rfl rfl
theorem dksX6_sort_2 : cX6_sort.data.toList.drop 46 = dktX6_sort_2 := dk_seg dksX6_sort_1 24 rfl rfl
theorem dX6_sort_0 : decode cX6_sort 0 = .ok (.aload_n 0, 1) := dk_42 (dk_at dksX6_sort_0 0 rfl rfl)
theorem dX6_sort_1 : decode cX6_sort 1 = .ok (.getfield 7, 3) := dk_180 0 7 (dk_at dksX6_sort_0 1 rfl rfl)
theorem dX6_sort_4 : decode cX6_sort 4 = .ok (.ifnonnull 7, 3) := dk_199 0 7 (dk_at dksX6_sort_0 4 rfl rfl)
theorem dX6_sort_7 : decode cX6_sort 7 = .ok (.iconst (-1), 1) := dk_2 (dk_at dksX6_sort_0 7 rfl rfl)
theorem dX6_sort_8 : decode cX6_sort 8 = .ok (.goto 60, 3) := dk_167 0 60 (dk_at dksX6_sort_0 8 rfl rfl)
theorem dX6_sort_11 : decode cX6_sort 11 = .ok (.aload_n 0, 1) := dk_42 (dk_at dksX6_sort_0 11 rfl rfl)
theorem dX6_sort_12 : decode cX6_sort 12 = .ok (.getfield 7, 3) := dk_180 0 7 (dk_at dksX6_sort_0 12 rfl rfl)
theorem dX6_sort_15 : decode cX6_sort 15 = .ok (.instanceof 13, 3) := dk_193 0 13 (dk_at dksX6_sort_0 15 rfl rfl)
theorem dX6_sort_18 : decode cX6_sort 18 = .ok (.ifCond .eq 7, 3) := dk_153 0 7 (dk_at dksX6_sort_0 18 rfl rfl)
theorem dX6_sort_21 : decode cX6_sort 21 = .ok (.iconst 0, 1) := dk_3 (dk_at dksX6_sort_0 21 rfl rfl)
theorem dX6_sort_22 : decode cX6_sort 22 = .ok (.goto 46, 3) := dk_167 0 46 (dk_at dksX6_sort_1 0 rfl rfl)
theorem dX6_sort_25 : decode cX6_sort 25 = .ok (.aload_n 0, 1) := dk_42 (dk_at dksX6_sort_1 3 rfl rfl)
theorem dX6_sort_26 : decode cX6_sort 26 = .ok (.getfield 7, 3) := dk_180 0 7 (dk_at dksX6_sort_1 4 rfl rfl)
theorem dX6_sort_29 : decode cX6_sort 29 = .ok (.instanceof 15, 3) := dk_193 0 15 (dk_at dksX6_sort_1 7 rfl rfl)
theorem dX6_sort_32 : decode cX6_sort 32 = .ok (.ifCond .eq 7, 3) := dk_153 0 7 (dk_at dksX6_sort_1 10 rfl rfl)
theorem dX6_sort_35 : decode cX6_sort 35 = .ok (.iconst 1, 1) := dk_4 (dk_at dksX6_sort_1 13 rfl rfl)
theorem dX6_sort_36 : decode cX6_sort 36 = .ok (.goto 32, 3) := dk_167 0 32 (dk_at dksX6_sort_1 14 rfl rfl)
theorem dX6_sort_39 : decode cX6_sort 39 = .ok (.aload_n 0, 1) := dk_42 (dk_at dksX6_sort_1 17 rfl rfl)
theorem dX6_sort_40 : decode cX6_sort 40 = .ok (.getfield 7, 3) := dk_180 0 7 (dk_at dksX6_sort_1 18 rfl rfl)
theorem dX6_sort_43 : decode cX6_sort 43 = .ok (.instanceof 17, 3) := dk_193 0 17 (dk_at dksX6_sort_1 21 rfl rfl)
theorem dX6_sort_46 : decode cX6_sort 46 = .ok (.ifCond .eq 7, 3) := dk_153 0 7 (dk_at dksX6_sort_2 0 rfl rfl)
theorem dX6_sort_49 : decode cX6_sort 49 = .ok (.iconst 2, 1) := dk_5 (dk_at dksX6_sort_2 3 rfl rfl)
theorem dX6_sort_50 : decode cX6_sort 50 = .ok (.goto 18, 3) := dk_167 0 18 (dk_at dksX6_sort_2 4 rfl rfl)
theorem dX6_sort_53 : decode cX6_sort 53 = .ok (.aload_n 0, 1) := dk_42 (dk_at dksX6_sort_2 7 rfl rfl)
theorem dX6_sort_54 : decode cX6_sort 54 = .ok (.getfield 7, 3) := dk_180 0 7 (dk_at dksX6_sort_2 8 rfl rfl)
theorem dX6_sort_57 : decode cX6_sort 57 = .ok (.instanceof 19, 3) := dk_193 0 19 (dk_at dksX6_sort_2 11 rfl rfl)
theorem dX6_sort_60 : decode cX6_sort 60 = .ok (.ifCond .eq 7, 3) := dk_153 0 7 (dk_at dksX6_sort_2 14 rfl rfl)
theorem dX6_sort_63 : decode cX6_sort 63 = .ok (.iconst 3, 1) := dk_6 (dk_at dksX6_sort_2 17 rfl rfl)
theorem dX6_sort_64 : decode cX6_sort 64 = .ok (.goto 4, 3) := dk_167 0 4 (dk_at dksX6_sort_2 18 rfl rfl)
theorem dX6_sort_67 : decode cX6_sort 67 = .ok (.iconst 4, 1) := dk_7 (dk_at dksX6_sort_2 21 rfl rfl)
theorem dX6_sort_68 : decode cX6_sort 68 = .ok (.ireturn, 1) := dk_172 (dk_at dksX6_sort_2 22 rfl rfl)
abbrev cX6_size : ByteArray := prog_17_method_3_code
def yX6_size : MethodName := ⟨RX6, "size", "()I"⟩
def dkwX6_size_3 : List UInt8 := [192, 0, 17, 190, 172, 42, 180, 0, 7, 192, 0, 19, 190, 172, 42, 180, 0, 7, 192, 0, 25, 190, 172]
abbrev dktX6_size_3 : List UInt8 := dkwX6_size_3 ++ []
def dkwX6_size_2 : List UInt8 := [3, 172, 42, 180, 0, 7, 192, 0, 13, 190, 172, 42, 180, 0, 7, 192, 0, 15, 190, 172, 42, 180, 0, 7]
abbrev dktX6_size_2 : List UInt8 := dkwX6_size_2 ++ dktX6_size_3
def dkwX6_size_1 : List UInt8 := [170, 0, 0, 0, 0, 0, 0, 74, 255, 255, 255, 255, 0, 0, 0, 3, 0, 0, 0, 36, 0, 0, 0, 38, 0, 0, 0, 47, 0, 0, 0, 56, 0, 0, 0, 65]
abbrev dktX6_size_1 : List UInt8 := dkwX6_size_1 ++ dktX6_size_2
def dkwX6_size_0 : List UInt8 := [42, 182, 0, 21]
abbrev dktX6_size_0 : List UInt8 := dkwX6_size_0 ++ dktX6_size_1
theorem dksX6_size_0 : cX6_size.data.toList.drop 0 = dktX6_size_0 := by decide +kernel
theorem dksX6_size_1 : cX6_size.data.toList.drop 4 = dktX6_size_1 := dk_seg dksX6_size_0 4 rfl rfl
theorem dksX6_size_2 : cX6_size.data.toList.drop 40 = dktX6_size_2 := dk_seg dksX6_size_1 36 rfl rfl
theorem dksX6_size_3 : cX6_size.data.toList.drop 64 = dktX6_size_3 := dk_seg dksX6_size_2 24 rfl rfl
theorem dX6_size_0 : decode cX6_size 0 = .ok (.aload_n 0, 1) := dk_42 (dk_at dksX6_size_0 0 rfl rfl)
theorem dX6_size_1 : decode cX6_size 1 = .ok (.invokevirtual 21, 3) := dk_182 0 21 (dk_at dksX6_size_0 1 rfl rfl)
theorem dX6_size_4 : decode cX6_size 4 = .ok (.tableswitch 74 (-1) 3 #[36, 38, 47, 56, 65], 36) := by decide +kernel
theorem dX6_size_40 : decode cX6_size 40 = .ok (.iconst 0, 1) := dk_3 (dk_at dksX6_size_2 0 rfl rfl)
theorem dX6_size_41 : decode cX6_size 41 = .ok (.ireturn, 1) := dk_172 (dk_at dksX6_size_2 1 rfl rfl)
theorem dX6_size_42 : decode cX6_size 42 = .ok (.aload_n 0, 1) := dk_42 (dk_at dksX6_size_2 2 rfl rfl)
theorem dX6_size_43 : decode cX6_size 43 = .ok (.getfield 7, 3) := dk_180 0 7 (dk_at dksX6_size_2 3 rfl rfl)
theorem dX6_size_46 : decode cX6_size 46 = .ok (.checkcast 13, 3) := dk_192 0 13 (dk_at dksX6_size_2 6 rfl rfl)
theorem dX6_size_49 : decode cX6_size 49 = .ok (.arraylength, 1) := dk_190 (dk_at dksX6_size_2 9 rfl rfl)
theorem dX6_size_50 : decode cX6_size 50 = .ok (.ireturn, 1) := dk_172 (dk_at dksX6_size_2 10 rfl rfl)
theorem dX6_size_51 : decode cX6_size 51 = .ok (.aload_n 0, 1) := dk_42 (dk_at dksX6_size_2 11 rfl rfl)
theorem dX6_size_52 : decode cX6_size 52 = .ok (.getfield 7, 3) := dk_180 0 7 (dk_at dksX6_size_2 12 rfl rfl)
theorem dX6_size_55 : decode cX6_size 55 = .ok (.checkcast 15, 3) := dk_192 0 15 (dk_at dksX6_size_2 15 rfl rfl)
theorem dX6_size_58 : decode cX6_size 58 = .ok (.arraylength, 1) := dk_190 (dk_at dksX6_size_2 18 rfl rfl)
theorem dX6_size_59 : decode cX6_size 59 = .ok (.ireturn, 1) := dk_172 (dk_at dksX6_size_2 19 rfl rfl)
theorem dX6_size_60 : decode cX6_size 60 = .ok (.aload_n 0, 1) := dk_42 (dk_at dksX6_size_2 20 rfl rfl)
theorem dX6_size_61 : decode cX6_size 61 = .ok (.getfield 7, 3) := dk_180 0 7 (dk_at dksX6_size_2 21 rfl rfl)
theorem dX6_size_64 : decode cX6_size 64 = .ok (.checkcast 17, 3) := dk_192 0 17 (dk_at dksX6_size_3 0 rfl rfl)
theorem dX6_size_67 : decode cX6_size 67 = .ok (.arraylength, 1) := dk_190 (dk_at dksX6_size_3 3 rfl rfl)
theorem dX6_size_68 : decode cX6_size 68 = .ok (.ireturn, 1) := dk_172 (dk_at dksX6_size_3 4 rfl rfl)
theorem dX6_size_69 : decode cX6_size 69 = .ok (.aload_n 0, 1) := dk_42 (dk_at dksX6_size_3 5 rfl rfl)
theorem dX6_size_70 : decode cX6_size 70 = .ok (.getfield 7, 3) := dk_180 0 7 (dk_at dksX6_size_3 6 rfl rfl)
theorem dX6_size_73 : decode cX6_size 73 = .ok (.checkcast 19, 3) := dk_192 0 19 (dk_at dksX6_size_3 9 rfl rfl)
theorem dX6_size_76 : decode cX6_size 76 = .ok (.arraylength, 1) := dk_190 (dk_at dksX6_size_3 12 rfl rfl)
theorem dX6_size_77 : decode cX6_size 77 = .ok (.ireturn, 1) := dk_172 (dk_at dksX6_size_3 13 rfl rfl)
theorem dX6_size_78 : decode cX6_size 78 = .ok (.aload_n 0, 1) := dk_42 (dk_at dksX6_size_3 14 rfl rfl)
theorem dX6_size_79 : decode cX6_size 79 = .ok (.getfield 7, 3) := dk_180 0 7 (dk_at dksX6_size_3 15 rfl rfl)
theorem dX6_size_82 : decode cX6_size 82 = .ok (.checkcast 25, 3) := dk_192 0 25 (dk_at dksX6_size_3 18 rfl rfl)
theorem dX6_size_85 : decode cX6_size 85 = .ok (.arraylength, 1) := dk_190 (dk_at dksX6_size_3 21 rfl rfl)
theorem dX6_size_86 : decode cX6_size 86 = .ok (.ireturn, 1) := dk_172 (dk_at dksX6_size_3 22 rfl rfl)
abbrev cX6_at : ByteArray := prog_17_method_6_code
def yX6_at : MethodName := ⟨RX6, "at", "(I)J"⟩
def dkwX6_at_4 : List UInt8 := [192, 0, 25, 27, 51, 153, 0, 7, 10, 167, 0, 4, 9, 173]
abbrev dktX6_at_4 : List UInt8 := dkwX6_at_4 ++ []
def dkwX6_at_3 : List UInt8 := [180, 0, 7, 192, 0, 17, 27, 46, 133, 173, 42, 180, 0, 7, 192, 0, 19, 27, 47, 173, 42, 180, 0, 7]
abbrev dktX6_at_3 : List UInt8 := dkwX6_at_3 ++ dktX6_at_4
def dkwX6_at_2 : List UInt8 := [42, 180, 0, 7, 192, 0, 13, 27, 51, 133, 173, 42, 180, 0, 7, 192, 0, 15, 27, 53, 133, 173, 42]
abbrev dktX6_at_2 : List UInt8 := dkwX6_at_2 ++ dktX6_at_3
def dkwX6_at_1 : List UInt8 := [170, 0, 0, 0, 0, 0, 0, 75, 0, 0, 0, 0, 0, 0, 0, 3, 0, 0, 0, 32, 0, 0, 0, 43, 0, 0, 0, 54, 0, 0, 0, 65]
abbrev dktX6_at_1 : List UInt8 := dkwX6_at_1 ++ dktX6_at_2
def dkwX6_at_0 : List UInt8 := [42, 182, 0, 21]
abbrev dktX6_at_0 : List UInt8 := dkwX6_at_0 ++ dktX6_at_1
theorem dksX6_at_0 : cX6_at.data.toList.drop 0 = dktX6_at_0 := by decide +kernel
theorem dksX6_at_1 : cX6_at.data.toList.drop 4 = dktX6_at_1 := dk_seg dksX6_at_0 4 rfl rfl
theorem dksX6_at_2 : cX6_at.data.toList.drop 36 = dktX6_at_2 := dk_seg dksX6_at_1 32 rfl rfl
theorem dksX6_at_3 : cX6_at.data.toList.drop 59 = dktX6_at_3 := dk_seg dksX6_at_2 23 rfl rfl
theorem dksX6_at_4 : cX6_at.data.toList.drop 83 = dktX6_at_4 := dk_seg dksX6_at_3 24 rfl rfl
theorem dX6_at_0 : decode cX6_at 0 = .ok (.aload_n 0, 1) := dk_42 (dk_at dksX6_at_0 0 rfl rfl)
theorem dX6_at_1 : decode cX6_at 1 = .ok (.invokevirtual 21, 3) := dk_182 0 21 (dk_at dksX6_at_0 1 rfl rfl)
theorem dX6_at_4 : decode cX6_at 4 = .ok (.tableswitch 75 0 3 #[32, 43, 54, 65], 32) := by decide +kernel
theorem dX6_at_36 : decode cX6_at 36 = .ok (.aload_n 0, 1) := dk_42 (dk_at dksX6_at_2 0 rfl rfl)
theorem dX6_at_37 : decode cX6_at 37 = .ok (.getfield 7, 3) := dk_180 0 7 (dk_at dksX6_at_2 1 rfl rfl)
theorem dX6_at_40 : decode cX6_at 40 = .ok (.checkcast 13, 3) := dk_192 0 13 (dk_at dksX6_at_2 4 rfl rfl)
theorem dX6_at_43 : decode cX6_at 43 = .ok (.iload_n 1, 1) := dk_27 (dk_at dksX6_at_2 7 rfl rfl)
theorem dX6_at_44 : decode cX6_at 44 = .ok (.baload, 1) := dk_51 (dk_at dksX6_at_2 8 rfl rfl)
theorem dX6_at_45 : decode cX6_at 45 = .ok (.i2l, 1) := dk_133 (dk_at dksX6_at_2 9 rfl rfl)
theorem dX6_at_46 : decode cX6_at 46 = .ok (.lreturn, 1) := dk_173 (dk_at dksX6_at_2 10 rfl rfl)
theorem dX6_at_47 : decode cX6_at 47 = .ok (.aload_n 0, 1) := dk_42 (dk_at dksX6_at_2 11 rfl rfl)
theorem dX6_at_48 : decode cX6_at 48 = .ok (.getfield 7, 3) := dk_180 0 7 (dk_at dksX6_at_2 12 rfl rfl)
theorem dX6_at_51 : decode cX6_at 51 = .ok (.checkcast 15, 3) := dk_192 0 15 (dk_at dksX6_at_2 15 rfl rfl)
theorem dX6_at_54 : decode cX6_at 54 = .ok (.iload_n 1, 1) := dk_27 (dk_at dksX6_at_2 18 rfl rfl)
theorem dX6_at_55 : decode cX6_at 55 = .ok (.saload, 1) := dk_53 (dk_at dksX6_at_2 19 rfl rfl)
theorem dX6_at_56 : decode cX6_at 56 = .ok (.i2l, 1) := dk_133 (dk_at dksX6_at_2 20 rfl rfl)
theorem dX6_at_57 : decode cX6_at 57 = .ok (.lreturn, 1) := dk_173 (dk_at dksX6_at_2 21 rfl rfl)
theorem dX6_at_58 : decode cX6_at 58 = .ok (.aload_n 0, 1) := dk_42 (dk_at dksX6_at_2 22 rfl rfl)
theorem dX6_at_59 : decode cX6_at 59 = .ok (.getfield 7, 3) := dk_180 0 7 (dk_at dksX6_at_3 0 rfl rfl)
theorem dX6_at_62 : decode cX6_at 62 = .ok (.checkcast 17, 3) := dk_192 0 17 (dk_at dksX6_at_3 3 rfl rfl)
theorem dX6_at_65 : decode cX6_at 65 = .ok (.iload_n 1, 1) := dk_27 (dk_at dksX6_at_3 6 rfl rfl)
theorem dX6_at_66 : decode cX6_at 66 = .ok (.iaload, 1) := dk_46 (dk_at dksX6_at_3 7 rfl rfl)
theorem dX6_at_67 : decode cX6_at 67 = .ok (.i2l, 1) := dk_133 (dk_at dksX6_at_3 8 rfl rfl)
theorem dX6_at_68 : decode cX6_at 68 = .ok (.lreturn, 1) := dk_173 (dk_at dksX6_at_3 9 rfl rfl)
theorem dX6_at_69 : decode cX6_at 69 = .ok (.aload_n 0, 1) := dk_42 (dk_at dksX6_at_3 10 rfl rfl)
theorem dX6_at_70 : decode cX6_at 70 = .ok (.getfield 7, 3) := dk_180 0 7 (dk_at dksX6_at_3 11 rfl rfl)
theorem dX6_at_73 : decode cX6_at 73 = .ok (.checkcast 19, 3) := dk_192 0 19 (dk_at dksX6_at_3 14 rfl rfl)
theorem dX6_at_76 : decode cX6_at 76 = .ok (.iload_n 1, 1) := dk_27 (dk_at dksX6_at_3 17 rfl rfl)
theorem dX6_at_77 : decode cX6_at 77 = .ok (.laload, 1) := dk_47 (dk_at dksX6_at_3 18 rfl rfl)
theorem dX6_at_78 : decode cX6_at 78 = .ok (.lreturn, 1) := dk_173 (dk_at dksX6_at_3 19 rfl rfl)
theorem dX6_at_79 : decode cX6_at 79 = .ok (.aload_n 0, 1) := dk_42 (dk_at dksX6_at_3 20 rfl rfl)
theorem dX6_at_80 : decode cX6_at 80 = .ok (.getfield 7, 3) := dk_180 0 7 (dk_at dksX6_at_3 21 rfl rfl)
theorem dX6_at_83 : decode cX6_at 83 = .ok (.checkcast 25, 3) := dk_192 0 25 (dk_at dksX6_at_4 0 rfl rfl)
theorem dX6_at_86 : decode cX6_at 86 = .ok (.iload_n 1, 1) := dk_27 (dk_at dksX6_at_4 3 rfl rfl)
theorem dX6_at_87 : decode cX6_at 87 = .ok (.baload, 1) := dk_51 (dk_at dksX6_at_4 4 rfl rfl)
theorem dX6_at_88 : decode cX6_at 88 = .ok (.ifCond .eq 7, 3) := dk_153 0 7 (dk_at dksX6_at_4 5 rfl rfl)
theorem dX6_at_91 : decode cX6_at 91 = .ok (.lconst 1, 1) := dk_10 (dk_at dksX6_at_4 8 rfl rfl)
theorem dX6_at_92 : decode cX6_at 92 = .ok (.goto 4, 3) := dk_167 0 4 (dk_at dksX6_at_4 9 rfl rfl)
theorem dX6_at_95 : decode cX6_at 95 = .ok (.lconst 0, 1) := dk_9 (dk_at dksX6_at_4 12 rfl rfl)
theorem dX6_at_96 : decode cX6_at 96 = .ok (.lreturn, 1) := dk_173 (dk_at dksX6_at_4 13 rfl rfl)
abbrev cX6_becomes : ByteArray := prog_17_method_4_code
def yX6_becomes : MethodName := ⟨RX6, "becomes", "(II)V"⟩
def dkwX6_becomes_2 : List UInt8 := [188, 11, 167, 0, 6, 28, 188, 4, 181, 0, 7, 177]
abbrev dktX6_becomes_2 : List UInt8 := dkwX6_becomes_2 ++ []
def dkwX6_becomes_1 : List UInt8 := [28, 188, 9, 167, 0, 28, 27, 5, 160, 0, 9, 28, 188, 10, 167, 0, 17, 27, 6, 160, 0, 9, 28]
abbrev dktX6_becomes_1 : List UInt8 := dkwX6_becomes_1 ++ dktX6_becomes_2
def dkwX6_becomes_0 : List UInt8 := [42, 27, 156, 0, 7, 1, 167, 0, 49, 27, 154, 0, 9, 28, 188, 8, 167, 0, 39, 27, 4, 160, 0, 9]
abbrev dktX6_becomes_0 : List UInt8 := dkwX6_becomes_0 ++ dktX6_becomes_1
theorem dksX6_becomes_0 : cX6_becomes.data.toList.drop 0 = dktX6_becomes_0 := by decide +kernel
theorem dksX6_becomes_1 : cX6_becomes.data.toList.drop 24 = dktX6_becomes_1 := dk_seg dksX6_becomes_0 24 rfl rfl
theorem dksX6_becomes_2 : cX6_becomes.data.toList.drop 47 = dktX6_becomes_2 := dk_seg dksX6_becomes_1 23 rfl rfl
theorem dX6_becomes_0 : decode cX6_becomes 0 = .ok (.aload_n 0, 1) := dk_42 (dk_at dksX6_becomes_0 0 rfl rfl)
theorem dX6_becomes_1 : decode cX6_becomes 1 = .ok (.iload_n 1, 1) := dk_27 (dk_at dksX6_becomes_0 1 rfl rfl)
theorem dX6_becomes_2 : decode cX6_becomes 2 = .ok (.ifCond .ge 7, 3) := dk_156 0 7 (dk_at dksX6_becomes_0 2 rfl rfl)
theorem dX6_becomes_5 : decode cX6_becomes 5 = .ok (.aconst_null, 1) := dk_1 (dk_at dksX6_becomes_0 5 rfl rfl)
theorem dX6_becomes_6 : decode cX6_becomes 6 = .ok (.goto 49, 3) := dk_167 0 49 (dk_at dksX6_becomes_0 6 rfl rfl)
theorem dX6_becomes_9 : decode cX6_becomes 9 = .ok (.iload_n 1, 1) := dk_27 (dk_at dksX6_becomes_0 9 rfl rfl)
theorem dX6_becomes_10 : decode cX6_becomes 10 = .ok (.ifCond .ne 9, 3) := dk_154 0 9 (dk_at dksX6_becomes_0 10 rfl rfl)
theorem dX6_becomes_13 : decode cX6_becomes 13 = .ok (.iload_n 2, 1) := dk_28 (dk_at dksX6_becomes_0 13 rfl rfl)
theorem dX6_becomes_14 : decode cX6_becomes 14 = .ok (.newarray .byte, 2) := dk_188_8 (dk_at dksX6_becomes_0 14 rfl rfl)
theorem dX6_becomes_16 : decode cX6_becomes 16 = .ok (.goto 39, 3) := dk_167 0 39 (dk_at dksX6_becomes_0 16 rfl rfl)
theorem dX6_becomes_19 : decode cX6_becomes 19 = .ok (.iload_n 1, 1) := dk_27 (dk_at dksX6_becomes_0 19 rfl rfl)
theorem dX6_becomes_20 : decode cX6_becomes 20 = .ok (.iconst 1, 1) := dk_4 (dk_at dksX6_becomes_0 20 rfl rfl)
theorem dX6_becomes_21 : decode cX6_becomes 21 = .ok (.if_icmp .ne 9, 3) := dk_160 0 9 (dk_at dksX6_becomes_0 21 rfl rfl)
theorem dX6_becomes_24 : decode cX6_becomes 24 = .ok (.iload_n 2, 1) := dk_28 (dk_at dksX6_becomes_1 0 rfl rfl)
theorem dX6_becomes_25 : decode cX6_becomes 25 = .ok (.newarray .short, 2) := dk_188_9 (dk_at dksX6_becomes_1 1 rfl rfl)
theorem dX6_becomes_27 : decode cX6_becomes 27 = .ok (.goto 28, 3) := dk_167 0 28 (dk_at dksX6_becomes_1 3 rfl rfl)
theorem dX6_becomes_30 : decode cX6_becomes 30 = .ok (.iload_n 1, 1) := dk_27 (dk_at dksX6_becomes_1 6 rfl rfl)
theorem dX6_becomes_31 : decode cX6_becomes 31 = .ok (.iconst 2, 1) := dk_5 (dk_at dksX6_becomes_1 7 rfl rfl)
theorem dX6_becomes_32 : decode cX6_becomes 32 = .ok (.if_icmp .ne 9, 3) := dk_160 0 9 (dk_at dksX6_becomes_1 8 rfl rfl)
theorem dX6_becomes_35 : decode cX6_becomes 35 = .ok (.iload_n 2, 1) := dk_28 (dk_at dksX6_becomes_1 11 rfl rfl)
theorem dX6_becomes_36 : decode cX6_becomes 36 = .ok (.newarray .int, 2) := dk_188_10 (dk_at dksX6_becomes_1 12 rfl rfl)
theorem dX6_becomes_38 : decode cX6_becomes 38 = .ok (.goto 17, 3) := dk_167 0 17 (dk_at dksX6_becomes_1 14 rfl rfl)
theorem dX6_becomes_41 : decode cX6_becomes 41 = .ok (.iload_n 1, 1) := dk_27 (dk_at dksX6_becomes_1 17 rfl rfl)
theorem dX6_becomes_42 : decode cX6_becomes 42 = .ok (.iconst 3, 1) := dk_6 (dk_at dksX6_becomes_1 18 rfl rfl)
theorem dX6_becomes_43 : decode cX6_becomes 43 = .ok (.if_icmp .ne 9, 3) := dk_160 0 9 (dk_at dksX6_becomes_1 19 rfl rfl)
theorem dX6_becomes_46 : decode cX6_becomes 46 = .ok (.iload_n 2, 1) := dk_28 (dk_at dksX6_becomes_1 22 rfl rfl)
theorem dX6_becomes_47 : decode cX6_becomes 47 = .ok (.newarray .long, 2) := dk_188_11 (dk_at dksX6_becomes_2 0 rfl rfl)
theorem dX6_becomes_49 : decode cX6_becomes 49 = .ok (.goto 6, 3) := dk_167 0 6 (dk_at dksX6_becomes_2 2 rfl rfl)
theorem dX6_becomes_52 : decode cX6_becomes 52 = .ok (.iload_n 2, 1) := dk_28 (dk_at dksX6_becomes_2 5 rfl rfl)
theorem dX6_becomes_53 : decode cX6_becomes 53 = .ok (.newarray .boolean, 2) := dk_188_4 (dk_at dksX6_becomes_2 6 rfl rfl)
theorem dX6_becomes_55 : decode cX6_becomes 55 = .ok (.putfield 7, 3) := dk_181 0 7 (dk_at dksX6_becomes_2 8 rfl rfl)
theorem dX6_becomes_58 : decode cX6_becomes 58 = .ok (.return_, 1) := dk_177 (dk_at dksX6_becomes_2 11 rfl rfl)
abbrev cX6_puts : ByteArray := prog_17_method_5_code
def yX6_puts : MethodName := ⟨RX6, "puts", "(IJ)V"⟩
def dkwX6_puts_5 : List UInt8 := [167, 0, 4, 3, 84, 177]
abbrev dktX6_puts_5 : List UInt8 := dkwX6_puts_5 ++ []
def dkwX6_puts_4 : List UInt8 := [192, 0, 19, 27, 32, 80, 167, 0, 23, 42, 180, 0, 7, 192, 0, 25, 27, 32, 9, 148, 153, 0, 7, 4]
abbrev dktX6_puts_4 : List UInt8 := dkwX6_puts_4 ++ dktX6_puts_5
def dkwX6_puts_3 : List UInt8 := [136, 147, 86, 167, 0, 50, 42, 180, 0, 7, 192, 0, 17, 27, 32, 136, 79, 167, 0, 36, 42, 180, 0, 7]
abbrev dktX6_puts_3 : List UInt8 := dkwX6_puts_3 ++ dktX6_puts_4
def dkwX6_puts_2 : List UInt8 := [42, 180, 0, 7, 192, 0, 13, 27, 32, 136, 145, 84, 167, 0, 65, 42, 180, 0, 7, 192, 0, 15, 27, 32]
abbrev dktX6_puts_2 : List UInt8 := dkwX6_puts_2 ++ dktX6_puts_3
def dkwX6_puts_1 : List UInt8 := [170, 0, 0, 0, 0, 0, 0, 89, 0, 0, 0, 0, 0, 0, 0, 3, 0, 0, 0, 32, 0, 0, 0, 47, 0, 0, 0, 62, 0, 0, 0, 76]
abbrev dktX6_puts_1 : List UInt8 := dkwX6_puts_1 ++ dktX6_puts_2
def dkwX6_puts_0 : List UInt8 := [42, 182, 0, 21]
abbrev dktX6_puts_0 : List UInt8 := dkwX6_puts_0 ++ dktX6_puts_1
theorem dksX6_puts_0 : cX6_puts.data.toList.drop 0 = dktX6_puts_0 := by decide +kernel
theorem dksX6_puts_1 : cX6_puts.data.toList.drop 4 = dktX6_puts_1 := dk_seg dksX6_puts_0 4 rfl rfl
theorem dksX6_puts_2 : cX6_puts.data.toList.drop 36 = dktX6_puts_2 := dk_seg dksX6_puts_1 32 rfl rfl
theorem dksX6_puts_3 : cX6_puts.data.toList.drop 60 = dktX6_puts_3 := dk_seg dksX6_puts_2 24 rfl rfl
theorem dksX6_puts_4 : cX6_puts.data.toList.drop 84 = dktX6_puts_4 := dk_seg dksX6_puts_3 24 rfl rfl
theorem dksX6_puts_5 : cX6_puts.data.toList.drop 108 = dktX6_puts_5 := dk_seg dksX6_puts_4 24 rfl rfl
theorem dX6_puts_0 : decode cX6_puts 0 = .ok (.aload_n 0, 1) := dk_42 (dk_at dksX6_puts_0 0 rfl rfl)
theorem dX6_puts_1 : decode cX6_puts 1 = .ok (.invokevirtual 21, 3) := dk_182 0 21 (dk_at dksX6_puts_0 1 rfl rfl)
theorem dX6_puts_4 : decode cX6_puts 4 = .ok (.tableswitch 89 0 3 #[32, 47, 62, 76], 32) := by decide +kernel
theorem dX6_puts_36 : decode cX6_puts 36 = .ok (.aload_n 0, 1) := dk_42 (dk_at dksX6_puts_2 0 rfl rfl)
theorem dX6_puts_37 : decode cX6_puts 37 = .ok (.getfield 7, 3) := dk_180 0 7 (dk_at dksX6_puts_2 1 rfl rfl)
theorem dX6_puts_40 : decode cX6_puts 40 = .ok (.checkcast 13, 3) := dk_192 0 13 (dk_at dksX6_puts_2 4 rfl rfl)
theorem dX6_puts_43 : decode cX6_puts 43 = .ok (.iload_n 1, 1) := dk_27 (dk_at dksX6_puts_2 7 rfl rfl)
theorem dX6_puts_44 : decode cX6_puts 44 = .ok (.lload_n 2, 1) := dk_32 (dk_at dksX6_puts_2 8 rfl rfl)
theorem dX6_puts_45 : decode cX6_puts 45 = .ok (.l2i, 1) := dk_136 (dk_at dksX6_puts_2 9 rfl rfl)
theorem dX6_puts_46 : decode cX6_puts 46 = .ok (.i2b, 1) := dk_145 (dk_at dksX6_puts_2 10 rfl rfl)
theorem dX6_puts_47 : decode cX6_puts 47 = .ok (.bastore, 1) := dk_84 (dk_at dksX6_puts_2 11 rfl rfl)
theorem dX6_puts_48 : decode cX6_puts 48 = .ok (.goto 65, 3) := dk_167 0 65 (dk_at dksX6_puts_2 12 rfl rfl)
theorem dX6_puts_51 : decode cX6_puts 51 = .ok (.aload_n 0, 1) := dk_42 (dk_at dksX6_puts_2 15 rfl rfl)
theorem dX6_puts_52 : decode cX6_puts 52 = .ok (.getfield 7, 3) := dk_180 0 7 (dk_at dksX6_puts_2 16 rfl rfl)
theorem dX6_puts_55 : decode cX6_puts 55 = .ok (.checkcast 15, 3) := dk_192 0 15 (dk_at dksX6_puts_2 19 rfl rfl)
theorem dX6_puts_58 : decode cX6_puts 58 = .ok (.iload_n 1, 1) := dk_27 (dk_at dksX6_puts_2 22 rfl rfl)
theorem dX6_puts_59 : decode cX6_puts 59 = .ok (.lload_n 2, 1) := dk_32 (dk_at dksX6_puts_2 23 rfl rfl)
theorem dX6_puts_60 : decode cX6_puts 60 = .ok (.l2i, 1) := dk_136 (dk_at dksX6_puts_3 0 rfl rfl)
theorem dX6_puts_61 : decode cX6_puts 61 = .ok (.i2s, 1) := dk_147 (dk_at dksX6_puts_3 1 rfl rfl)
theorem dX6_puts_62 : decode cX6_puts 62 = .ok (.sastore, 1) := dk_86 (dk_at dksX6_puts_3 2 rfl rfl)
theorem dX6_puts_63 : decode cX6_puts 63 = .ok (.goto 50, 3) := dk_167 0 50 (dk_at dksX6_puts_3 3 rfl rfl)
theorem dX6_puts_66 : decode cX6_puts 66 = .ok (.aload_n 0, 1) := dk_42 (dk_at dksX6_puts_3 6 rfl rfl)
theorem dX6_puts_67 : decode cX6_puts 67 = .ok (.getfield 7, 3) := dk_180 0 7 (dk_at dksX6_puts_3 7 rfl rfl)
theorem dX6_puts_70 : decode cX6_puts 70 = .ok (.checkcast 17, 3) := dk_192 0 17 (dk_at dksX6_puts_3 10 rfl rfl)
theorem dX6_puts_73 : decode cX6_puts 73 = .ok (.iload_n 1, 1) := dk_27 (dk_at dksX6_puts_3 13 rfl rfl)
theorem dX6_puts_74 : decode cX6_puts 74 = .ok (.lload_n 2, 1) := dk_32 (dk_at dksX6_puts_3 14 rfl rfl)
theorem dX6_puts_75 : decode cX6_puts 75 = .ok (.l2i, 1) := dk_136 (dk_at dksX6_puts_3 15 rfl rfl)
theorem dX6_puts_76 : decode cX6_puts 76 = .ok (.iastore, 1) := dk_79 (dk_at dksX6_puts_3 16 rfl rfl)
theorem dX6_puts_77 : decode cX6_puts 77 = .ok (.goto 36, 3) := dk_167 0 36 (dk_at dksX6_puts_3 17 rfl rfl)
theorem dX6_puts_80 : decode cX6_puts 80 = .ok (.aload_n 0, 1) := dk_42 (dk_at dksX6_puts_3 20 rfl rfl)
theorem dX6_puts_81 : decode cX6_puts 81 = .ok (.getfield 7, 3) := dk_180 0 7 (dk_at dksX6_puts_3 21 rfl rfl)
theorem dX6_puts_84 : decode cX6_puts 84 = .ok (.checkcast 19, 3) := dk_192 0 19 (dk_at dksX6_puts_4 0 rfl rfl)
theorem dX6_puts_87 : decode cX6_puts 87 = .ok (.iload_n 1, 1) := dk_27 (dk_at dksX6_puts_4 3 rfl rfl)
theorem dX6_puts_88 : decode cX6_puts 88 = .ok (.lload_n 2, 1) := dk_32 (dk_at dksX6_puts_4 4 rfl rfl)
theorem dX6_puts_89 : decode cX6_puts 89 = .ok (.lastore, 1) := dk_80 (dk_at dksX6_puts_4 5 rfl rfl)
theorem dX6_puts_90 : decode cX6_puts 90 = .ok (.goto 23, 3) := dk_167 0 23 (dk_at dksX6_puts_4 6 rfl rfl)
theorem dX6_puts_93 : decode cX6_puts 93 = .ok (.aload_n 0, 1) := dk_42 (dk_at dksX6_puts_4 9 rfl rfl)
theorem dX6_puts_94 : decode cX6_puts 94 = .ok (.getfield 7, 3) := dk_180 0 7 (dk_at dksX6_puts_4 10 rfl rfl)
theorem dX6_puts_97 : decode cX6_puts 97 = .ok (.checkcast 25, 3) := dk_192 0 25 (dk_at dksX6_puts_4 13 rfl rfl)
theorem dX6_puts_100 : decode cX6_puts 100 = .ok (.iload_n 1, 1) := dk_27 (dk_at dksX6_puts_4 16 rfl rfl)
theorem dX6_puts_101 : decode cX6_puts 101 = .ok (.lload_n 2, 1) := dk_32 (dk_at dksX6_puts_4 17 rfl rfl)
theorem dX6_puts_102 : decode cX6_puts 102 = .ok (.lconst 0, 1) := dk_9 (dk_at dksX6_puts_4 18 rfl rfl)
theorem dX6_puts_103 : decode cX6_puts 103 = .ok (.lcmp, 1) := dk_148 (dk_at dksX6_puts_4 19 rfl rfl)
theorem dX6_puts_104 : decode cX6_puts 104 = .ok (.ifCond .eq 7, 3) := dk_153 0 7 (dk_at dksX6_puts_4 20 rfl rfl)
theorem dX6_puts_107 : decode cX6_puts 107 = .ok (.iconst 1, 1) := dk_4 (dk_at dksX6_puts_4 23 rfl rfl)
theorem dX6_puts_108 : decode cX6_puts 108 = .ok (.goto 4, 3) := dk_167 0 4 (dk_at dksX6_puts_5 0 rfl rfl)
theorem dX6_puts_111 : decode cX6_puts 111 = .ok (.iconst 0, 1) := dk_3 (dk_at dksX6_puts_5 3 rfl rfl)
theorem dX6_puts_112 : decode cX6_puts 112 = .ok (.bastore, 1) := dk_84 (dk_at dksX6_puts_5 4 rfl rfl)
theorem dX6_puts_113 : decode cX6_puts 113 = .ok (.return_, 1) := dk_177 (dk_at dksX6_puts_5 5 rfl rfl)
theorem q125 : (Jvm.Cond.initialized "WholePacks$Tape") ∈ lw_all := lw_g (lw_at lw_m1 12 rfl) rfl
theorem q409 : (Jvm.Cond.instantiable "WholePacks$Tape" (1 : Nat)) ∈ lw_all := lw_g (lw_at lw_m2 56 rfl) rfl
theorem q411 : (Jvm.Cond.instanceMethod ({ cls := "WholePacks$Tape", name := "<init>", desc := "()V" } : Jvm.MethodName)) ∈ lw_all := lw_g (lw_at lw_m2 58 rfl) rfl
theorem q412 : (Jvm.Cond.code ({ cls := "WholePacks$Tape", name := "<init>", desc := "()V" } : Jvm.MethodName) prog_17_method_1_code (1 : Nat) (Option.none : Option Jvm.ClassFile.FieldType)) ∈ lw_all := lw_g (lw_at lw_m2 59 rfl) rfl
theorem q413 : (Jvm.Cond.methodLink "WholePacks$Tape" (1 : Nat) ({ cls := "java/lang/Object", name := "<init>", desc := "()V" } : Jvm.MethodName)) ∈ lw_all := lw_g (lw_at lw_m2 60 rfl) rfl
theorem q414 : (Jvm.Cond.fieldLink "WholePacks$Tape" (7 : Nat) "WholePacks$Tape" "row" "Ljava/lang/Object;") ∈ lw_all := lw_g (lw_at lw_m2 61 rfl) rfl
theorem q416 : (Jvm.Cond.lays "WholePacks$Tape" "WholePacks$Tape" "row" "Ljava/lang/Object;") ∈ lw_all := lw_g (lw_at lw_m2 63 rfl) rfl
theorem q417 : (Jvm.Cond.soleField "WholePacks$Tape" "row") ∈ lw_all := lw_g (lw_at lw_m2 64 rfl) rfl
theorem q418 : (Jvm.Cond.superclass "WholePacks$Tape" "java/lang/Object") ∈ lw_all := lw_g (lw_at lw_m2 65 rfl) rfl
theorem q1049 : (Jvm.Cond.selects "WholePacks$Tape" ({ cls := "java/lang/Object", name := "getClass", desc := "()Ljava/lang/Class;" } : Jvm.MethodName) ({ cls := "java/lang/Object", name := "getClass", desc := "()Ljava/lang/Class;" } : Jvm.MethodName)) ∈ lw_all := lw_g (lw_at lw_m4 216 rfl) rfl
theorem q1631 : (Jvm.Cond.instanceMethod ({ cls := "WholePacks$Tape", name := "sort", desc := "()I" } : Jvm.MethodName)) ∈ lw_all := lw_g (lw_at lw_m7 78 rfl) rfl
theorem q1632 : (Jvm.Cond.selects "WholePacks$Tape" ({ cls := "WholePacks$Tape", name := "sort", desc := "()I" } : Jvm.MethodName) ({ cls := "WholePacks$Tape", name := "sort", desc := "()I" } : Jvm.MethodName)) ∈ lw_all := lw_g (lw_at lw_m7 79 rfl) rfl
theorem q1633 : (Jvm.Cond.code ({ cls := "WholePacks$Tape", name := "sort", desc := "()I" } : Jvm.MethodName) prog_17_method_2_code (1 : Nat) (Option.some Jvm.ClassFile.FieldType.int)) ∈ lw_all := lw_g (lw_at lw_m7 80 rfl) rfl
theorem q1634 : (Jvm.Cond.classLink "WholePacks$Tape" (13 : Nat) "[B") ∈ lw_all := lw_g (lw_at lw_m7 81 rfl) rfl
theorem q1635 : (Jvm.Cond.classLink "WholePacks$Tape" (15 : Nat) "[S") ∈ lw_all := lw_g (lw_at lw_m7 82 rfl) rfl
theorem q1636 : (Jvm.Cond.classLink "WholePacks$Tape" (17 : Nat) "[I") ∈ lw_all := lw_g (lw_at lw_m7 83 rfl) rfl
theorem q1637 : (Jvm.Cond.classLink "WholePacks$Tape" (19 : Nat) "[J") ∈ lw_all := lw_g (lw_at lw_m7 84 rfl) rfl
theorem q1639 : (Jvm.Cond.instanceMethod ({ cls := "WholePacks$Tape", name := "size", desc := "()I" } : Jvm.MethodName)) ∈ lw_all := lw_g (lw_at lw_m7 86 rfl) rfl
theorem q1640 : (Jvm.Cond.selects "WholePacks$Tape" ({ cls := "WholePacks$Tape", name := "size", desc := "()I" } : Jvm.MethodName) ({ cls := "WholePacks$Tape", name := "size", desc := "()I" } : Jvm.MethodName)) ∈ lw_all := lw_g (lw_at lw_m7 87 rfl) rfl
theorem q1641 : (Jvm.Cond.code ({ cls := "WholePacks$Tape", name := "size", desc := "()I" } : Jvm.MethodName) prog_17_method_3_code (1 : Nat) (Option.some Jvm.ClassFile.FieldType.int)) ∈ lw_all := lw_g (lw_at lw_m7 88 rfl) rfl
theorem q1642 : (Jvm.Cond.methodLink "WholePacks$Tape" (21 : Nat) ({ cls := "WholePacks$Tape", name := "sort", desc := "()I" } : Jvm.MethodName)) ∈ lw_all := lw_g (lw_at lw_m7 89 rfl) rfl
theorem q1643 : (Jvm.Cond.classLink "WholePacks$Tape" (25 : Nat) "[Z") ∈ lw_all := lw_g (lw_at lw_m7 90 rfl) rfl
theorem q1645 : (Jvm.Cond.instanceMethod ({ cls := "WholePacks$Tape", name := "at", desc := "(I)J" } : Jvm.MethodName)) ∈ lw_all := lw_g (lw_at lw_m7 92 rfl) rfl
theorem q1646 : (Jvm.Cond.selects "WholePacks$Tape" ({ cls := "WholePacks$Tape", name := "at", desc := "(I)J" } : Jvm.MethodName) ({ cls := "WholePacks$Tape", name := "at", desc := "(I)J" } : Jvm.MethodName)) ∈ lw_all := lw_g (lw_at lw_m7 93 rfl) rfl
theorem q1647 : (Jvm.Cond.code ({ cls := "WholePacks$Tape", name := "at", desc := "(I)J" } : Jvm.MethodName) prog_17_method_6_code (2 : Nat) (Option.some Jvm.ClassFile.FieldType.long)) ∈ lw_all := lw_g (lw_at lw_m7 94 rfl) rfl
theorem q1683 : (Jvm.Cond.instanceMethod ({ cls := "WholePacks$Tape", name := "becomes", desc := "(II)V" } : Jvm.MethodName)) ∈ lw_all := lw_g (lw_at lw_m7 130 rfl) rfl
theorem q1684 : (Jvm.Cond.selects "WholePacks$Tape" ({ cls := "WholePacks$Tape", name := "becomes", desc := "(II)V" } : Jvm.MethodName) ({ cls := "WholePacks$Tape", name := "becomes", desc := "(II)V" } : Jvm.MethodName)) ∈ lw_all := lw_g (lw_at lw_m7 131 rfl) rfl
theorem q1685 : (Jvm.Cond.code ({ cls := "WholePacks$Tape", name := "becomes", desc := "(II)V" } : Jvm.MethodName) prog_17_method_4_code (3 : Nat) (Option.none : Option Jvm.ClassFile.FieldType)) ∈ lw_all := lw_g (lw_at lw_m7 132 rfl) rfl
theorem q1712 : (Jvm.Cond.instanceMethod ({ cls := "WholePacks$Tape", name := "puts", desc := "(IJ)V" } : Jvm.MethodName)) ∈ lw_all := lw_g (lw_at lw_m7 159 rfl) rfl
theorem q1713 : (Jvm.Cond.selects "WholePacks$Tape" ({ cls := "WholePacks$Tape", name := "puts", desc := "(IJ)V" } : Jvm.MethodName) ({ cls := "WholePacks$Tape", name := "puts", desc := "(IJ)V" } : Jvm.MethodName)) ∈ lw_all := lw_g (lw_at lw_m7 160 rfl) rfl
theorem q1714 : (Jvm.Cond.code ({ cls := "WholePacks$Tape", name := "puts", desc := "(IJ)V" } : Jvm.MethodName) prog_17_method_5_code (4 : Nat) (Option.none : Option Jvm.ClassFile.FieldType)) ∈ lw_all := lw_g (lw_at lw_m7 161 rfl) rfl
theorem q2403 : (Jvm.Cond.castable "WholePacks$Tape" "java/lang/Object") ∈ lw_tbl := lw_at lw_m10 130 rfl
theorem in_X6 : ∀ w ∈ wsX60, w ∈ lw_all := lw_in wsX60 [416] (by decide +kernel) (by decide +kernel)
/-! WholePacks$Found -/
set_option maxRecDepth 100000
def RX7 : String := "WholePacks$Found"
def TX7 : u_T := fun k => match k with
  | 0 => ("WholePacks$Found", "cost", "I", false)
  | _ => ("WholePacks$Found", "code", "I", false)
def tyX7 : Nat → FieldType := fun k => match k with
  | 0 => .int
  | _ => .int
abbrev wsX70 : List Cond := u_ws RX7 TX7 2
theorem nmX7 : ∀ a, a < 2 → ∀ b, b < 2 → a ≠ b → (TX7 a).2.1 ≠ (TX7 b).2.1 := by decide +kernel
theorem tyX7_ok : ∀ k, k < 2 → parseFieldDescriptor (TX7 k).2.2.1 = some (tyX7 k) := by decide +kernel
abbrev cX7_init : ByteArray := prog_8_method_1_code
def yX7_init : MethodName := ⟨RX7, "<init>", "()V"⟩
theorem dX7_init_0 : decode cX7_init 0 = .ok (.aload_n 0, 1) := by decide +kernel
theorem dX7_init_1 : decode cX7_init 1 = .ok (.invokespecial 1, 3) := by decide +kernel
theorem dX7_init_4 : decode cX7_init 4 = .ok (.return_, 1) := by decide +kernel
abbrev cX7_is : ByteArray := prog_8_method_2_code
def yX7_is : MethodName := ⟨RX7, "is", "(II)V"⟩
def dkwX7_is_0 : List UInt8 := [42, 27, 181, 0, 7, 42, 28, 181, 0, 13, 177]
abbrev dktX7_is_0 : List UInt8 := dkwX7_is_0 ++ []
theorem dksX7_is_0 : cX7_is.data.toList.drop 0 = dktX7_is_0 := by decide +kernel
theorem dX7_is_0 : decode cX7_is 0 = .ok (.aload_n 0, 1) := dk_42 (dk_at dksX7_is_0 0 rfl rfl)
theorem dX7_is_1 : decode cX7_is 1 = .ok (.iload_n 1, 1) := dk_27 (dk_at dksX7_is_0 1 rfl rfl)
theorem dX7_is_2 : decode cX7_is 2 = .ok (.putfield 7, 3) := dk_181 0 7 (dk_at dksX7_is_0 2 rfl rfl)
theorem dX7_is_5 : decode cX7_is 5 = .ok (.aload_n 0, 1) := dk_42 (dk_at dksX7_is_0 5 rfl rfl)
theorem dX7_is_6 : decode cX7_is 6 = .ok (.iload_n 2, 1) := dk_28 (dk_at dksX7_is_0 6 rfl rfl)
theorem dX7_is_7 : decode cX7_is 7 = .ok (.putfield 13, 3) := dk_181 0 13 (dk_at dksX7_is_0 7 rfl rfl)
theorem dX7_is_10 : decode cX7_is 10 = .ok (.return_, 1) := dk_177 (dk_at dksX7_is_0 10 rfl rfl)
abbrev cX7_isBehind : ByteArray := prog_8_method_3_code
def yX7_isBehind : MethodName := ⟨RX7, "isBehind", "(II)Z"⟩
def dkwX7_isBehind_1 : List UInt8 := [4, 167, 0, 4, 3, 172]
abbrev dktX7_isBehind_1 : List UInt8 := dkwX7_isBehind_1 ++ []
def dkwX7_isBehind_0 : List UInt8 := [42, 180, 0, 7, 27, 163, 0, 19, 42, 180, 0, 7, 27, 160, 0, 15, 42, 180, 0, 13, 28, 164, 0, 7]
abbrev dktX7_isBehind_0 : List UInt8 := dkwX7_isBehind_0 ++ dktX7_isBehind_1
theorem dksX7_isBehind_0 : cX7_isBehind.data.toList.drop 0 = dktX7_isBehind_0 := by decide +kernel
theorem dksX7_isBehind_1 : cX7_isBehind.data.toList.drop 24 = dktX7_isBehind_1 := dk_seg dksX7_isBehind_0 24 rfl rfl
theorem dX7_isBehind_0 : decode cX7_isBehind 0 = .ok (.aload_n 0, 1) := dk_42 (dk_at dksX7_isBehind_0 0 rfl rfl)
theorem dX7_isBehind_1 : decode cX7_isBehind 1 = .ok (.getfield 7, 3) := dk_180 0 7 (dk_at dksX7_isBehind_0 1 rfl rfl)
theorem dX7_isBehind_4 : decode cX7_isBehind 4 = .ok (.iload_n 1, 1) := dk_27 (dk_at dksX7_isBehind_0 4 rfl rfl)
theorem dX7_isBehind_5 : decode cX7_isBehind 5 = .ok (.if_icmp .gt 19, 3) := dk_163 0 19 (dk_at dksX7_isBehind_0 5 rfl rfl)
theorem dX7_isBehind_8 : decode cX7_isBehind 8 = .ok (.aload_n 0, 1) := dk_42 (dk_at dksX7_isBehind_0 8 rfl rfl)
theorem dX7_isBehind_9 : decode cX7_isBehind 9 = .ok (.getfield 7, 3) := dk_180 0 7 (dk_at dksX7_isBehind_0 9 rfl rfl)
theorem dX7_isBehind_12 : decode cX7_isBehind 12 = .ok (.iload_n 1, 1) := dk_27 (dk_at dksX7_isBehind_0 12 rfl rfl)
theorem dX7_isBehind_13 : decode cX7_isBehind 13 = .ok (.if_icmp .ne 15, 3) := dk_160 0 15 (dk_at dksX7_isBehind_0 13 rfl rfl)
theorem dX7_isBehind_16 : decode cX7_isBehind 16 = .ok (.aload_n 0, 1) := dk_42 (dk_at dksX7_isBehind_0 16 rfl rfl)
theorem dX7_isBehind_17 : decode cX7_isBehind 17 = .ok (.getfield 13, 3) := dk_180 0 13 (dk_at dksX7_isBehind_0 17 rfl rfl)
theorem dX7_isBehind_20 : decode cX7_isBehind 20 = .ok (.iload_n 2, 1) := dk_28 (dk_at dksX7_isBehind_0 20 rfl rfl)
theorem dX7_isBehind_21 : decode cX7_isBehind 21 = .ok (.if_icmp .le 7, 3) := dk_164 0 7 (dk_at dksX7_isBehind_0 21 rfl rfl)
theorem dX7_isBehind_24 : decode cX7_isBehind 24 = .ok (.iconst 1, 1) := dk_4 (dk_at dksX7_isBehind_1 0 rfl rfl)
theorem dX7_isBehind_25 : decode cX7_isBehind 25 = .ok (.goto 4, 3) := dk_167 0 4 (dk_at dksX7_isBehind_1 1 rfl rfl)
theorem dX7_isBehind_28 : decode cX7_isBehind 28 = .ok (.iconst 0, 1) := dk_3 (dk_at dksX7_isBehind_1 4 rfl rfl)
theorem dX7_isBehind_29 : decode cX7_isBehind 29 = .ok (.ireturn, 1) := dk_172 (dk_at dksX7_isBehind_1 5 rfl rfl)
theorem q126 : (Jvm.Cond.initialized "WholePacks$Found") ∈ lw_all := lw_g (lw_at lw_m1 13 rfl) rfl
theorem q443 : (Jvm.Cond.instantiable "WholePacks$Found" (2 : Nat)) ∈ lw_all := lw_g (lw_at lw_m2 90 rfl) rfl
theorem q445 : (Jvm.Cond.instanceMethod ({ cls := "WholePacks$Found", name := "<init>", desc := "()V" } : Jvm.MethodName)) ∈ lw_all := lw_g (lw_at lw_m2 92 rfl) rfl
theorem q446 : (Jvm.Cond.code ({ cls := "WholePacks$Found", name := "<init>", desc := "()V" } : Jvm.MethodName) prog_8_method_1_code (1 : Nat) (Option.none : Option Jvm.ClassFile.FieldType)) ∈ lw_all := lw_g (lw_at lw_m2 93 rfl) rfl
theorem q447 : (Jvm.Cond.methodLink "WholePacks$Found" (1 : Nat) ({ cls := "java/lang/Object", name := "<init>", desc := "()V" } : Jvm.MethodName)) ∈ lw_all := lw_g (lw_at lw_m2 94 rfl) rfl
theorem q448 : (Jvm.Cond.fieldLink "WholePacks$Found" (7 : Nat) "WholePacks$Found" "cost" "I") ∈ lw_all := lw_g (lw_at lw_m2 95 rfl) rfl
theorem q450 : (Jvm.Cond.fieldLink "WholePacks$Found" (13 : Nat) "WholePacks$Found" "code" "I") ∈ lw_all := lw_g (lw_at lw_m2 97 rfl) rfl
theorem q453 : (Jvm.Cond.lays "WholePacks$Found" "WholePacks$Found" "cost" "I") ∈ lw_all := lw_g (lw_at lw_m2 100 rfl) rfl
theorem q454 : (Jvm.Cond.soleField "WholePacks$Found" "cost") ∈ lw_all := lw_g (lw_at lw_m2 101 rfl) rfl
theorem q455 : (Jvm.Cond.lays "WholePacks$Found" "WholePacks$Found" "code" "I") ∈ lw_all := lw_g (lw_at lw_m2 102 rfl) rfl
theorem q456 : (Jvm.Cond.soleField "WholePacks$Found" "code") ∈ lw_all := lw_g (lw_at lw_m2 103 rfl) rfl
theorem q457 : (Jvm.Cond.superclass "WholePacks$Found" "java/lang/Object") ∈ lw_all := lw_g (lw_at lw_m2 104 rfl) rfl
theorem q1005 : (Jvm.Cond.instanceMethod ({ cls := "WholePacks$Found", name := "is", desc := "(II)V" } : Jvm.MethodName)) ∈ lw_all := lw_g (lw_at lw_m4 172 rfl) rfl
theorem q1006 : (Jvm.Cond.selects "WholePacks$Found" ({ cls := "WholePacks$Found", name := "is", desc := "(II)V" } : Jvm.MethodName) ({ cls := "WholePacks$Found", name := "is", desc := "(II)V" } : Jvm.MethodName)) ∈ lw_all := lw_g (lw_at lw_m4 173 rfl) rfl
theorem q1007 : (Jvm.Cond.code ({ cls := "WholePacks$Found", name := "is", desc := "(II)V" } : Jvm.MethodName) prog_8_method_2_code (3 : Nat) (Option.none : Option Jvm.ClassFile.FieldType)) ∈ lw_all := lw_g (lw_at lw_m4 174 rfl) rfl
theorem q1042 : (Jvm.Cond.selects "WholePacks$Found" ({ cls := "java/lang/Object", name := "getClass", desc := "()Ljava/lang/Class;" } : Jvm.MethodName) ({ cls := "java/lang/Object", name := "getClass", desc := "()Ljava/lang/Class;" } : Jvm.MethodName)) ∈ lw_all := lw_g (lw_at lw_m4 209 rfl) rfl
theorem q1093 : (Jvm.Cond.instanceMethod ({ cls := "WholePacks$Found", name := "isBehind", desc := "(II)Z" } : Jvm.MethodName)) ∈ lw_all := lw_g (lw_at lw_m5 20 rfl) rfl
theorem q1094 : (Jvm.Cond.selects "WholePacks$Found" ({ cls := "WholePacks$Found", name := "isBehind", desc := "(II)Z" } : Jvm.MethodName) ({ cls := "WholePacks$Found", name := "isBehind", desc := "(II)Z" } : Jvm.MethodName)) ∈ lw_all := lw_g (lw_at lw_m5 21 rfl) rfl
theorem q1095 : (Jvm.Cond.code ({ cls := "WholePacks$Found", name := "isBehind", desc := "(II)Z" } : Jvm.MethodName) prog_8_method_3_code (3 : Nat) (Option.some Jvm.ClassFile.FieldType.boolean)) ∈ lw_all := lw_g (lw_at lw_m5 22 rfl) rfl
theorem q2401 : (Jvm.Cond.castable "WholePacks$Found" "java/lang/Object") ∈ lw_tbl := lw_at lw_m10 128 rfl
theorem in_X7 : ∀ w ∈ wsX70, w ∈ lw_all := lw_in wsX70 [453, 455] (by decide +kernel) (by decide +kernel)
/-! WholePacks$Node -/
set_option maxRecDepth 100000
def RX8 : String := "WholePacks$Node"
def TX8 : u_T := fun k => match k with
  | 0 => ("WholePacks$Node", "number", "I", true)
  | 1 => ("WholePacks$Node", "depth", "I", false)
  | 2 => ("WholePacks$Node", "base", "J", false)
  | 3 => ("WholePacks$Node", "below", "J", false)
  | 4 => ("WholePacks$Node", "broken", "I", false)
  | 5 => ("WholePacks$Node", "leasts", "[I", true)
  | 6 => ("WholePacks$Node", "mosts", "[I", true)
  | _ => ("WholePacks$Node", "amounts", "[I", true)
def tyX8 : Nat → FieldType := fun k => match k with
  | 0 => .int
  | 1 => .int
  | 2 => .long
  | 3 => .long
  | 4 => .int
  | 5 => .array .int
  | 6 => .array .int
  | _ => .array .int
abbrev wsX80 : List Cond := u_ws RX8 TX8 8
theorem nmX8 : ∀ a, a < 8 → ∀ b, b < 8 → a ≠ b → (TX8 a).2.1 ≠ (TX8 b).2.1 := by decide +kernel
theorem tyX8_ok : ∀ k, k < 8 → parseFieldDescriptor (TX8 k).2.2.1 = some (tyX8 k) := by decide +kernel
abbrev cX8_init : ByteArray := prog_12_method_1_code
def yX8_init : MethodName := ⟨RX8, "<init>", "(I)V"⟩
def dkwX8_init_1 : List UInt8 := [181, 0, 18, 42, 27, 181, 0, 21, 177]
abbrev dktX8_init_1 : List UInt8 := dkwX8_init_1 ++ []
def dkwX8_init_0 : List UInt8 := [42, 183, 0, 3, 42, 8, 188, 10, 181, 0, 9, 42, 8, 188, 10, 181, 0, 15, 42, 8, 188, 10]
abbrev dktX8_init_0 : List UInt8 := dkwX8_init_0 ++ dktX8_init_1
theorem dksX8_init_0 : cX8_init.data.toList.drop 0 = dktX8_init_0 := by decide +kernel
theorem dksX8_init_1 : cX8_init.data.toList.drop 22 = dktX8_init_1 := dk_seg dksX8_init_0 22 rfl rfl
theorem dX8_init_0 : decode cX8_init 0 = .ok (.aload_n 0, 1) := dk_42 (dk_at dksX8_init_0 0 rfl rfl)
theorem dX8_init_1 : decode cX8_init 1 = .ok (.invokespecial 3, 3) := dk_183 0 3 (dk_at dksX8_init_0 1 rfl rfl)
theorem dX8_init_4 : decode cX8_init 4 = .ok (.aload_n 0, 1) := dk_42 (dk_at dksX8_init_0 4 rfl rfl)
theorem dX8_init_5 : decode cX8_init 5 = .ok (.iconst 5, 1) := dk_8 (dk_at dksX8_init_0 5 rfl rfl)
theorem dX8_init_6 : decode cX8_init 6 = .ok (.newarray .int, 2) := dk_188_10 (dk_at dksX8_init_0 6 rfl rfl)
theorem dX8_init_8 : decode cX8_init 8 = .ok (.putfield 9, 3) := dk_181 0 9 (dk_at dksX8_init_0 8 rfl rfl)
theorem dX8_init_11 : decode cX8_init 11 = .ok (.aload_n 0, 1) := dk_42 (dk_at dksX8_init_0 11 rfl rfl)
theorem dX8_init_12 : decode cX8_init 12 = .ok (.iconst 5, 1) := dk_8 (dk_at dksX8_init_0 12 rfl rfl)
theorem dX8_init_13 : decode cX8_init 13 = .ok (.newarray .int, 2) := dk_188_10 (dk_at dksX8_init_0 13 rfl rfl)
theorem dX8_init_15 : decode cX8_init 15 = .ok (.putfield 15, 3) := dk_181 0 15 (dk_at dksX8_init_0 15 rfl rfl)
theorem dX8_init_18 : decode cX8_init 18 = .ok (.aload_n 0, 1) := dk_42 (dk_at dksX8_init_0 18 rfl rfl)
theorem dX8_init_19 : decode cX8_init 19 = .ok (.iconst 5, 1) := dk_8 (dk_at dksX8_init_0 19 rfl rfl)
theorem dX8_init_20 : decode cX8_init 20 = .ok (.newarray .int, 2) := dk_188_10 (dk_at dksX8_init_0 20 rfl rfl)
theorem dX8_init_22 : decode cX8_init 22 = .ok (.putfield 18, 3) := dk_181 0 18 (dk_at dksX8_init_1 0 rfl rfl)
theorem dX8_init_25 : decode cX8_init 25 = .ok (.aload_n 0, 1) := dk_42 (dk_at dksX8_init_1 3 rfl rfl)
theorem dX8_init_26 : decode cX8_init 26 = .ok (.iload_n 1, 1) := dk_27 (dk_at dksX8_init_1 4 rfl rfl)
theorem dX8_init_27 : decode cX8_init 27 = .ok (.putfield 21, 3) := dk_181 0 21 (dk_at dksX8_init_1 5 rfl rfl)
theorem dX8_init_30 : decode cX8_init 30 = .ok (.return_, 1) := dk_177 (dk_at dksX8_init_1 8 rfl rfl)
abbrev cX8_compareTo : ByteArray := prog_12_method_6_code
def yX8_compareTo : MethodName := ⟨RX8, "compareTo", "(Ljava/lang/Object;)I"⟩
def dkwX8_compareTo_0 : List UInt8 := [42, 43, 192, 0, 10, 182, 0, 59, 172]
abbrev dktX8_compareTo_0 : List UInt8 := dkwX8_compareTo_0 ++ []
theorem dksX8_compareTo_0 : cX8_compareTo.data.toList.drop 0 = dktX8_compareTo_0 := by decide +kernel
theorem dX8_compareTo_0 : decode cX8_compareTo 0 = .ok (.aload_n 0, 1) := dk_42 (dk_at dksX8_compareTo_0 0 rfl rfl)
theorem dX8_compareTo_1 : decode cX8_compareTo 1 = .ok (.aload_n 1, 1) := dk_43 (dk_at dksX8_compareTo_0 1 rfl rfl)
theorem dX8_compareTo_2 : decode cX8_compareTo 2 = .ok (.checkcast 10, 3) := dk_192 0 10 (dk_at dksX8_compareTo_0 2 rfl rfl)
theorem dX8_compareTo_5 : decode cX8_compareTo 5 = .ok (.invokevirtual 59, 3) := dk_182 0 59 (dk_at dksX8_compareTo_0 5 rfl rfl)
theorem dX8_compareTo_8 : decode cX8_compareTo 8 = .ok (.ireturn, 1) := dk_172 (dk_at dksX8_compareTo_0 8 rfl rfl)
abbrev cX8_compareTo_2 : ByteArray := prog_12_method_5_code
def yX8_compareTo_2 : MethodName := ⟨RX8, "compareTo", "(LWholePacks$Node;)I"⟩
def dkwX8_compareTo_2_3 : List UInt8 := [167, 0, 4, 4, 172]
abbrev dktX8_compareTo_2_3 : List UInt8 := dkwX8_compareTo_2_3 ++ []
def dkwX8_compareTo_2_2 : List UInt8 := [180, 0, 21, 162, 0, 7, 2, 167, 0, 19, 42, 180, 0, 21, 43, 180, 0, 21, 160, 0, 7, 3]
abbrev dktX8_compareTo_2_2 : List UInt8 := dkwX8_compareTo_2_2 ++ dktX8_compareTo_2_3
def dkwX8_compareTo_2_1 : List UInt8 := [148, 153, 0, 16, 32, 22, 4, 148, 156, 0, 7, 2, 167, 0, 4, 4, 172, 42, 180, 0, 21, 43]
abbrev dktX8_compareTo_2_1 : List UInt8 := dkwX8_compareTo_2_1 ++ dktX8_compareTo_2_2
def dkwX8_compareTo_2_0 : List UInt8 := [42, 180, 0, 40, 43, 180, 0, 44, 105, 65, 43, 180, 0, 40, 42, 180, 0, 44, 105, 55, 4, 32, 22, 4]
abbrev dktX8_compareTo_2_0 : List UInt8 := dkwX8_compareTo_2_0 ++ dktX8_compareTo_2_1
theorem dksX8_compareTo_2_0 : cX8_compareTo_2.data.toList.drop 0 = dktX8_compareTo_2_0 := by decide +kernel
theorem dksX8_compareTo_2_1 : cX8_compareTo_2.data.toList.drop 24 = dktX8_compareTo_2_1 := dk_seg dksX8_compareTo_2_0 24 rfl rfl
theorem dksX8_compareTo_2_2 : cX8_compareTo_2.data.toList.drop 46 = dktX8_compareTo_2_2 := dk_seg dksX8_compareTo_2_1 22 rfl rfl
theorem dksX8_compareTo_2_3 : cX8_compareTo_2.data.toList.drop 68 = dktX8_compareTo_2_3 := dk_seg dksX8_compareTo_2_2 22 rfl rfl
theorem dX8_compareTo_2_0 : decode cX8_compareTo_2 0 = .ok (.aload_n 0, 1) := dk_42 (dk_at dksX8_compareTo_2_0 0 rfl rfl)
theorem dX8_compareTo_2_1 : decode cX8_compareTo_2 1 = .ok (.getfield 40, 3) := dk_180 0 40 (dk_at dksX8_compareTo_2_0 1 rfl rfl)
theorem dX8_compareTo_2_4 : decode cX8_compareTo_2 4 = .ok (.aload_n 1, 1) := dk_43 (dk_at dksX8_compareTo_2_0 4 rfl rfl)
theorem dX8_compareTo_2_5 : decode cX8_compareTo_2 5 = .ok (.getfield 44, 3) := dk_180 0 44 (dk_at dksX8_compareTo_2_0 5 rfl rfl)
theorem dX8_compareTo_2_8 : decode cX8_compareTo_2 8 = .ok (.lmul, 1) := dk_105 (dk_at dksX8_compareTo_2_0 8 rfl rfl)
theorem dX8_compareTo_2_9 : decode cX8_compareTo_2 9 = .ok (.lstore_n 2, 1) := dk_65 (dk_at dksX8_compareTo_2_0 9 rfl rfl)
theorem dX8_compareTo_2_10 : decode cX8_compareTo_2 10 = .ok (.aload_n 1, 1) := dk_43 (dk_at dksX8_compareTo_2_0 10 rfl rfl)
theorem dX8_compareTo_2_11 : decode cX8_compareTo_2 11 = .ok (.getfield 40, 3) := dk_180 0 40 (dk_at dksX8_compareTo_2_0 11 rfl rfl)
theorem dX8_compareTo_2_14 : decode cX8_compareTo_2 14 = .ok (.aload_n 0, 1) := dk_42 (dk_at dksX8_compareTo_2_0 14 rfl rfl)
theorem dX8_compareTo_2_15 : decode cX8_compareTo_2 15 = .ok (.getfield 44, 3) := dk_180 0 44 (dk_at dksX8_compareTo_2_0 15 rfl rfl)
theorem dX8_compareTo_2_18 : decode cX8_compareTo_2 18 = .ok (.lmul, 1) := dk_105 (dk_at dksX8_compareTo_2_0 18 rfl rfl)
theorem dX8_compareTo_2_19 : decode cX8_compareTo_2 19 = .ok (.lstore 4, 2) := dk_55 4 (dk_at dksX8_compareTo_2_0 19 rfl rfl)
theorem dX8_compareTo_2_21 : decode cX8_compareTo_2 21 = .ok (.lload_n 2, 1) := dk_32 (dk_at dksX8_compareTo_2_0 21 rfl rfl)
theorem dX8_compareTo_2_22 : decode cX8_compareTo_2 22 = .ok (.lload 4, 2) := dk_22 4 (dk_at dksX8_compareTo_2_0 22 rfl rfl)
theorem dX8_compareTo_2_24 : decode cX8_compareTo_2 24 = .ok (.lcmp, 1) := dk_148 (dk_at dksX8_compareTo_2_1 0 rfl rfl)
theorem dX8_compareTo_2_25 : decode cX8_compareTo_2 25 = .ok (.ifCond .eq 16, 3) := dk_153 0 16 (dk_at dksX8_compareTo_2_1 1 rfl rfl)
theorem dX8_compareTo_2_28 : decode cX8_compareTo_2 28 = .ok (.lload_n 2, 1) := dk_32 (dk_at dksX8_compareTo_2_1 4 rfl rfl)
theorem dX8_compareTo_2_29 : decode cX8_compareTo_2 29 = .ok (.lload 4, 2) := dk_22 4 (dk_at dksX8_compareTo_2_1 5 rfl rfl)
theorem dX8_compareTo_2_31 : decode cX8_compareTo_2 31 = .ok (.lcmp, 1) := dk_148 (dk_at dksX8_compareTo_2_1 7 rfl rfl)
theorem dX8_compareTo_2_32 : decode cX8_compareTo_2 32 = .ok (.ifCond .ge 7, 3) := dk_156 0 7 (dk_at dksX8_compareTo_2_1 8 rfl rfl)
theorem dX8_compareTo_2_35 : decode cX8_compareTo_2 35 = .ok (.iconst (-1), 1) := dk_2 (dk_at dksX8_compareTo_2_1 11 rfl rfl)
theorem dX8_compareTo_2_36 : decode cX8_compareTo_2 36 = .ok (.goto 4, 3) := dk_167 0 4 (dk_at dksX8_compareTo_2_1 12 rfl rfl)
theorem dX8_compareTo_2_39 : decode cX8_compareTo_2 39 = .ok (.iconst 1, 1) := dk_4 (dk_at dksX8_compareTo_2_1 15 rfl rfl)
theorem dX8_compareTo_2_40 : decode cX8_compareTo_2 40 = .ok (.ireturn, 1) := dk_172 (dk_at dksX8_compareTo_2_1 16 rfl rfl)
theorem dX8_compareTo_2_41 : decode cX8_compareTo_2 41 = .ok (.aload_n 0, 1) := dk_42 (dk_at dksX8_compareTo_2_1 17 rfl rfl)
theorem dX8_compareTo_2_42 : decode cX8_compareTo_2 42 = .ok (.getfield 21, 3) := dk_180 0 21 (dk_at dksX8_compareTo_2_1 18 rfl rfl)
theorem dX8_compareTo_2_45 : decode cX8_compareTo_2 45 = .ok (.aload_n 1, 1) := dk_43 (dk_at dksX8_compareTo_2_1 21 rfl rfl)
theorem dX8_compareTo_2_46 : decode cX8_compareTo_2 46 = .ok (.getfield 21, 3) := dk_180 0 21 (dk_at dksX8_compareTo_2_2 0 rfl rfl)
theorem dX8_compareTo_2_49 : decode cX8_compareTo_2 49 = .ok (.if_icmp .ge 7, 3) := dk_162 0 7 (dk_at dksX8_compareTo_2_2 3 rfl rfl)
theorem dX8_compareTo_2_52 : decode cX8_compareTo_2 52 = .ok (.iconst (-1), 1) := dk_2 (dk_at dksX8_compareTo_2_2 6 rfl rfl)
theorem dX8_compareTo_2_53 : decode cX8_compareTo_2 53 = .ok (.goto 19, 3) := dk_167 0 19 (dk_at dksX8_compareTo_2_2 7 rfl rfl)
theorem dX8_compareTo_2_56 : decode cX8_compareTo_2 56 = .ok (.aload_n 0, 1) := dk_42 (dk_at dksX8_compareTo_2_2 10 rfl rfl)
theorem dX8_compareTo_2_57 : decode cX8_compareTo_2 57 = .ok (.getfield 21, 3) := dk_180 0 21 (dk_at dksX8_compareTo_2_2 11 rfl rfl)
theorem dX8_compareTo_2_60 : decode cX8_compareTo_2 60 = .ok (.aload_n 1, 1) := dk_43 (dk_at dksX8_compareTo_2_2 14 rfl rfl)
theorem dX8_compareTo_2_61 : decode cX8_compareTo_2 61 = .ok (.getfield 21, 3) := dk_180 0 21 (dk_at dksX8_compareTo_2_2 15 rfl rfl)
theorem dX8_compareTo_2_64 : decode cX8_compareTo_2 64 = .ok (.if_icmp .ne 7, 3) := dk_160 0 7 (dk_at dksX8_compareTo_2_2 18 rfl rfl)
theorem dX8_compareTo_2_67 : decode cX8_compareTo_2 67 = .ok (.iconst 0, 1) := dk_3 (dk_at dksX8_compareTo_2_2 21 rfl rfl)
theorem dX8_compareTo_2_68 : decode cX8_compareTo_2 68 = .ok (.goto 4, 3) := dk_167 0 4 (dk_at dksX8_compareTo_2_3 0 rfl rfl)
theorem dX8_compareTo_2_71 : decode cX8_compareTo_2 71 = .ok (.iconst 1, 1) := dk_4 (dk_at dksX8_compareTo_2_3 3 rfl rfl)
theorem dX8_compareTo_2_72 : decode cX8_compareTo_2 72 = .ok (.ireturn, 1) := dk_172 (dk_at dksX8_compareTo_2_3 4 rfl rfl)
abbrev cX8_begins : ByteArray := prog_12_method_2_code
def yX8_begins : MethodName := ⟨RX8, "begins", "()V"⟩
def dkwX8_begins_1 : List UInt8 := [2, 79, 132, 1, 1, 167, 255, 234, 177]
abbrev dktX8_begins_1 : List UInt8 := dkwX8_begins_1 ++ []
def dkwX8_begins_0 : List UInt8 := [42, 3, 181, 0, 25, 3, 60, 27, 8, 162, 0, 23, 42, 180, 0, 9, 27, 3, 79, 42, 180, 0, 15, 27]
abbrev dktX8_begins_0 : List UInt8 := dkwX8_begins_0 ++ dktX8_begins_1
theorem dksX8_begins_0 : cX8_begins.data.toList.drop 0 = dktX8_begins_0 := by decide +kernel
theorem dksX8_begins_1 : cX8_begins.data.toList.drop 24 = dktX8_begins_1 := dk_seg dksX8_begins_0 24 rfl rfl
theorem dX8_begins_0 : decode cX8_begins 0 = .ok (.aload_n 0, 1) := dk_42 (dk_at dksX8_begins_0 0 rfl rfl)
theorem dX8_begins_1 : decode cX8_begins 1 = .ok (.iconst 0, 1) := dk_3 (dk_at dksX8_begins_0 1 rfl rfl)
theorem dX8_begins_2 : decode cX8_begins 2 = .ok (.putfield 25, 3) := dk_181 0 25 (dk_at dksX8_begins_0 2 rfl rfl)
theorem dX8_begins_5 : decode cX8_begins 5 = .ok (.iconst 0, 1) := dk_3 (dk_at dksX8_begins_0 5 rfl rfl)
theorem dX8_begins_6 : decode cX8_begins 6 = .ok (.istore_n 1, 1) := dk_60 (dk_at dksX8_begins_0 6 rfl rfl)
theorem dX8_begins_7 : decode cX8_begins 7 = .ok (.iload_n 1, 1) := dk_27 (dk_at dksX8_begins_0 7 rfl rfl)
theorem dX8_begins_8 : decode cX8_begins 8 = .ok (.iconst 5, 1) := dk_8 (dk_at dksX8_begins_0 8 rfl rfl)
theorem dX8_begins_9 : decode cX8_begins 9 = .ok (.if_icmp .ge 23, 3) := dk_162 0 23 (dk_at dksX8_begins_0 9 rfl rfl)
theorem dX8_begins_12 : decode cX8_begins 12 = .ok (.aload_n 0, 1) := dk_42 (dk_at dksX8_begins_0 12 rfl rfl)
theorem dX8_begins_13 : decode cX8_begins 13 = .ok (.getfield 9, 3) := dk_180 0 9 (dk_at dksX8_begins_0 13 rfl rfl)
theorem dX8_begins_16 : decode cX8_begins 16 = .ok (.iload_n 1, 1) := dk_27 (dk_at dksX8_begins_0 16 rfl rfl)
theorem dX8_begins_17 : decode cX8_begins 17 = .ok (.iconst 0, 1) := dk_3 (dk_at dksX8_begins_0 17 rfl rfl)
theorem dX8_begins_18 : decode cX8_begins 18 = .ok (.iastore, 1) := dk_79 (dk_at dksX8_begins_0 18 rfl rfl)
theorem dX8_begins_19 : decode cX8_begins 19 = .ok (.aload_n 0, 1) := dk_42 (dk_at dksX8_begins_0 19 rfl rfl)
theorem dX8_begins_20 : decode cX8_begins 20 = .ok (.getfield 15, 3) := dk_180 0 15 (dk_at dksX8_begins_0 20 rfl rfl)
theorem dX8_begins_23 : decode cX8_begins 23 = .ok (.iload_n 1, 1) := dk_27 (dk_at dksX8_begins_0 23 rfl rfl)
theorem dX8_begins_24 : decode cX8_begins 24 = .ok (.iconst (-1), 1) := dk_2 (dk_at dksX8_begins_1 0 rfl rfl)
theorem dX8_begins_25 : decode cX8_begins 25 = .ok (.iastore, 1) := dk_79 (dk_at dksX8_begins_1 1 rfl rfl)
theorem dX8_begins_26 : decode cX8_begins 26 = .ok (.iinc 1 1, 3) := dk_132 1 1 (dk_at dksX8_begins_1 2 rfl rfl)
theorem dX8_begins_29 : decode cX8_begins 29 = .ok (.goto (-22), 3) := dk_167 255 234 (dk_at dksX8_begins_1 5 rfl rfl)
theorem dX8_begins_32 : decode cX8_begins 32 = .ok (.return_, 1) := dk_177 (dk_at dksX8_begins_1 8 rfl rfl)
abbrev cX8_reads : ByteArray := prog_12_method_4_code
def yX8_reads : MethodName := ⟨RX8, "reads", "(LWholePacks$Table;)V"⟩
def dkwX8_reads_2 : List UInt8 := [109, 136, 79, 132, 2, 1, 167, 255, 228, 177]
abbrev dktX8_reads_2 : List UInt8 := dkwX8_reads_2 ++ []
def dkwX8_reads_1 : List UInt8 := [3, 61, 28, 43, 180, 0, 52, 162, 0, 26, 42, 180, 0, 18, 28, 43, 28, 182, 0, 55, 43, 180, 0, 41]
abbrev dktX8_reads_1 : List UInt8 := dkwX8_reads_1 ++ dktX8_reads_2
def dkwX8_reads_0 : List UInt8 := [42, 43, 180, 0, 34, 181, 0, 40, 42, 43, 180, 0, 41, 181, 0, 44, 42, 43, 182, 0, 45, 181, 0, 49]
abbrev dktX8_reads_0 : List UInt8 := dkwX8_reads_0 ++ dktX8_reads_1
theorem dksX8_reads_0 : cX8_reads.data.toList.drop 0 = dktX8_reads_0 := by decide +kernel
theorem dksX8_reads_1 : cX8_reads.data.toList.drop 24 = dktX8_reads_1 := dk_seg dksX8_reads_0 24 rfl rfl
theorem dksX8_reads_2 : cX8_reads.data.toList.drop 48 = dktX8_reads_2 := dk_seg dksX8_reads_1 24 rfl rfl
theorem dX8_reads_0 : decode cX8_reads 0 = .ok (.aload_n 0, 1) := dk_42 (dk_at dksX8_reads_0 0 rfl rfl)
theorem dX8_reads_1 : decode cX8_reads 1 = .ok (.aload_n 1, 1) := dk_43 (dk_at dksX8_reads_0 1 rfl rfl)
theorem dX8_reads_2 : decode cX8_reads 2 = .ok (.getfield 34, 3) := dk_180 0 34 (dk_at dksX8_reads_0 2 rfl rfl)
theorem dX8_reads_5 : decode cX8_reads 5 = .ok (.putfield 40, 3) := dk_181 0 40 (dk_at dksX8_reads_0 5 rfl rfl)
theorem dX8_reads_8 : decode cX8_reads 8 = .ok (.aload_n 0, 1) := dk_42 (dk_at dksX8_reads_0 8 rfl rfl)
theorem dX8_reads_9 : decode cX8_reads 9 = .ok (.aload_n 1, 1) := dk_43 (dk_at dksX8_reads_0 9 rfl rfl)
theorem dX8_reads_10 : decode cX8_reads 10 = .ok (.getfield 41, 3) := dk_180 0 41 (dk_at dksX8_reads_0 10 rfl rfl)
theorem dX8_reads_13 : decode cX8_reads 13 = .ok (.putfield 44, 3) := dk_181 0 44 (dk_at dksX8_reads_0 13 rfl rfl)
theorem dX8_reads_16 : decode cX8_reads 16 = .ok (.aload_n 0, 1) := dk_42 (dk_at dksX8_reads_0 16 rfl rfl)
theorem dX8_reads_17 : decode cX8_reads 17 = .ok (.aload_n 1, 1) := dk_43 (dk_at dksX8_reads_0 17 rfl rfl)
theorem dX8_reads_18 : decode cX8_reads 18 = .ok (.invokevirtual 45, 3) := dk_182 0 45 (dk_at dksX8_reads_0 18 rfl rfl)
theorem dX8_reads_21 : decode cX8_reads 21 = .ok (.putfield 49, 3) := dk_181 0 49 (dk_at dksX8_reads_0 21 rfl rfl)
theorem dX8_reads_24 : decode cX8_reads 24 = .ok (.iconst 0, 1) := dk_3 (dk_at dksX8_reads_1 0 rfl rfl)
theorem dX8_reads_25 : decode cX8_reads 25 = .ok (.istore_n 2, 1) := dk_61 (dk_at dksX8_reads_1 1 rfl rfl)
theorem dX8_reads_26 : decode cX8_reads 26 = .ok (.iload_n 2, 1) := dk_28 (dk_at dksX8_reads_1 2 rfl rfl)
theorem dX8_reads_27 : decode cX8_reads 27 = .ok (.aload_n 1, 1) := dk_43 (dk_at dksX8_reads_1 3 rfl rfl)
theorem dX8_reads_28 : decode cX8_reads 28 = .ok (.getfield 52, 3) := dk_180 0 52 (dk_at dksX8_reads_1 4 rfl rfl)
theorem dX8_reads_31 : decode cX8_reads 31 = .ok (.if_icmp .ge 26, 3) := dk_162 0 26 (dk_at dksX8_reads_1 7 rfl rfl)
theorem dX8_reads_34 : decode cX8_reads 34 = .ok (.aload_n 0, 1) := dk_42 (dk_at dksX8_reads_1 10 rfl rfl)
theorem dX8_reads_35 : decode cX8_reads 35 = .ok (.getfield 18, 3) := dk_180 0 18 (dk_at dksX8_reads_1 11 rfl rfl)
theorem dX8_reads_38 : decode cX8_reads 38 = .ok (.iload_n 2, 1) := dk_28 (dk_at dksX8_reads_1 14 rfl rfl)
theorem dX8_reads_39 : decode cX8_reads 39 = .ok (.aload_n 1, 1) := dk_43 (dk_at dksX8_reads_1 15 rfl rfl)
theorem dX8_reads_40 : decode cX8_reads 40 = .ok (.iload_n 2, 1) := dk_28 (dk_at dksX8_reads_1 16 rfl rfl)
theorem dX8_reads_41 : decode cX8_reads 41 = .ok (.invokevirtual 55, 3) := dk_182 0 55 (dk_at dksX8_reads_1 17 rfl rfl)
theorem dX8_reads_44 : decode cX8_reads 44 = .ok (.aload_n 1, 1) := dk_43 (dk_at dksX8_reads_1 20 rfl rfl)
theorem dX8_reads_45 : decode cX8_reads 45 = .ok (.getfield 41, 3) := dk_180 0 41 (dk_at dksX8_reads_1 21 rfl rfl)
theorem dX8_reads_48 : decode cX8_reads 48 = .ok (.ldiv, 1) := dk_109 (dk_at dksX8_reads_2 0 rfl rfl)
theorem dX8_reads_49 : decode cX8_reads 49 = .ok (.l2i, 1) := dk_136 (dk_at dksX8_reads_2 1 rfl rfl)
theorem dX8_reads_50 : decode cX8_reads 50 = .ok (.iastore, 1) := dk_79 (dk_at dksX8_reads_2 2 rfl rfl)
theorem dX8_reads_51 : decode cX8_reads 51 = .ok (.iinc 2 1, 3) := dk_132 2 1 (dk_at dksX8_reads_2 3 rfl rfl)
theorem dX8_reads_54 : decode cX8_reads 54 = .ok (.goto (-28), 3) := dk_167 255 228 (dk_at dksX8_reads_2 6 rfl rfl)
theorem dX8_reads_57 : decode cX8_reads 57 = .ok (.return_, 1) := dk_177 (dk_at dksX8_reads_2 9 rfl rfl)
abbrev cX8_begins_2 : ByteArray := prog_12_method_3_code
def yX8_begins_2 : MethodName := ⟨RX8, "begins", "(LWholePacks$Node;)V"⟩
def dkwX8_begins_2_1 : List UInt8 := [43, 180, 0, 15, 3, 42, 180, 0, 15, 3, 8, 184, 0, 28, 177]
abbrev dktX8_begins_2_1 : List UInt8 := dkwX8_begins_2_1 ++ []
def dkwX8_begins_2_0 : List UInt8 := [42, 43, 180, 0, 25, 4, 96, 181, 0, 25, 43, 180, 0, 9, 3, 42, 180, 0, 9, 3, 8, 184, 0, 28]
abbrev dktX8_begins_2_0 : List UInt8 := dkwX8_begins_2_0 ++ dktX8_begins_2_1
theorem dksX8_begins_2_0 : cX8_begins_2.data.toList.drop 0 = dktX8_begins_2_0 := by decide +kernel
theorem dksX8_begins_2_1 : cX8_begins_2.data.toList.drop 24 = dktX8_begins_2_1 := dk_seg dksX8_begins_2_0 24 rfl rfl
theorem dX8_begins_2_0 : decode cX8_begins_2 0 = .ok (.aload_n 0, 1) := dk_42 (dk_at dksX8_begins_2_0 0 rfl rfl)
theorem dX8_begins_2_1 : decode cX8_begins_2 1 = .ok (.aload_n 1, 1) := dk_43 (dk_at dksX8_begins_2_0 1 rfl rfl)
theorem dX8_begins_2_2 : decode cX8_begins_2 2 = .ok (.getfield 25, 3) := dk_180 0 25 (dk_at dksX8_begins_2_0 2 rfl rfl)
theorem dX8_begins_2_5 : decode cX8_begins_2 5 = .ok (.iconst 1, 1) := dk_4 (dk_at dksX8_begins_2_0 5 rfl rfl)
theorem dX8_begins_2_6 : decode cX8_begins_2 6 = .ok (.iadd, 1) := dk_96 (dk_at dksX8_begins_2_0 6 rfl rfl)
theorem dX8_begins_2_7 : decode cX8_begins_2 7 = .ok (.putfield 25, 3) := dk_181 0 25 (dk_at dksX8_begins_2_0 7 rfl rfl)
theorem dX8_begins_2_10 : decode cX8_begins_2 10 = .ok (.aload_n 1, 1) := dk_43 (dk_at dksX8_begins_2_0 10 rfl rfl)
theorem dX8_begins_2_11 : decode cX8_begins_2 11 = .ok (.getfield 9, 3) := dk_180 0 9 (dk_at dksX8_begins_2_0 11 rfl rfl)
theorem dX8_begins_2_14 : decode cX8_begins_2 14 = .ok (.iconst 0, 1) := dk_3 (dk_at dksX8_begins_2_0 14 rfl rfl)
theorem dX8_begins_2_15 : decode cX8_begins_2 15 = .ok (.aload_n 0, 1) := dk_42 (dk_at dksX8_begins_2_0 15 rfl rfl)
theorem dX8_begins_2_16 : decode cX8_begins_2 16 = .ok (.getfield 9, 3) := dk_180 0 9 (dk_at dksX8_begins_2_0 16 rfl rfl)
theorem dX8_begins_2_19 : decode cX8_begins_2 19 = .ok (.iconst 0, 1) := dk_3 (dk_at dksX8_begins_2_0 19 rfl rfl)
theorem dX8_begins_2_20 : decode cX8_begins_2 20 = .ok (.iconst 5, 1) := dk_8 (dk_at dksX8_begins_2_0 20 rfl rfl)
theorem dX8_begins_2_21 : decode cX8_begins_2 21 = .ok (.invokestatic 28, 3) := dk_184 0 28 (dk_at dksX8_begins_2_0 21 rfl rfl)
theorem dX8_begins_2_24 : decode cX8_begins_2 24 = .ok (.aload_n 1, 1) := dk_43 (dk_at dksX8_begins_2_1 0 rfl rfl)
theorem dX8_begins_2_25 : decode cX8_begins_2 25 = .ok (.getfield 15, 3) := dk_180 0 15 (dk_at dksX8_begins_2_1 1 rfl rfl)
theorem dX8_begins_2_28 : decode cX8_begins_2 28 = .ok (.iconst 0, 1) := dk_3 (dk_at dksX8_begins_2_1 4 rfl rfl)
theorem dX8_begins_2_29 : decode cX8_begins_2 29 = .ok (.aload_n 0, 1) := dk_42 (dk_at dksX8_begins_2_1 5 rfl rfl)
theorem dX8_begins_2_30 : decode cX8_begins_2 30 = .ok (.getfield 15, 3) := dk_180 0 15 (dk_at dksX8_begins_2_1 6 rfl rfl)
theorem dX8_begins_2_33 : decode cX8_begins_2 33 = .ok (.iconst 0, 1) := dk_3 (dk_at dksX8_begins_2_1 9 rfl rfl)
theorem dX8_begins_2_34 : decode cX8_begins_2 34 = .ok (.iconst 5, 1) := dk_8 (dk_at dksX8_begins_2_1 10 rfl rfl)
theorem dX8_begins_2_35 : decode cX8_begins_2 35 = .ok (.invokestatic 28, 3) := dk_184 0 28 (dk_at dksX8_begins_2_1 11 rfl rfl)
theorem dX8_begins_2_38 : decode cX8_begins_2 38 = .ok (.return_, 1) := dk_177 (dk_at dksX8_begins_2_1 14 rfl rfl)
theorem q127 : (Jvm.Cond.initialized "WholePacks$Node") ∈ lw_all := lw_g (lw_at lw_m1 14 rfl) rfl
theorem q274 : (Jvm.Cond.fieldLinkNest "WholePacks$Node" (52 : Nat) "WholePacks$Table" "n" "I" "WholePacks") ∈ lw_tbl := lw_at lw_m1 161 rfl
theorem q282 : (Jvm.Cond.fieldLinkNest "WholePacks$Node" (41 : Nat) "WholePacks$Table" "below" "J" "WholePacks") ∈ lw_tbl := lw_at lw_m1 169 rfl
theorem q285 : (Jvm.Cond.fieldLinkNest "WholePacks$Node" (34 : Nat) "WholePacks$Table" "base" "J" "WholePacks") ∈ lw_tbl := lw_at lw_m1 172 rfl
theorem q458 : (Jvm.Cond.instantiable "WholePacks$Node" (8 : Nat)) ∈ lw_all := lw_g (lw_at lw_m2 105 rfl) rfl
theorem q460 : (Jvm.Cond.instanceMethod ({ cls := "WholePacks$Node", name := "<init>", desc := "(I)V" } : Jvm.MethodName)) ∈ lw_all := lw_g (lw_at lw_m2 107 rfl) rfl
theorem q461 : (Jvm.Cond.code ({ cls := "WholePacks$Node", name := "<init>", desc := "(I)V" } : Jvm.MethodName) prog_12_method_1_code (2 : Nat) (Option.none : Option Jvm.ClassFile.FieldType)) ∈ lw_all := lw_g (lw_at lw_m2 108 rfl) rfl
theorem q462 : (Jvm.Cond.methodLink "WholePacks$Node" (3 : Nat) ({ cls := "java/lang/Object", name := "<init>", desc := "()V" } : Jvm.MethodName)) ∈ lw_all := lw_g (lw_at lw_m2 109 rfl) rfl
theorem q463 : (Jvm.Cond.fieldLink "WholePacks$Node" (21 : Nat) "WholePacks$Node" "number" "I") ∈ lw_all := lw_g (lw_at lw_m2 110 rfl) rfl
theorem q464 : (Jvm.Cond.fieldLink "WholePacks$Node" (25 : Nat) "WholePacks$Node" "depth" "I") ∈ lw_all := lw_g (lw_at lw_m2 111 rfl) rfl
theorem q466 : (Jvm.Cond.fieldLink "WholePacks$Node" (40 : Nat) "WholePacks$Node" "base" "J") ∈ lw_all := lw_g (lw_at lw_m2 113 rfl) rfl
theorem q468 : (Jvm.Cond.fieldLink "WholePacks$Node" (44 : Nat) "WholePacks$Node" "below" "J") ∈ lw_all := lw_g (lw_at lw_m2 115 rfl) rfl
theorem q470 : (Jvm.Cond.fieldLink "WholePacks$Node" (49 : Nat) "WholePacks$Node" "broken" "I") ∈ lw_all := lw_g (lw_at lw_m2 117 rfl) rfl
theorem q472 : (Jvm.Cond.fieldLink "WholePacks$Node" (9 : Nat) "WholePacks$Node" "leasts" "[I") ∈ lw_all := lw_g (lw_at lw_m2 119 rfl) rfl
theorem q474 : (Jvm.Cond.fieldLink "WholePacks$Node" (15 : Nat) "WholePacks$Node" "mosts" "[I") ∈ lw_all := lw_g (lw_at lw_m2 121 rfl) rfl
theorem q476 : (Jvm.Cond.fieldLink "WholePacks$Node" (18 : Nat) "WholePacks$Node" "amounts" "[I") ∈ lw_all := lw_g (lw_at lw_m2 123 rfl) rfl
theorem q478 : (Jvm.Cond.laysFinal "WholePacks$Node" "WholePacks$Node" "number" "I") ∈ lw_all := lw_g (lw_at lw_m2 125 rfl) rfl
theorem q479 : (Jvm.Cond.soleField "WholePacks$Node" "number") ∈ lw_all := lw_g (lw_at lw_m2 126 rfl) rfl
theorem q480 : (Jvm.Cond.lays "WholePacks$Node" "WholePacks$Node" "depth" "I") ∈ lw_all := lw_g (lw_at lw_m2 127 rfl) rfl
theorem q481 : (Jvm.Cond.soleField "WholePacks$Node" "depth") ∈ lw_all := lw_g (lw_at lw_m2 128 rfl) rfl
theorem q482 : (Jvm.Cond.lays "WholePacks$Node" "WholePacks$Node" "base" "J") ∈ lw_all := lw_g (lw_at lw_m2 129 rfl) rfl
theorem q483 : (Jvm.Cond.soleField "WholePacks$Node" "base") ∈ lw_all := lw_g (lw_at lw_m2 130 rfl) rfl
theorem q484 : (Jvm.Cond.lays "WholePacks$Node" "WholePacks$Node" "below" "J") ∈ lw_all := lw_g (lw_at lw_m2 131 rfl) rfl
theorem q485 : (Jvm.Cond.soleField "WholePacks$Node" "below") ∈ lw_all := lw_g (lw_at lw_m2 132 rfl) rfl
theorem q486 : (Jvm.Cond.lays "WholePacks$Node" "WholePacks$Node" "broken" "I") ∈ lw_all := lw_g (lw_at lw_m2 133 rfl) rfl
theorem q487 : (Jvm.Cond.soleField "WholePacks$Node" "broken") ∈ lw_all := lw_g (lw_at lw_m2 134 rfl) rfl
theorem q488 : (Jvm.Cond.laysFinal "WholePacks$Node" "WholePacks$Node" "leasts" "[I") ∈ lw_all := lw_g (lw_at lw_m2 135 rfl) rfl
theorem q489 : (Jvm.Cond.soleField "WholePacks$Node" "leasts") ∈ lw_all := lw_g (lw_at lw_m2 136 rfl) rfl
theorem q490 : (Jvm.Cond.laysFinal "WholePacks$Node" "WholePacks$Node" "mosts" "[I") ∈ lw_all := lw_g (lw_at lw_m2 137 rfl) rfl
theorem q491 : (Jvm.Cond.soleField "WholePacks$Node" "mosts") ∈ lw_all := lw_g (lw_at lw_m2 138 rfl) rfl
theorem q492 : (Jvm.Cond.laysFinal "WholePacks$Node" "WholePacks$Node" "amounts" "[I") ∈ lw_all := lw_g (lw_at lw_m2 139 rfl) rfl
theorem q493 : (Jvm.Cond.soleField "WholePacks$Node" "amounts") ∈ lw_all := lw_g (lw_at lw_m2 140 rfl) rfl
theorem q494 : (Jvm.Cond.superclass "WholePacks$Node" "java/lang/Object") ∈ lw_all := lw_g (lw_at lw_m2 141 rfl) rfl
theorem q1044 : (Jvm.Cond.selects "WholePacks$Node" ({ cls := "java/lang/Object", name := "getClass", desc := "()Ljava/lang/Class;" } : Jvm.MethodName) ({ cls := "java/lang/Object", name := "getClass", desc := "()Ljava/lang/Class;" } : Jvm.MethodName)) ∈ lw_all := lw_g (lw_at lw_m4 211 rfl) rfl
theorem q1115 : (Jvm.Cond.castable "WholePacks$Node" "java/lang/Comparable") ∈ lw_tbl := lw_at lw_m5 42 rfl
theorem q1116 : (Jvm.Cond.selects "WholePacks$Node" ({ cls := "java/lang/Comparable", name := "compareTo", desc := "(Ljava/lang/Object;)I" } : Jvm.MethodName) ({ cls := "WholePacks$Node", name := "compareTo", desc := "(Ljava/lang/Object;)I" } : Jvm.MethodName)) ∈ lw_all := lw_g (lw_at lw_m5 43 rfl) rfl
theorem q1117 : (Jvm.Cond.unhidden "WholePacks$Node" "compareTo" "(Ljava/lang/Object;)I") ∈ lw_tbl := lw_at lw_m5 44 rfl
theorem q1118 : (Jvm.Cond.instanceMethod ({ cls := "WholePacks$Node", name := "compareTo", desc := "(Ljava/lang/Object;)I" } : Jvm.MethodName)) ∈ lw_all := lw_g (lw_at lw_m5 45 rfl) rfl
theorem q1119 : (Jvm.Cond.publicMethod ({ cls := "WholePacks$Node", name := "compareTo", desc := "(Ljava/lang/Object;)I" } : Jvm.MethodName)) ∈ lw_tbl := lw_at lw_m5 46 rfl
theorem q1120 : (Jvm.Cond.code ({ cls := "WholePacks$Node", name := "compareTo", desc := "(Ljava/lang/Object;)I" } : Jvm.MethodName) prog_12_method_6_code (2 : Nat) (Option.some Jvm.ClassFile.FieldType.int)) ∈ lw_all := lw_g (lw_at lw_m5 47 rfl) rfl
theorem q1121 : (Jvm.Cond.classLink "WholePacks$Node" (10 : Nat) "WholePacks$Node") ∈ lw_all := lw_g (lw_at lw_m5 48 rfl) rfl
theorem q1122 : (Jvm.Cond.methodLink "WholePacks$Node" (59 : Nat) ({ cls := "WholePacks$Node", name := "compareTo", desc := "(LWholePacks$Node;)I" } : Jvm.MethodName)) ∈ lw_all := lw_g (lw_at lw_m5 49 rfl) rfl
theorem q1123 : (Jvm.Cond.instanceMethod ({ cls := "WholePacks$Node", name := "compareTo", desc := "(LWholePacks$Node;)I" } : Jvm.MethodName)) ∈ lw_all := lw_g (lw_at lw_m5 50 rfl) rfl
theorem q1124 : (Jvm.Cond.selects "WholePacks$Node" ({ cls := "WholePacks$Node", name := "compareTo", desc := "(LWholePacks$Node;)I" } : Jvm.MethodName) ({ cls := "WholePacks$Node", name := "compareTo", desc := "(LWholePacks$Node;)I" } : Jvm.MethodName)) ∈ lw_all := lw_g (lw_at lw_m5 51 rfl) rfl
theorem q1125 : (Jvm.Cond.code ({ cls := "WholePacks$Node", name := "compareTo", desc := "(LWholePacks$Node;)I" } : Jvm.MethodName) prog_12_method_5_code (6 : Nat) (Option.some Jvm.ClassFile.FieldType.int)) ∈ lw_all := lw_g (lw_at lw_m5 52 rfl) rfl
theorem q1222 : (Jvm.Cond.instanceMethod ({ cls := "WholePacks$Node", name := "begins", desc := "()V" } : Jvm.MethodName)) ∈ lw_all := lw_g (lw_at lw_m5 149 rfl) rfl
theorem q1223 : (Jvm.Cond.selects "WholePacks$Node" ({ cls := "WholePacks$Node", name := "begins", desc := "()V" } : Jvm.MethodName) ({ cls := "WholePacks$Node", name := "begins", desc := "()V" } : Jvm.MethodName)) ∈ lw_all := lw_g (lw_at lw_m5 150 rfl) rfl
theorem q1224 : (Jvm.Cond.code ({ cls := "WholePacks$Node", name := "begins", desc := "()V" } : Jvm.MethodName) prog_12_method_2_code (2 : Nat) (Option.none : Option Jvm.ClassFile.FieldType)) ∈ lw_all := lw_g (lw_at lw_m5 151 rfl) rfl
theorem q1237 : (Jvm.Cond.instanceMethod ({ cls := "WholePacks$Node", name := "reads", desc := "(LWholePacks$Table;)V" } : Jvm.MethodName)) ∈ lw_all := lw_g (lw_at lw_m5 164 rfl) rfl
theorem q1238 : (Jvm.Cond.selects "WholePacks$Node" ({ cls := "WholePacks$Node", name := "reads", desc := "(LWholePacks$Table;)V" } : Jvm.MethodName) ({ cls := "WholePacks$Node", name := "reads", desc := "(LWholePacks$Table;)V" } : Jvm.MethodName)) ∈ lw_all := lw_g (lw_at lw_m5 165 rfl) rfl
theorem q1239 : (Jvm.Cond.code ({ cls := "WholePacks$Node", name := "reads", desc := "(LWholePacks$Table;)V" } : Jvm.MethodName) prog_12_method_4_code (3 : Nat) (Option.none : Option Jvm.ClassFile.FieldType)) ∈ lw_all := lw_g (lw_at lw_m5 166 rfl) rfl
theorem q1240 : (Jvm.Cond.methodLink "WholePacks$Node" (45 : Nat) ({ cls := "WholePacks$Table", name := "brokenPack", desc := "()I" } : Jvm.MethodName)) ∈ lw_all := lw_g (lw_at lw_m5 167 rfl) rfl
theorem q1245 : (Jvm.Cond.methodLink "WholePacks$Node" (55 : Nat) ({ cls := "WholePacks$Table", name := "right", desc := "(I)J" } : Jvm.MethodName)) ∈ lw_all := lw_g (lw_at lw_m5 172 rfl) rfl
theorem q1273 : (Jvm.Cond.instanceMethod ({ cls := "WholePacks$Node", name := "begins", desc := "(LWholePacks$Node;)V" } : Jvm.MethodName)) ∈ lw_all := lw_g (lw_at lw_m5 200 rfl) rfl
theorem q1274 : (Jvm.Cond.selects "WholePacks$Node" ({ cls := "WholePacks$Node", name := "begins", desc := "(LWholePacks$Node;)V" } : Jvm.MethodName) ({ cls := "WholePacks$Node", name := "begins", desc := "(LWholePacks$Node;)V" } : Jvm.MethodName)) ∈ lw_all := lw_g (lw_at lw_m5 201 rfl) rfl
theorem q1275 : (Jvm.Cond.code ({ cls := "WholePacks$Node", name := "begins", desc := "(LWholePacks$Node;)V" } : Jvm.MethodName) prog_12_method_3_code (2 : Nat) (Option.none : Option Jvm.ClassFile.FieldType)) ∈ lw_all := lw_g (lw_at lw_m5 202 rfl) rfl
theorem q1276 : (Jvm.Cond.methodLink "WholePacks$Node" (28 : Nat) ({ cls := "java/lang/System", name := "arraycopy", desc := "(Ljava/lang/Object;ILjava/lang/Object;II)V" } : Jvm.MethodName)) ∈ lw_all := lw_g (lw_at lw_m5 203 rfl) rfl
theorem q2402 : (Jvm.Cond.castable "WholePacks$Node" "java/lang/Object") ∈ lw_tbl := lw_at lw_m10 129 rfl
theorem in_X8 : ∀ w ∈ wsX80, w ∈ lw_all := lw_in wsX80 [478, 480, 482, 484, 486, 488, 490, 492] (by decide +kernel) (by decide +kernel)
/-! WholePacksModel$Table -/
set_option maxRecDepth 100000
def RX10 : String := "WholePacksModel$Table"
def TX10 : u_T := fun k => match k with
  | 0 => ("WholePacksModel$Table", "entry", "[J", true)
  | 1 => ("WholePacksModel$Table", "right", "[J", true)
  | 2 => ("WholePacksModel$Table", "rise", "[J", true)
  | 3 => ("WholePacksModel$Table", "fresh", "[J", true)
  | 4 => ("WholePacksModel$Table", "freshRight", "[J", true)
  | 5 => ("WholePacksModel$Table", "freshRise", "[J", true)
  | 6 => ("WholePacksModel$Table", "owner", "[I", true)
  | 7 => ("WholePacksModel$Table", "owns", "[I", true)
  | 8 => ("WholePacksModel$Table", "point", "[J", true)
  | 9 => ("WholePacksModel$Table", "limit", "[J", true)
  | 10 => ("WholePacksModel$Table", "weight", "[J", true)
  | 11 => ("WholePacksModel$Table", "below", "[J", true)
  | 12 => ("WholePacksModel$Table", "base", "J", false)
  | 13 => ("WholePacksModel$Table", "divisor", "J", false)
  | 14 => ("WholePacksModel$Table", "columns", "I", false)
  | 15 => ("WholePacksModel$Table", "rows", "I", false)
  | 16 => ("WholePacksModel$Table", "cuts", "I", false)
  | 17 => ("WholePacksModel$Table", "pivots", "I", false)
  | 18 => ("WholePacksModel$Table", "isThere", "Z", false)
  | _ => ("WholePacksModel$Table", "isWhole", "Z", false)
def tyX10 : Nat → FieldType := fun k => match k with
  | 0 => .array .long
  | 1 => .array .long
  | 2 => .array .long
  | 3 => .array .long
  | 4 => .array .long
  | 5 => .array .long
  | 6 => .array .int
  | 7 => .array .int
  | 8 => .array .long
  | 9 => .array .long
  | 10 => .array .long
  | 11 => .array .long
  | 12 => .long
  | 13 => .long
  | 14 => .int
  | 15 => .int
  | 16 => .int
  | 17 => .int
  | 18 => .boolean
  | _ => .boolean
abbrev wsX100 : List Cond := u_ws RX10 TX10 20
set_option maxRecDepth 100000 in
theorem nmX10 : ∀ a, a < 20 → ∀ b, b < 20 → a ≠ b → (TX10 a).2.1 ≠ (TX10 b).2.1 := by decide +kernel
set_option maxRecDepth 100000 in
theorem tyX10_ok : ∀ k, k < 20 → parseFieldDescriptor (TX10 k).2.2.1 = some (tyX10 k) := by decide +kernel
abbrev cX10_init : ByteArray := prog_20_method_1_code
def yX10_init : MethodName := ⟨RX10, "<init>", "()V"⟩
def dkwX10_init_4 : List UInt8 := [188, 11, 181, 0, 46, 177]
abbrev dktX10_init_4 : List UInt8 := dkwX10_init_4 ++ []
def dkwX10_init_3 : List UInt8 := [181, 0, 37, 42, 16, 12, 188, 11, 181, 0, 40, 42, 17, 0, 240, 188, 11, 181, 0, 43, 42, 16, 12]
abbrev dktX10_init_3 : List UInt8 := dkwX10_init_3 ++ dktX10_init_4
def dkwX10_init_2 : List UInt8 := [181, 0, 27, 42, 16, 20, 188, 10, 181, 0, 30, 42, 8, 188, 10, 181, 0, 34, 42, 16, 60, 188, 11]
abbrev dktX10_init_2 : List UInt8 := dkwX10_init_2 ++ dktX10_init_3
def dkwX10_init_1 : List UInt8 := [181, 0, 18, 42, 16, 100, 188, 11, 181, 0, 21, 42, 16, 20, 188, 11, 181, 0, 24, 42, 8, 188, 11]
abbrev dktX10_init_1 : List UInt8 := dkwX10_init_1 ++ dktX10_init_2
def dkwX10_init_0 : List UInt8 := [42, 183, 0, 3, 42, 16, 100, 188, 11, 181, 0, 9, 42, 16, 20, 188, 11, 181, 0, 15, 42, 8, 188, 11]
abbrev dktX10_init_0 : List UInt8 := dkwX10_init_0 ++ dktX10_init_1
theorem dksX10_init_0 : cX10_init.data.toList.drop 0 = dktX10_init_0 := by decide +kernel
theorem dksX10_init_1 : cX10_init.data.toList.drop 24 = dktX10_init_1 := dk_seg dksX10_init_0 24 rfl rfl
theorem dksX10_init_2 : cX10_init.data.toList.drop 47 = dktX10_init_2 := dk_seg dksX10_init_1 23 rfl rfl
theorem dksX10_init_3 : cX10_init.data.toList.drop 70 = dktX10_init_3 := dk_seg dksX10_init_2 23 rfl rfl
theorem dksX10_init_4 : cX10_init.data.toList.drop 93 = dktX10_init_4 := dk_seg dksX10_init_3 23 rfl rfl
theorem dX10_init_0 : decode cX10_init 0 = .ok (.aload_n 0, 1) := dk_42 (dk_at dksX10_init_0 0 rfl rfl)
theorem dX10_init_1 : decode cX10_init 1 = .ok (.invokespecial 3, 3) := dk_183 0 3 (dk_at dksX10_init_0 1 rfl rfl)
theorem dX10_init_4 : decode cX10_init 4 = .ok (.aload_n 0, 1) := dk_42 (dk_at dksX10_init_0 4 rfl rfl)
theorem dX10_init_5 : decode cX10_init 5 = .ok (.bipush 100, 2) := dk_16 100 (dk_at dksX10_init_0 5 rfl rfl)
theorem dX10_init_7 : decode cX10_init 7 = .ok (.newarray .long, 2) := dk_188_11 (dk_at dksX10_init_0 7 rfl rfl)
theorem dX10_init_9 : decode cX10_init 9 = .ok (.putfield 9, 3) := dk_181 0 9 (dk_at dksX10_init_0 9 rfl rfl)
theorem dX10_init_12 : decode cX10_init 12 = .ok (.aload_n 0, 1) := dk_42 (dk_at dksX10_init_0 12 rfl rfl)
theorem dX10_init_13 : decode cX10_init 13 = .ok (.bipush 20, 2) := dk_16 20 (dk_at dksX10_init_0 13 rfl rfl)
theorem dX10_init_15 : decode cX10_init 15 = .ok (.newarray .long, 2) := dk_188_11 (dk_at dksX10_init_0 15 rfl rfl)
theorem dX10_init_17 : decode cX10_init 17 = .ok (.putfield 15, 3) := dk_181 0 15 (dk_at dksX10_init_0 17 rfl rfl)
theorem dX10_init_20 : decode cX10_init 20 = .ok (.aload_n 0, 1) := dk_42 (dk_at dksX10_init_0 20 rfl rfl)
theorem dX10_init_21 : decode cX10_init 21 = .ok (.iconst 5, 1) := dk_8 (dk_at dksX10_init_0 21 rfl rfl)
theorem dX10_init_22 : decode cX10_init 22 = .ok (.newarray .long, 2) := dk_188_11 (dk_at dksX10_init_0 22 rfl rfl)
theorem dX10_init_24 : decode cX10_init 24 = .ok (.putfield 18, 3) := dk_181 0 18 (dk_at dksX10_init_1 0 rfl rfl)
theorem dX10_init_27 : decode cX10_init 27 = .ok (.aload_n 0, 1) := dk_42 (dk_at dksX10_init_1 3 rfl rfl)
theorem dX10_init_28 : decode cX10_init 28 = .ok (.bipush 100, 2) := dk_16 100 (dk_at dksX10_init_1 4 rfl rfl)
theorem dX10_init_30 : decode cX10_init 30 = .ok (.newarray .long, 2) := dk_188_11 (dk_at dksX10_init_1 6 rfl rfl)
theorem dX10_init_32 : decode cX10_init 32 = .ok (.putfield 21, 3) := dk_181 0 21 (dk_at dksX10_init_1 8 rfl rfl)
theorem dX10_init_35 : decode cX10_init 35 = .ok (.aload_n 0, 1) := dk_42 (dk_at dksX10_init_1 11 rfl rfl)
theorem dX10_init_36 : decode cX10_init 36 = .ok (.bipush 20, 2) := dk_16 20 (dk_at dksX10_init_1 12 rfl rfl)
theorem dX10_init_38 : decode cX10_init 38 = .ok (.newarray .long, 2) := dk_188_11 (dk_at dksX10_init_1 14 rfl rfl)
theorem dX10_init_40 : decode cX10_init 40 = .ok (.putfield 24, 3) := dk_181 0 24 (dk_at dksX10_init_1 16 rfl rfl)
theorem dX10_init_43 : decode cX10_init 43 = .ok (.aload_n 0, 1) := dk_42 (dk_at dksX10_init_1 19 rfl rfl)
theorem dX10_init_44 : decode cX10_init 44 = .ok (.iconst 5, 1) := dk_8 (dk_at dksX10_init_1 20 rfl rfl)
theorem dX10_init_45 : decode cX10_init 45 = .ok (.newarray .long, 2) := dk_188_11 (dk_at dksX10_init_1 21 rfl rfl)
theorem dX10_init_47 : decode cX10_init 47 = .ok (.putfield 27, 3) := dk_181 0 27 (dk_at dksX10_init_2 0 rfl rfl)
theorem dX10_init_50 : decode cX10_init 50 = .ok (.aload_n 0, 1) := dk_42 (dk_at dksX10_init_2 3 rfl rfl)
theorem dX10_init_51 : decode cX10_init 51 = .ok (.bipush 20, 2) := dk_16 20 (dk_at dksX10_init_2 4 rfl rfl)
theorem dX10_init_53 : decode cX10_init 53 = .ok (.newarray .int, 2) := dk_188_10 (dk_at dksX10_init_2 6 rfl rfl)
theorem dX10_init_55 : decode cX10_init 55 = .ok (.putfield 30, 3) := dk_181 0 30 (dk_at dksX10_init_2 8 rfl rfl)
theorem dX10_init_58 : decode cX10_init 58 = .ok (.aload_n 0, 1) := dk_42 (dk_at dksX10_init_2 11 rfl rfl)
theorem dX10_init_59 : decode cX10_init 59 = .ok (.iconst 5, 1) := dk_8 (dk_at dksX10_init_2 12 rfl rfl)
theorem dX10_init_60 : decode cX10_init 60 = .ok (.newarray .int, 2) := dk_188_10 (dk_at dksX10_init_2 13 rfl rfl)
theorem dX10_init_62 : decode cX10_init 62 = .ok (.putfield 34, 3) := dk_181 0 34 (dk_at dksX10_init_2 15 rfl rfl)
theorem dX10_init_65 : decode cX10_init 65 = .ok (.aload_n 0, 1) := dk_42 (dk_at dksX10_init_2 18 rfl rfl)
theorem dX10_init_66 : decode cX10_init 66 = .ok (.bipush 60, 2) := dk_16 60 (dk_at dksX10_init_2 19 rfl rfl)
theorem dX10_init_68 : decode cX10_init 68 = .ok (.newarray .long, 2) := dk_188_11 (dk_at dksX10_init_2 21 rfl rfl)
theorem dX10_init_70 : decode cX10_init 70 = .ok (.putfield 37, 3) := dk_181 0 37 (dk_at dksX10_init_3 0 rfl rfl)
theorem dX10_init_73 : decode cX10_init 73 = .ok (.aload_n 0, 1) := dk_42 (dk_at dksX10_init_3 3 rfl rfl)
theorem dX10_init_74 : decode cX10_init 74 = .ok (.bipush 12, 2) := dk_16 12 (dk_at dksX10_init_3 4 rfl rfl)
theorem dX10_init_76 : decode cX10_init 76 = .ok (.newarray .long, 2) := dk_188_11 (dk_at dksX10_init_3 6 rfl rfl)
theorem dX10_init_78 : decode cX10_init 78 = .ok (.putfield 40, 3) := dk_181 0 40 (dk_at dksX10_init_3 8 rfl rfl)
theorem dX10_init_81 : decode cX10_init 81 = .ok (.aload_n 0, 1) := dk_42 (dk_at dksX10_init_3 11 rfl rfl)
theorem dX10_init_82 : decode cX10_init 82 = .ok (.sipush 240, 3) := dk_17 0 240 (dk_at dksX10_init_3 12 rfl rfl)
theorem dX10_init_85 : decode cX10_init 85 = .ok (.newarray .long, 2) := dk_188_11 (dk_at dksX10_init_3 15 rfl rfl)
theorem dX10_init_87 : decode cX10_init 87 = .ok (.putfield 43, 3) := dk_181 0 43 (dk_at dksX10_init_3 17 rfl rfl)
theorem dX10_init_90 : decode cX10_init 90 = .ok (.aload_n 0, 1) := dk_42 (dk_at dksX10_init_3 20 rfl rfl)
theorem dX10_init_91 : decode cX10_init 91 = .ok (.bipush 12, 2) := dk_16 12 (dk_at dksX10_init_3 21 rfl rfl)
theorem dX10_init_93 : decode cX10_init 93 = .ok (.newarray .long, 2) := dk_188_11 (dk_at dksX10_init_4 0 rfl rfl)
theorem dX10_init_95 : decode cX10_init 95 = .ok (.putfield 46, 3) := dk_181 0 46 (dk_at dksX10_init_4 2 rfl rfl)
theorem dX10_init_98 : decode cX10_init 98 = .ok (.return_, 1) := dk_177 (dk_at dksX10_init_4 5 rfl rfl)
theorem q129 : (Jvm.Cond.initialized "WholePacksModel$Table") ∈ lw_all := lw_g (lw_at lw_m1 16 rfl) rfl
theorem q1051 : (Jvm.Cond.selects "WholePacksModel$Table" ({ cls := "java/lang/Object", name := "getClass", desc := "()Ljava/lang/Class;" } : Jvm.MethodName) ({ cls := "java/lang/Object", name := "getClass", desc := "()Ljava/lang/Class;" } : Jvm.MethodName)) ∈ lw_all := lw_g (lw_at lw_m4 218 rfl) rfl
theorem q1746 : (Jvm.Cond.instantiable "WholePacksModel$Table" (20 : Nat)) ∈ lw_all := lw_g (lw_at lw_m7 193 rfl) rfl
theorem q1748 : (Jvm.Cond.instanceMethod ({ cls := "WholePacksModel$Table", name := "<init>", desc := "()V" } : Jvm.MethodName)) ∈ lw_all := lw_g (lw_at lw_m7 195 rfl) rfl
theorem q1749 : (Jvm.Cond.code ({ cls := "WholePacksModel$Table", name := "<init>", desc := "()V" } : Jvm.MethodName) prog_20_method_1_code (1 : Nat) (Option.none : Option Jvm.ClassFile.FieldType)) ∈ lw_all := lw_g (lw_at lw_m7 196 rfl) rfl
theorem q1750 : (Jvm.Cond.methodLink "WholePacksModel$Table" (3 : Nat) ({ cls := "java/lang/Object", name := "<init>", desc := "()V" } : Jvm.MethodName)) ∈ lw_all := lw_g (lw_at lw_m7 197 rfl) rfl
theorem q1751 : (Jvm.Cond.fieldLink "WholePacksModel$Table" (9 : Nat) "WholePacksModel$Table" "entry" "[J") ∈ lw_all := lw_g (lw_at lw_m7 198 rfl) rfl
theorem q1753 : (Jvm.Cond.fieldLink "WholePacksModel$Table" (15 : Nat) "WholePacksModel$Table" "right" "[J") ∈ lw_all := lw_g (lw_at lw_m7 200 rfl) rfl
theorem q1755 : (Jvm.Cond.fieldLink "WholePacksModel$Table" (18 : Nat) "WholePacksModel$Table" "rise" "[J") ∈ lw_all := lw_g (lw_at lw_m7 202 rfl) rfl
theorem q1757 : (Jvm.Cond.fieldLink "WholePacksModel$Table" (21 : Nat) "WholePacksModel$Table" "fresh" "[J") ∈ lw_all := lw_g (lw_at lw_m7 204 rfl) rfl
theorem q1759 : (Jvm.Cond.fieldLink "WholePacksModel$Table" (24 : Nat) "WholePacksModel$Table" "freshRight" "[J") ∈ lw_all := lw_g (lw_at lw_m7 206 rfl) rfl
theorem q1761 : (Jvm.Cond.fieldLink "WholePacksModel$Table" (27 : Nat) "WholePacksModel$Table" "freshRise" "[J") ∈ lw_all := lw_g (lw_at lw_m7 208 rfl) rfl
theorem q1763 : (Jvm.Cond.fieldLink "WholePacksModel$Table" (30 : Nat) "WholePacksModel$Table" "owner" "[I") ∈ lw_all := lw_g (lw_at lw_m7 210 rfl) rfl
theorem q1765 : (Jvm.Cond.fieldLink "WholePacksModel$Table" (34 : Nat) "WholePacksModel$Table" "owns" "[I") ∈ lw_all := lw_g (lw_at lw_m7 212 rfl) rfl
theorem q1767 : (Jvm.Cond.fieldLink "WholePacksModel$Table" (37 : Nat) "WholePacksModel$Table" "point" "[J") ∈ lw_all := lw_g (lw_at lw_m7 214 rfl) rfl
theorem q1769 : (Jvm.Cond.fieldLink "WholePacksModel$Table" (40 : Nat) "WholePacksModel$Table" "limit" "[J") ∈ lw_all := lw_g (lw_at lw_m7 216 rfl) rfl
theorem q1771 : (Jvm.Cond.fieldLink "WholePacksModel$Table" (43 : Nat) "WholePacksModel$Table" "weight" "[J") ∈ lw_all := lw_g (lw_at lw_m7 218 rfl) rfl
theorem q1773 : (Jvm.Cond.fieldLink "WholePacksModel$Table" (46 : Nat) "WholePacksModel$Table" "below" "[J") ∈ lw_all := lw_g (lw_at lw_m7 220 rfl) rfl
theorem q1783 : (Jvm.Cond.laysFinal "WholePacksModel$Table" "WholePacksModel$Table" "entry" "[J") ∈ lw_all := lw_g (lw_at lw_m7 230 rfl) rfl
theorem q1784 : (Jvm.Cond.soleField "WholePacksModel$Table" "entry") ∈ lw_all := lw_g (lw_at lw_m7 231 rfl) rfl
theorem q1785 : (Jvm.Cond.laysFinal "WholePacksModel$Table" "WholePacksModel$Table" "right" "[J") ∈ lw_all := lw_g (lw_at lw_m7 232 rfl) rfl
theorem q1786 : (Jvm.Cond.soleField "WholePacksModel$Table" "right") ∈ lw_all := lw_g (lw_at lw_m7 233 rfl) rfl
theorem q1787 : (Jvm.Cond.laysFinal "WholePacksModel$Table" "WholePacksModel$Table" "rise" "[J") ∈ lw_all := lw_g (lw_at lw_m7 234 rfl) rfl
theorem q1788 : (Jvm.Cond.soleField "WholePacksModel$Table" "rise") ∈ lw_all := lw_g (lw_at lw_m7 235 rfl) rfl
theorem q1789 : (Jvm.Cond.laysFinal "WholePacksModel$Table" "WholePacksModel$Table" "fresh" "[J") ∈ lw_all := lw_g (lw_at lw_m7 236 rfl) rfl
theorem q1790 : (Jvm.Cond.soleField "WholePacksModel$Table" "fresh") ∈ lw_all := lw_g (lw_at lw_m7 237 rfl) rfl
theorem q1791 : (Jvm.Cond.laysFinal "WholePacksModel$Table" "WholePacksModel$Table" "freshRight" "[J") ∈ lw_all := lw_g (lw_at lw_m7 238 rfl) rfl
theorem q1792 : (Jvm.Cond.soleField "WholePacksModel$Table" "freshRight") ∈ lw_all := lw_g (lw_at lw_m7 239 rfl) rfl
theorem q1793 : (Jvm.Cond.laysFinal "WholePacksModel$Table" "WholePacksModel$Table" "freshRise" "[J") ∈ lw_all := lw_g (lw_at lw_m8 0 rfl) rfl
theorem q1794 : (Jvm.Cond.soleField "WholePacksModel$Table" "freshRise") ∈ lw_all := lw_g (lw_at lw_m8 1 rfl) rfl
theorem q1795 : (Jvm.Cond.laysFinal "WholePacksModel$Table" "WholePacksModel$Table" "owner" "[I") ∈ lw_all := lw_g (lw_at lw_m8 2 rfl) rfl
theorem q1796 : (Jvm.Cond.soleField "WholePacksModel$Table" "owner") ∈ lw_all := lw_g (lw_at lw_m8 3 rfl) rfl
theorem q1797 : (Jvm.Cond.laysFinal "WholePacksModel$Table" "WholePacksModel$Table" "owns" "[I") ∈ lw_all := lw_g (lw_at lw_m8 4 rfl) rfl
theorem q1798 : (Jvm.Cond.soleField "WholePacksModel$Table" "owns") ∈ lw_all := lw_g (lw_at lw_m8 5 rfl) rfl
theorem q1799 : (Jvm.Cond.laysFinal "WholePacksModel$Table" "WholePacksModel$Table" "point" "[J") ∈ lw_all := lw_g (lw_at lw_m8 6 rfl) rfl
theorem q1800 : (Jvm.Cond.soleField "WholePacksModel$Table" "point") ∈ lw_all := lw_g (lw_at lw_m8 7 rfl) rfl
theorem q1801 : (Jvm.Cond.laysFinal "WholePacksModel$Table" "WholePacksModel$Table" "limit" "[J") ∈ lw_all := lw_g (lw_at lw_m8 8 rfl) rfl
theorem q1802 : (Jvm.Cond.soleField "WholePacksModel$Table" "limit") ∈ lw_all := lw_g (lw_at lw_m8 9 rfl) rfl
theorem q1803 : (Jvm.Cond.laysFinal "WholePacksModel$Table" "WholePacksModel$Table" "weight" "[J") ∈ lw_all := lw_g (lw_at lw_m8 10 rfl) rfl
theorem q1804 : (Jvm.Cond.soleField "WholePacksModel$Table" "weight") ∈ lw_all := lw_g (lw_at lw_m8 11 rfl) rfl
theorem q1805 : (Jvm.Cond.laysFinal "WholePacksModel$Table" "WholePacksModel$Table" "below" "[J") ∈ lw_all := lw_g (lw_at lw_m8 12 rfl) rfl
theorem q1806 : (Jvm.Cond.soleField "WholePacksModel$Table" "below") ∈ lw_all := lw_g (lw_at lw_m8 13 rfl) rfl
theorem q1807 : (Jvm.Cond.lays "WholePacksModel$Table" "WholePacksModel$Table" "base" "J") ∈ lw_all := lw_g (lw_at lw_m8 14 rfl) rfl
theorem q1808 : (Jvm.Cond.soleField "WholePacksModel$Table" "base") ∈ lw_all := lw_g (lw_at lw_m8 15 rfl) rfl
theorem q1809 : (Jvm.Cond.lays "WholePacksModel$Table" "WholePacksModel$Table" "divisor" "J") ∈ lw_all := lw_g (lw_at lw_m8 16 rfl) rfl
theorem q1810 : (Jvm.Cond.soleField "WholePacksModel$Table" "divisor") ∈ lw_all := lw_g (lw_at lw_m8 17 rfl) rfl
theorem q1811 : (Jvm.Cond.lays "WholePacksModel$Table" "WholePacksModel$Table" "columns" "I") ∈ lw_all := lw_g (lw_at lw_m8 18 rfl) rfl
theorem q1812 : (Jvm.Cond.soleField "WholePacksModel$Table" "columns") ∈ lw_all := lw_g (lw_at lw_m8 19 rfl) rfl
theorem q1813 : (Jvm.Cond.lays "WholePacksModel$Table" "WholePacksModel$Table" "rows" "I") ∈ lw_all := lw_g (lw_at lw_m8 20 rfl) rfl
theorem q1814 : (Jvm.Cond.soleField "WholePacksModel$Table" "rows") ∈ lw_all := lw_g (lw_at lw_m8 21 rfl) rfl
theorem q1815 : (Jvm.Cond.lays "WholePacksModel$Table" "WholePacksModel$Table" "cuts" "I") ∈ lw_all := lw_g (lw_at lw_m8 22 rfl) rfl
theorem q1816 : (Jvm.Cond.soleField "WholePacksModel$Table" "cuts") ∈ lw_all := lw_g (lw_at lw_m8 23 rfl) rfl
theorem q1817 : (Jvm.Cond.lays "WholePacksModel$Table" "WholePacksModel$Table" "pivots" "I") ∈ lw_all := lw_g (lw_at lw_m8 24 rfl) rfl
theorem q1818 : (Jvm.Cond.soleField "WholePacksModel$Table" "pivots") ∈ lw_all := lw_g (lw_at lw_m8 25 rfl) rfl
theorem q1819 : (Jvm.Cond.lays "WholePacksModel$Table" "WholePacksModel$Table" "isThere" "Z") ∈ lw_all := lw_g (lw_at lw_m8 26 rfl) rfl
theorem q1820 : (Jvm.Cond.soleField "WholePacksModel$Table" "isThere") ∈ lw_all := lw_g (lw_at lw_m8 27 rfl) rfl
theorem q1821 : (Jvm.Cond.lays "WholePacksModel$Table" "WholePacksModel$Table" "isWhole" "Z") ∈ lw_all := lw_g (lw_at lw_m8 28 rfl) rfl
theorem q1822 : (Jvm.Cond.soleField "WholePacksModel$Table" "isWhole") ∈ lw_all := lw_g (lw_at lw_m8 29 rfl) rfl
theorem q1823 : (Jvm.Cond.superclass "WholePacksModel$Table" "java/lang/Object") ∈ lw_all := lw_g (lw_at lw_m8 30 rfl) rfl
theorem q2412 : (Jvm.Cond.castable "WholePacksModel$Table" "java/lang/Object") ∈ lw_tbl := lw_at lw_m10 139 rfl
theorem in_X10 : ∀ w ∈ wsX100, w ∈ lw_all := lw_in wsX100 [1783, 1785, 1787, 1789, 1791, 1793, 1795, 1797, 1799, 1801, 1803, 1805, 1807, 1809, 1811, 1813, 1815, 1817, 1819, 1821] (by decide +kernel) (by decide +kernel)
/-! WholePacks$Reader -/
set_option maxRecDepth 100000
def RX11 : String := "WholePacks$Reader"
def TX11 : u_T := fun k => match k with
  | 0 => ("WholePacks$Reader", "read", "[LWholePacks$Rule;", true)
  | 1 => ("WholePacks$Reader", "many", "I", false)
  | 2 => ("WholePacks$Reader", "at", "I", false)
  | _ => ("WholePacks$Reader", "this$0", "LWholePacks;", true)
def tyX11 : Nat → FieldType := fun k => match k with
  | 0 => .array (.object "WholePacks$Rule")
  | 1 => .int
  | 2 => .int
  | _ => .object "WholePacks"
abbrev wsX110 : List Cond := u_ws RX11 TX11 4
theorem nmX11 : ∀ a, a < 4 → ∀ b, b < 4 → a ≠ b → (TX11 a).2.1 ≠ (TX11 b).2.1 := by decide +kernel
theorem tyX11_ok : ∀ k, k < 4 → parseFieldDescriptor (TX11 k).2.2.1 = some (tyX11 k) := by decide +kernel
abbrev cX11_init : ByteArray := prog_13_method_1_code
def yX11_init : MethodName := ⟨RX11, "<init>", "(LWholePacks;)V"⟩
def dkwX11_init_1 : List UInt8 := [42, 180, 0, 17, 28, 187, 0, 15, 89, 183, 0, 21, 83, 132, 2, 1, 167, 255, 235, 177]
abbrev dktX11_init_1 : List UInt8 := dkwX11_init_1 ++ []
def dkwX11_init_0 : List UInt8 := [42, 43, 181, 0, 3, 42, 183, 0, 9, 42, 7, 189, 0, 15, 181, 0, 17, 3, 61, 28, 7, 162, 0, 22]
abbrev dktX11_init_0 : List UInt8 := dkwX11_init_0 ++ dktX11_init_1
theorem dksX11_init_0 : cX11_init.data.toList.drop 0 = dktX11_init_0 := by decide +kernel
theorem dksX11_init_1 : cX11_init.data.toList.drop 24 = dktX11_init_1 := dk_seg dksX11_init_0 24 rfl rfl
theorem dX11_init_0 : decode cX11_init 0 = .ok (.aload_n 0, 1) := dk_42 (dk_at dksX11_init_0 0 rfl rfl)
theorem dX11_init_1 : decode cX11_init 1 = .ok (.aload_n 1, 1) := dk_43 (dk_at dksX11_init_0 1 rfl rfl)
theorem dX11_init_2 : decode cX11_init 2 = .ok (.putfield 3, 3) := dk_181 0 3 (dk_at dksX11_init_0 2 rfl rfl)
theorem dX11_init_5 : decode cX11_init 5 = .ok (.aload_n 0, 1) := dk_42 (dk_at dksX11_init_0 5 rfl rfl)
theorem dX11_init_6 : decode cX11_init 6 = .ok (.invokespecial 9, 3) := dk_183 0 9 (dk_at dksX11_init_0 6 rfl rfl)
theorem dX11_init_9 : decode cX11_init 9 = .ok (.aload_n 0, 1) := dk_42 (dk_at dksX11_init_0 9 rfl rfl)
theorem dX11_init_10 : decode cX11_init 10 = .ok (.iconst 4, 1) := dk_7 (dk_at dksX11_init_0 10 rfl rfl)
theorem dX11_init_11 : decode cX11_init 11 = .ok (.anewarray 15, 3) := dk_189 0 15 (dk_at dksX11_init_0 11 rfl rfl)
theorem dX11_init_14 : decode cX11_init 14 = .ok (.putfield 17, 3) := dk_181 0 17 (dk_at dksX11_init_0 14 rfl rfl)
theorem dX11_init_17 : decode cX11_init 17 = .ok (.iconst 0, 1) := dk_3 (dk_at dksX11_init_0 17 rfl rfl)
theorem dX11_init_18 : decode cX11_init 18 = .ok (.istore_n 2, 1) := dk_61 (dk_at dksX11_init_0 18 rfl rfl)
theorem dX11_init_19 : decode cX11_init 19 = .ok (.iload_n 2, 1) := dk_28 (dk_at dksX11_init_0 19 rfl rfl)
theorem dX11_init_20 : decode cX11_init 20 = .ok (.iconst 4, 1) := dk_7 (dk_at dksX11_init_0 20 rfl rfl)
theorem dX11_init_21 : decode cX11_init 21 = .ok (.if_icmp .ge 22, 3) := dk_162 0 22 (dk_at dksX11_init_0 21 rfl rfl)
theorem dX11_init_24 : decode cX11_init 24 = .ok (.aload_n 0, 1) := dk_42 (dk_at dksX11_init_1 0 rfl rfl)
theorem dX11_init_25 : decode cX11_init 25 = .ok (.getfield 17, 3) := dk_180 0 17 (dk_at dksX11_init_1 1 rfl rfl)
theorem dX11_init_28 : decode cX11_init 28 = .ok (.iload_n 2, 1) := dk_28 (dk_at dksX11_init_1 4 rfl rfl)
theorem dX11_init_29 : decode cX11_init 29 = .ok (.new 15, 3) := dk_187 0 15 (dk_at dksX11_init_1 5 rfl rfl)
theorem dX11_init_32 : decode cX11_init 32 = .ok (.dup, 1) := dk_89 (dk_at dksX11_init_1 8 rfl rfl)
theorem dX11_init_33 : decode cX11_init 33 = .ok (.invokespecial 21, 3) := dk_183 0 21 (dk_at dksX11_init_1 9 rfl rfl)
theorem dX11_init_36 : decode cX11_init 36 = .ok (.aastore, 1) := dk_83 (dk_at dksX11_init_1 12 rfl rfl)
theorem dX11_init_37 : decode cX11_init 37 = .ok (.iinc 2 1, 3) := dk_132 2 1 (dk_at dksX11_init_1 13 rfl rfl)
theorem dX11_init_40 : decode cX11_init 40 = .ok (.goto (-21), 3) := dk_167 255 235 (dk_at dksX11_init_1 16 rfl rfl)
theorem dX11_init_43 : decode cX11_init 43 = .ok (.return_, 1) := dk_177 (dk_at dksX11_init_1 19 rfl rfl)
abbrev cX11_reads : ByteArray := prog_13_method_7_code
def yX11_reads : MethodName := ⟨RX11, "reads", "()V"⟩
def dkwX11_reads_2 : List UInt8 := [89, 180, 0, 22, 4, 96, 181, 0, 22, 42, 182, 0, 91, 167, 255, 199, 177]
abbrev dktX11_reads_2 : List UInt8 := dkwX11_reads_2 ++ []
def dkwX11_reads_1 : List UInt8 := [160, 0, 11, 42, 180, 0, 71, 7, 160, 0, 15, 187, 0, 55, 89, 42, 180, 0, 22, 183, 0, 57, 191, 42]
abbrev dktX11_reads_1 : List UInt8 := dkwX11_reads_1 ++ dktX11_reads_2
def dkwX11_reads_0 : List UInt8 := [42, 182, 0, 91, 42, 180, 0, 22, 42, 180, 0, 3, 180, 0, 26, 162, 0, 49, 42, 182, 0, 33, 16, 59]
abbrev dktX11_reads_0 : List UInt8 := dkwX11_reads_0 ++ dktX11_reads_1
theorem dksX11_reads_0 : cX11_reads.data.toList.drop 0 = dktX11_reads_0 := by decide +kernel
theorem dksX11_reads_1 : cX11_reads.data.toList.drop 24 = dktX11_reads_1 := dk_seg dksX11_reads_0 24 rfl rfl
theorem dksX11_reads_2 : cX11_reads.data.toList.drop 48 = dktX11_reads_2 := dk_seg dksX11_reads_1 24 rfl rfl
theorem dX11_reads_0 : decode cX11_reads 0 = .ok (.aload_n 0, 1) := dk_42 (dk_at dksX11_reads_0 0 rfl rfl)
theorem dX11_reads_1 : decode cX11_reads 1 = .ok (.invokevirtual 91, 3) := dk_182 0 91 (dk_at dksX11_reads_0 1 rfl rfl)
theorem dX11_reads_4 : decode cX11_reads 4 = .ok (.aload_n 0, 1) := dk_42 (dk_at dksX11_reads_0 4 rfl rfl)
theorem dX11_reads_5 : decode cX11_reads 5 = .ok (.getfield 22, 3) := dk_180 0 22 (dk_at dksX11_reads_0 5 rfl rfl)
theorem dX11_reads_8 : decode cX11_reads 8 = .ok (.aload_n 0, 1) := dk_42 (dk_at dksX11_reads_0 8 rfl rfl)
theorem dX11_reads_9 : decode cX11_reads 9 = .ok (.getfield 3, 3) := dk_180 0 3 (dk_at dksX11_reads_0 9 rfl rfl)
theorem dX11_reads_12 : decode cX11_reads 12 = .ok (.getfield 26, 3) := dk_180 0 26 (dk_at dksX11_reads_0 12 rfl rfl)
theorem dX11_reads_15 : decode cX11_reads 15 = .ok (.if_icmp .ge 49, 3) := dk_162 0 49 (dk_at dksX11_reads_0 15 rfl rfl)
theorem dX11_reads_18 : decode cX11_reads 18 = .ok (.aload_n 0, 1) := dk_42 (dk_at dksX11_reads_0 18 rfl rfl)
theorem dX11_reads_19 : decode cX11_reads 19 = .ok (.invokevirtual 33, 3) := dk_182 0 33 (dk_at dksX11_reads_0 19 rfl rfl)
theorem dX11_reads_22 : decode cX11_reads 22 = .ok (.bipush 59, 2) := dk_16 59 (dk_at dksX11_reads_0 22 rfl rfl)
theorem dX11_reads_24 : decode cX11_reads 24 = .ok (.if_icmp .ne 11, 3) := dk_160 0 11 (dk_at dksX11_reads_1 0 rfl rfl)
theorem dX11_reads_27 : decode cX11_reads 27 = .ok (.aload_n 0, 1) := dk_42 (dk_at dksX11_reads_1 3 rfl rfl)
theorem dX11_reads_28 : decode cX11_reads 28 = .ok (.getfield 71, 3) := dk_180 0 71 (dk_at dksX11_reads_1 4 rfl rfl)
theorem dX11_reads_31 : decode cX11_reads 31 = .ok (.iconst 4, 1) := dk_7 (dk_at dksX11_reads_1 7 rfl rfl)
theorem dX11_reads_32 : decode cX11_reads 32 = .ok (.if_icmp .ne 15, 3) := dk_160 0 15 (dk_at dksX11_reads_1 8 rfl rfl)
theorem dX11_reads_35 : decode cX11_reads 35 = .ok (.new 55, 3) := dk_187 0 55 (dk_at dksX11_reads_1 11 rfl rfl)
theorem dX11_reads_38 : decode cX11_reads 38 = .ok (.dup, 1) := dk_89 (dk_at dksX11_reads_1 14 rfl rfl)
theorem dX11_reads_39 : decode cX11_reads 39 = .ok (.aload_n 0, 1) := dk_42 (dk_at dksX11_reads_1 15 rfl rfl)
theorem dX11_reads_40 : decode cX11_reads 40 = .ok (.getfield 22, 3) := dk_180 0 22 (dk_at dksX11_reads_1 16 rfl rfl)
theorem dX11_reads_43 : decode cX11_reads 43 = .ok (.invokespecial 57, 3) := dk_183 0 57 (dk_at dksX11_reads_1 19 rfl rfl)
theorem dX11_reads_46 : decode cX11_reads 46 = .ok (.athrow, 1) := dk_191 (dk_at dksX11_reads_1 22 rfl rfl)
theorem dX11_reads_47 : decode cX11_reads 47 = .ok (.aload_n 0, 1) := dk_42 (dk_at dksX11_reads_1 23 rfl rfl)
theorem dX11_reads_48 : decode cX11_reads 48 = .ok (.dup, 1) := dk_89 (dk_at dksX11_reads_2 0 rfl rfl)
theorem dX11_reads_49 : decode cX11_reads 49 = .ok (.getfield 22, 3) := dk_180 0 22 (dk_at dksX11_reads_2 1 rfl rfl)
theorem dX11_reads_52 : decode cX11_reads 52 = .ok (.iconst 1, 1) := dk_4 (dk_at dksX11_reads_2 4 rfl rfl)
theorem dX11_reads_53 : decode cX11_reads 53 = .ok (.iadd, 1) := dk_96 (dk_at dksX11_reads_2 5 rfl rfl)
theorem dX11_reads_54 : decode cX11_reads 54 = .ok (.putfield 22, 3) := dk_181 0 22 (dk_at dksX11_reads_2 6 rfl rfl)
theorem dX11_reads_57 : decode cX11_reads 57 = .ok (.aload_n 0, 1) := dk_42 (dk_at dksX11_reads_2 9 rfl rfl)
theorem dX11_reads_58 : decode cX11_reads 58 = .ok (.invokevirtual 91, 3) := dk_182 0 91 (dk_at dksX11_reads_2 10 rfl rfl)
theorem dX11_reads_61 : decode cX11_reads 61 = .ok (.goto (-57), 3) := dk_167 255 199 (dk_at dksX11_reads_2 13 rfl rfl)
theorem dX11_reads_64 : decode cX11_reads 64 = .ok (.return_, 1) := dk_177 (dk_at dksX11_reads_2 16 rfl rfl)
abbrev cX11_clause : ByteArray := prog_13_method_6_code
def yX11_clause : MethodName := ⟨RX11, "clause", "()V"⟩
def dkwX11_clause_6 : List UInt8 := [96, 181, 0, 22, 43, 42, 182, 0, 85, 181, 0, 88, 42, 89, 180, 0, 71, 4, 96, 181, 0, 71, 177]
abbrev dktX11_clause_6 : List UInt8 := dkwX11_clause_6 ++ []
def dkwX11_clause_5 : List UInt8 := [43, 42, 182, 0, 33, 16, 62, 160, 0, 7, 3, 167, 0, 4, 4, 181, 0, 82, 42, 89, 180, 0, 22, 4]
abbrev dktX11_clause_5 : List UInt8 := dkwX11_clause_5 ++ dktX11_clause_6
def dkwX11_clause_4 : List UInt8 := [159, 0, 24, 42, 182, 0, 33, 16, 60, 159, 0, 15, 187, 0, 55, 89, 42, 180, 0, 22, 183, 0, 57, 191]
abbrev dktX11_clause_4 : List UInt8 := dkwX11_clause_4 ++ dktX11_clause_5
def dkwX11_clause_3 : List UInt8 := [182, 0, 68, 153, 0, 7, 2, 167, 0, 4, 3, 182, 0, 78, 167, 255, 206, 42, 182, 0, 33, 16, 62]
abbrev dktX11_clause_3 : List UInt8 := dkwX11_clause_3 ++ dktX11_clause_4
def dkwX11_clause_2 : List UInt8 := [16, 45, 160, 0, 38, 42, 43, 42, 16, 43, 182, 0, 68, 153, 0, 7, 4, 167, 0, 17, 42, 16, 45]
abbrev dktX11_clause_2 : List UInt8 := dkwX11_clause_2 ++ dktX11_clause_3
def dkwX11_clause_1 : List UInt8 := [153, 0, 7, 2, 167, 0, 4, 4, 182, 0, 78, 42, 182, 0, 33, 16, 43, 159, 0, 12, 42, 182, 0, 33]
abbrev dktX11_clause_1 : List UInt8 := dkwX11_clause_1 ++ dktX11_clause_2
def dkwX11_clause_0 : List UInt8 := [42, 180, 0, 17, 42, 180, 0, 71, 50, 76, 43, 3, 3, 182, 0, 74, 42, 43, 42, 16, 45, 182, 0, 68]
abbrev dktX11_clause_0 : List UInt8 := dkwX11_clause_0 ++ dktX11_clause_1
theorem dksX11_clause_0 : cX11_clause.data.toList.drop 0 = dktX11_clause_0 := by decide +kernel
theorem dksX11_clause_1 : cX11_clause.data.toList.drop 24 = dktX11_clause_1 := dk_seg dksX11_clause_0 24 rfl rfl
theorem dksX11_clause_2 : cX11_clause.data.toList.drop 48 = dktX11_clause_2 := dk_seg dksX11_clause_1 24 rfl rfl
theorem dksX11_clause_3 : cX11_clause.data.toList.drop 71 = dktX11_clause_3 := dk_seg dksX11_clause_2 23 rfl rfl
theorem dksX11_clause_4 : cX11_clause.data.toList.drop 94 = dktX11_clause_4 := dk_seg dksX11_clause_3 23 rfl rfl
theorem dksX11_clause_5 : cX11_clause.data.toList.drop 118 = dktX11_clause_5 := dk_seg dksX11_clause_4 24 rfl rfl
theorem dksX11_clause_6 : cX11_clause.data.toList.drop 142 = dktX11_clause_6 := dk_seg dksX11_clause_5 24 rfl rfl
theorem dX11_clause_0 : decode cX11_clause 0 = .ok (.aload_n 0, 1) := dk_42 (dk_at dksX11_clause_0 0 rfl rfl)
theorem dX11_clause_1 : decode cX11_clause 1 = .ok (.getfield 17, 3) := dk_180 0 17 (dk_at dksX11_clause_0 1 rfl rfl)
theorem dX11_clause_4 : decode cX11_clause 4 = .ok (.aload_n 0, 1) := dk_42 (dk_at dksX11_clause_0 4 rfl rfl)
theorem dX11_clause_5 : decode cX11_clause 5 = .ok (.getfield 71, 3) := dk_180 0 71 (dk_at dksX11_clause_0 5 rfl rfl)
theorem dX11_clause_8 : decode cX11_clause 8 = .ok (.aaload, 1) := dk_50 (dk_at dksX11_clause_0 8 rfl rfl)
theorem dX11_clause_9 : decode cX11_clause 9 = .ok (.astore_n 1, 1) := dk_76 (dk_at dksX11_clause_0 9 rfl rfl)
theorem dX11_clause_10 : decode cX11_clause 10 = .ok (.aload_n 1, 1) := dk_43 (dk_at dksX11_clause_0 10 rfl rfl)
theorem dX11_clause_11 : decode cX11_clause 11 = .ok (.iconst 0, 1) := dk_3 (dk_at dksX11_clause_0 11 rfl rfl)
theorem dX11_clause_12 : decode cX11_clause 12 = .ok (.iconst 0, 1) := dk_3 (dk_at dksX11_clause_0 12 rfl rfl)
theorem dX11_clause_13 : decode cX11_clause 13 = .ok (.invokevirtual 74, 3) := dk_182 0 74 (dk_at dksX11_clause_0 13 rfl rfl)
theorem dX11_clause_16 : decode cX11_clause 16 = .ok (.aload_n 0, 1) := dk_42 (dk_at dksX11_clause_0 16 rfl rfl)
theorem dX11_clause_17 : decode cX11_clause 17 = .ok (.aload_n 1, 1) := dk_43 (dk_at dksX11_clause_0 17 rfl rfl)
theorem dX11_clause_18 : decode cX11_clause 18 = .ok (.aload_n 0, 1) := dk_42 (dk_at dksX11_clause_0 18 rfl rfl)
theorem dX11_clause_19 : decode cX11_clause 19 = .ok (.bipush 45, 2) := dk_16 45 (dk_at dksX11_clause_0 19 rfl rfl)
theorem dX11_clause_21 : decode cX11_clause 21 = .ok (.invokevirtual 68, 3) := dk_182 0 68 (dk_at dksX11_clause_0 21 rfl rfl)
theorem dX11_clause_24 : decode cX11_clause 24 = .ok (.ifCond .eq 7, 3) := dk_153 0 7 (dk_at dksX11_clause_1 0 rfl rfl)
theorem dX11_clause_27 : decode cX11_clause 27 = .ok (.iconst (-1), 1) := dk_2 (dk_at dksX11_clause_1 3 rfl rfl)
theorem dX11_clause_28 : decode cX11_clause 28 = .ok (.goto 4, 3) := dk_167 0 4 (dk_at dksX11_clause_1 4 rfl rfl)
theorem dX11_clause_31 : decode cX11_clause 31 = .ok (.iconst 1, 1) := dk_4 (dk_at dksX11_clause_1 7 rfl rfl)
theorem dX11_clause_32 : decode cX11_clause 32 = .ok (.invokevirtual 78, 3) := dk_182 0 78 (dk_at dksX11_clause_1 8 rfl rfl)
theorem dX11_clause_35 : decode cX11_clause 35 = .ok (.aload_n 0, 1) := dk_42 (dk_at dksX11_clause_1 11 rfl rfl)
theorem dX11_clause_36 : decode cX11_clause 36 = .ok (.invokevirtual 33, 3) := dk_182 0 33 (dk_at dksX11_clause_1 12 rfl rfl)
theorem dX11_clause_39 : decode cX11_clause 39 = .ok (.bipush 43, 2) := dk_16 43 (dk_at dksX11_clause_1 15 rfl rfl)
theorem dX11_clause_41 : decode cX11_clause 41 = .ok (.if_icmp .eq 12, 3) := dk_159 0 12 (dk_at dksX11_clause_1 17 rfl rfl)
theorem dX11_clause_44 : decode cX11_clause 44 = .ok (.aload_n 0, 1) := dk_42 (dk_at dksX11_clause_1 20 rfl rfl)
theorem dX11_clause_45 : decode cX11_clause 45 = .ok (.invokevirtual 33, 3) := dk_182 0 33 (dk_at dksX11_clause_1 21 rfl rfl)
theorem dX11_clause_48 : decode cX11_clause 48 = .ok (.bipush 45, 2) := dk_16 45 (dk_at dksX11_clause_2 0 rfl rfl)
theorem dX11_clause_50 : decode cX11_clause 50 = .ok (.if_icmp .ne 38, 3) := dk_160 0 38 (dk_at dksX11_clause_2 2 rfl rfl)
theorem dX11_clause_53 : decode cX11_clause 53 = .ok (.aload_n 0, 1) := dk_42 (dk_at dksX11_clause_2 5 rfl rfl)
theorem dX11_clause_54 : decode cX11_clause 54 = .ok (.aload_n 1, 1) := dk_43 (dk_at dksX11_clause_2 6 rfl rfl)
theorem dX11_clause_55 : decode cX11_clause 55 = .ok (.aload_n 0, 1) := dk_42 (dk_at dksX11_clause_2 7 rfl rfl)
theorem dX11_clause_56 : decode cX11_clause 56 = .ok (.bipush 43, 2) := dk_16 43 (dk_at dksX11_clause_2 8 rfl rfl)
theorem dX11_clause_58 : decode cX11_clause 58 = .ok (.invokevirtual 68, 3) := dk_182 0 68 (dk_at dksX11_clause_2 10 rfl rfl)
theorem dX11_clause_61 : decode cX11_clause 61 = .ok (.ifCond .eq 7, 3) := dk_153 0 7 (dk_at dksX11_clause_2 13 rfl rfl)
theorem dX11_clause_64 : decode cX11_clause 64 = .ok (.iconst 1, 1) := dk_4 (dk_at dksX11_clause_2 16 rfl rfl)
theorem dX11_clause_65 : decode cX11_clause 65 = .ok (.goto 17, 3) := dk_167 0 17 (dk_at dksX11_clause_2 17 rfl rfl)
theorem dX11_clause_68 : decode cX11_clause 68 = .ok (.aload_n 0, 1) := dk_42 (dk_at dksX11_clause_2 20 rfl rfl)
theorem dX11_clause_69 : decode cX11_clause 69 = .ok (.bipush 45, 2) := dk_16 45 (dk_at dksX11_clause_2 21 rfl rfl)
theorem dX11_clause_71 : decode cX11_clause 71 = .ok (.invokevirtual 68, 3) := dk_182 0 68 (dk_at dksX11_clause_3 0 rfl rfl)
theorem dX11_clause_74 : decode cX11_clause 74 = .ok (.ifCond .eq 7, 3) := dk_153 0 7 (dk_at dksX11_clause_3 3 rfl rfl)
theorem dX11_clause_77 : decode cX11_clause 77 = .ok (.iconst (-1), 1) := dk_2 (dk_at dksX11_clause_3 6 rfl rfl)
theorem dX11_clause_78 : decode cX11_clause 78 = .ok (.goto 4, 3) := dk_167 0 4 (dk_at dksX11_clause_3 7 rfl rfl)
theorem dX11_clause_81 : decode cX11_clause 81 = .ok (.iconst 0, 1) := dk_3 (dk_at dksX11_clause_3 10 rfl rfl)
theorem dX11_clause_82 : decode cX11_clause 82 = .ok (.invokevirtual 78, 3) := dk_182 0 78 (dk_at dksX11_clause_3 11 rfl rfl)
theorem dX11_clause_85 : decode cX11_clause 85 = .ok (.goto (-50), 3) := dk_167 255 206 (dk_at dksX11_clause_3 14 rfl rfl)
theorem dX11_clause_88 : decode cX11_clause 88 = .ok (.aload_n 0, 1) := dk_42 (dk_at dksX11_clause_3 17 rfl rfl)
theorem dX11_clause_89 : decode cX11_clause 89 = .ok (.invokevirtual 33, 3) := dk_182 0 33 (dk_at dksX11_clause_3 18 rfl rfl)
theorem dX11_clause_92 : decode cX11_clause 92 = .ok (.bipush 62, 2) := dk_16 62 (dk_at dksX11_clause_3 21 rfl rfl)
theorem dX11_clause_94 : decode cX11_clause 94 = .ok (.if_icmp .eq 24, 3) := dk_159 0 24 (dk_at dksX11_clause_4 0 rfl rfl)
theorem dX11_clause_97 : decode cX11_clause 97 = .ok (.aload_n 0, 1) := dk_42 (dk_at dksX11_clause_4 3 rfl rfl)
theorem dX11_clause_98 : decode cX11_clause 98 = .ok (.invokevirtual 33, 3) := dk_182 0 33 (dk_at dksX11_clause_4 4 rfl rfl)
theorem dX11_clause_101 : decode cX11_clause 101 = .ok (.bipush 60, 2) := dk_16 60 (dk_at dksX11_clause_4 7 rfl rfl)
theorem dX11_clause_103 : decode cX11_clause 103 = .ok (.if_icmp .eq 15, 3) := dk_159 0 15 (dk_at dksX11_clause_4 9 rfl rfl)
theorem dX11_clause_106 : decode cX11_clause 106 = .ok (.new 55, 3) := dk_187 0 55 (dk_at dksX11_clause_4 12 rfl rfl)
theorem dX11_clause_109 : decode cX11_clause 109 = .ok (.dup, 1) := dk_89 (dk_at dksX11_clause_4 15 rfl rfl)
theorem dX11_clause_110 : decode cX11_clause 110 = .ok (.aload_n 0, 1) := dk_42 (dk_at dksX11_clause_4 16 rfl rfl)
theorem dX11_clause_111 : decode cX11_clause 111 = .ok (.getfield 22, 3) := dk_180 0 22 (dk_at dksX11_clause_4 17 rfl rfl)
theorem dX11_clause_114 : decode cX11_clause 114 = .ok (.invokespecial 57, 3) := dk_183 0 57 (dk_at dksX11_clause_4 20 rfl rfl)
theorem dX11_clause_117 : decode cX11_clause 117 = .ok (.athrow, 1) := dk_191 (dk_at dksX11_clause_4 23 rfl rfl)
theorem dX11_clause_118 : decode cX11_clause 118 = .ok (.aload_n 1, 1) := dk_43 (dk_at dksX11_clause_5 0 rfl rfl)
theorem dX11_clause_119 : decode cX11_clause 119 = .ok (.aload_n 0, 1) := dk_42 (dk_at dksX11_clause_5 1 rfl rfl)
theorem dX11_clause_120 : decode cX11_clause 120 = .ok (.invokevirtual 33, 3) := dk_182 0 33 (dk_at dksX11_clause_5 2 rfl rfl)
theorem dX11_clause_123 : decode cX11_clause 123 = .ok (.bipush 62, 2) := dk_16 62 (dk_at dksX11_clause_5 5 rfl rfl)
theorem dX11_clause_125 : decode cX11_clause 125 = .ok (.if_icmp .ne 7, 3) := dk_160 0 7 (dk_at dksX11_clause_5 7 rfl rfl)
theorem dX11_clause_128 : decode cX11_clause 128 = .ok (.iconst 0, 1) := dk_3 (dk_at dksX11_clause_5 10 rfl rfl)
theorem dX11_clause_129 : decode cX11_clause 129 = .ok (.goto 4, 3) := dk_167 0 4 (dk_at dksX11_clause_5 11 rfl rfl)
theorem dX11_clause_132 : decode cX11_clause 132 = .ok (.iconst 1, 1) := dk_4 (dk_at dksX11_clause_5 14 rfl rfl)
theorem dX11_clause_133 : decode cX11_clause 133 = .ok (.putfield 82, 3) := dk_181 0 82 (dk_at dksX11_clause_5 15 rfl rfl)
theorem dX11_clause_136 : decode cX11_clause 136 = .ok (.aload_n 0, 1) := dk_42 (dk_at dksX11_clause_5 18 rfl rfl)
theorem dX11_clause_137 : decode cX11_clause 137 = .ok (.dup, 1) := dk_89 (dk_at dksX11_clause_5 19 rfl rfl)
theorem dX11_clause_138 : decode cX11_clause 138 = .ok (.getfield 22, 3) := dk_180 0 22 (dk_at dksX11_clause_5 20 rfl rfl)
theorem dX11_clause_141 : decode cX11_clause 141 = .ok (.iconst 1, 1) := dk_4 (dk_at dksX11_clause_5 23 rfl rfl)
theorem dX11_clause_142 : decode cX11_clause 142 = .ok (.iadd, 1) := dk_96 (dk_at dksX11_clause_6 0 rfl rfl)
theorem dX11_clause_143 : decode cX11_clause 143 = .ok (.putfield 22, 3) := dk_181 0 22 (dk_at dksX11_clause_6 1 rfl rfl)
theorem dX11_clause_146 : decode cX11_clause 146 = .ok (.aload_n 1, 1) := dk_43 (dk_at dksX11_clause_6 4 rfl rfl)
theorem dX11_clause_147 : decode cX11_clause 147 = .ok (.aload_n 0, 1) := dk_42 (dk_at dksX11_clause_6 5 rfl rfl)
theorem dX11_clause_148 : decode cX11_clause 148 = .ok (.invokevirtual 85, 3) := dk_182 0 85 (dk_at dksX11_clause_6 6 rfl rfl)
theorem dX11_clause_151 : decode cX11_clause 151 = .ok (.putfield 88, 3) := dk_181 0 88 (dk_at dksX11_clause_6 9 rfl rfl)
theorem dX11_clause_154 : decode cX11_clause 154 = .ok (.aload_n 0, 1) := dk_42 (dk_at dksX11_clause_6 12 rfl rfl)
theorem dX11_clause_155 : decode cX11_clause 155 = .ok (.dup, 1) := dk_89 (dk_at dksX11_clause_6 13 rfl rfl)
theorem dX11_clause_156 : decode cX11_clause 156 = .ok (.getfield 71, 3) := dk_180 0 71 (dk_at dksX11_clause_6 14 rfl rfl)
theorem dX11_clause_159 : decode cX11_clause 159 = .ok (.iconst 1, 1) := dk_4 (dk_at dksX11_clause_6 17 rfl rfl)
theorem dX11_clause_160 : decode cX11_clause 160 = .ok (.iadd, 1) := dk_96 (dk_at dksX11_clause_6 18 rfl rfl)
theorem dX11_clause_161 : decode cX11_clause 161 = .ok (.putfield 71, 3) := dk_181 0 71 (dk_at dksX11_clause_6 19 rfl rfl)
theorem dX11_clause_164 : decode cX11_clause 164 = .ok (.return_, 1) := dk_177 (dk_at dksX11_clause_6 22 rfl rfl)
abbrev cX11_is : ByteArray := prog_13_method_3_code
def yX11_is : MethodName := ⟨RX11, "is", "(I)Z"⟩
def dkwX11_is_0 : List UInt8 := [42, 182, 0, 33, 27, 159, 0, 5, 3, 172, 42, 89, 180, 0, 22, 4, 96, 181, 0, 22, 4, 172]
abbrev dktX11_is_0 : List UInt8 := dkwX11_is_0 ++ []
theorem dksX11_is_0 : cX11_is.data.toList.drop 0 = dktX11_is_0 := by decide +kernel
theorem dX11_is_0 : decode cX11_is 0 = .ok (.aload_n 0, 1) := dk_42 (dk_at dksX11_is_0 0 rfl rfl)
theorem dX11_is_1 : decode cX11_is 1 = .ok (.invokevirtual 33, 3) := dk_182 0 33 (dk_at dksX11_is_0 1 rfl rfl)
theorem dX11_is_4 : decode cX11_is 4 = .ok (.iload_n 1, 1) := dk_27 (dk_at dksX11_is_0 4 rfl rfl)
theorem dX11_is_5 : decode cX11_is 5 = .ok (.if_icmp .eq 5, 3) := dk_159 0 5 (dk_at dksX11_is_0 5 rfl rfl)
theorem dX11_is_8 : decode cX11_is 8 = .ok (.iconst 0, 1) := dk_3 (dk_at dksX11_is_0 8 rfl rfl)
theorem dX11_is_9 : decode cX11_is 9 = .ok (.ireturn, 1) := dk_172 (dk_at dksX11_is_0 9 rfl rfl)
theorem dX11_is_10 : decode cX11_is 10 = .ok (.aload_n 0, 1) := dk_42 (dk_at dksX11_is_0 10 rfl rfl)
theorem dX11_is_11 : decode cX11_is 11 = .ok (.dup, 1) := dk_89 (dk_at dksX11_is_0 11 rfl rfl)
theorem dX11_is_12 : decode cX11_is 12 = .ok (.getfield 22, 3) := dk_180 0 22 (dk_at dksX11_is_0 12 rfl rfl)
theorem dX11_is_15 : decode cX11_is 15 = .ok (.iconst 1, 1) := dk_4 (dk_at dksX11_is_0 15 rfl rfl)
theorem dX11_is_16 : decode cX11_is 16 = .ok (.iadd, 1) := dk_96 (dk_at dksX11_is_0 16 rfl rfl)
theorem dX11_is_17 : decode cX11_is 17 = .ok (.putfield 22, 3) := dk_181 0 22 (dk_at dksX11_is_0 17 rfl rfl)
theorem dX11_is_20 : decode cX11_is 20 = .ok (.iconst 1, 1) := dk_4 (dk_at dksX11_is_0 20 rfl rfl)
theorem dX11_is_21 : decode cX11_is 21 = .ok (.ireturn, 1) := dk_172 (dk_at dksX11_is_0 21 rfl rfl)
abbrev cX11_here : ByteArray := prog_13_method_2_code
def yX11_here : MethodName := ⟨RX11, "here", "()I"⟩
def dkwX11_here_1 : List UInt8 := [180, 0, 22, 51, 167, 0, 4, 2, 172]
abbrev dktX11_here_1 : List UInt8 := dkwX11_here_1 ++ []
def dkwX11_here_0 : List UInt8 := [42, 180, 0, 22, 42, 180, 0, 3, 180, 0, 26, 162, 0, 18, 42, 180, 0, 3, 180, 0, 29, 42]
abbrev dktX11_here_0 : List UInt8 := dkwX11_here_0 ++ dktX11_here_1
theorem dksX11_here_0 : cX11_here.data.toList.drop 0 = dktX11_here_0 := by decide +kernel
theorem dksX11_here_1 : cX11_here.data.toList.drop 22 = dktX11_here_1 := dk_seg dksX11_here_0 22 rfl rfl
theorem dX11_here_0 : decode cX11_here 0 = .ok (.aload_n 0, 1) := dk_42 (dk_at dksX11_here_0 0 rfl rfl)
theorem dX11_here_1 : decode cX11_here 1 = .ok (.getfield 22, 3) := dk_180 0 22 (dk_at dksX11_here_0 1 rfl rfl)
theorem dX11_here_4 : decode cX11_here 4 = .ok (.aload_n 0, 1) := dk_42 (dk_at dksX11_here_0 4 rfl rfl)
theorem dX11_here_5 : decode cX11_here 5 = .ok (.getfield 3, 3) := dk_180 0 3 (dk_at dksX11_here_0 5 rfl rfl)
theorem dX11_here_8 : decode cX11_here 8 = .ok (.getfield 26, 3) := dk_180 0 26 (dk_at dksX11_here_0 8 rfl rfl)
theorem dX11_here_11 : decode cX11_here 11 = .ok (.if_icmp .ge 18, 3) := dk_162 0 18 (dk_at dksX11_here_0 11 rfl rfl)
theorem dX11_here_14 : decode cX11_here 14 = .ok (.aload_n 0, 1) := dk_42 (dk_at dksX11_here_0 14 rfl rfl)
theorem dX11_here_15 : decode cX11_here 15 = .ok (.getfield 3, 3) := dk_180 0 3 (dk_at dksX11_here_0 15 rfl rfl)
theorem dX11_here_18 : decode cX11_here 18 = .ok (.getfield 29, 3) := dk_180 0 29 (dk_at dksX11_here_0 18 rfl rfl)
theorem dX11_here_21 : decode cX11_here 21 = .ok (.aload_n 0, 1) := dk_42 (dk_at dksX11_here_0 21 rfl rfl)
theorem dX11_here_22 : decode cX11_here 22 = .ok (.getfield 22, 3) := dk_180 0 22 (dk_at dksX11_here_1 0 rfl rfl)
theorem dX11_here_25 : decode cX11_here 25 = .ok (.baload, 1) := dk_51 (dk_at dksX11_here_1 3 rfl rfl)
theorem dX11_here_26 : decode cX11_here 26 = .ok (.goto 4, 3) := dk_167 0 4 (dk_at dksX11_here_1 4 rfl rfl)
theorem dX11_here_29 : decode cX11_here 29 = .ok (.iconst (-1), 1) := dk_2 (dk_at dksX11_here_1 7 rfl rfl)
theorem dX11_here_30 : decode cX11_here 30 = .ok (.ireturn, 1) := dk_172 (dk_at dksX11_here_1 8 rfl rfl)
abbrev cX11_term : ByteArray := prog_13_method_4_code
def yX11_term : MethodName := ⟨RX11, "term", "(LWholePacks$Rule;I)V"⟩
def dkwX11_term_5 : List UInt8 := [191, 42, 89, 180, 0, 22, 4, 96, 181, 0, 22, 177]
abbrev dktX11_term_5 : List UInt8 := dkwX11_term_5 ++ []
def dkwX11_term_4 : List UInt8 := [133, 20, 0, 64, 20, 0, 66, 184, 0, 41, 154, 0, 15, 187, 0, 55, 89, 42, 180, 0, 22, 183, 0, 57]
abbrev dktX11_term_4 : List UInt8 := dkwX11_term_4 ++ dktX11_term_5
def dkwX11_term_3 : List UInt8 := [183, 0, 57, 191, 43, 180, 0, 60, 21, 4, 92, 46, 28, 29, 104, 96, 79, 43, 180, 0, 60, 21, 4, 46]
abbrev dktX11_term_3 : List UInt8 := dkwX11_term_3 ++ dktX11_term_4
def dkwX11_term_2 : List UInt8 := [180, 0, 3, 180, 0, 45, 21, 4, 182, 0, 49, 154, 0, 15, 187, 0, 55, 89, 42, 180, 0, 22]
abbrev dktX11_term_2 : List UInt8 := dkwX11_term_2 ++ dktX11_term_3
def dkwX11_term_1 : List UInt8 := [16, 48, 100, 62, 42, 89, 180, 0, 22, 4, 96, 181, 0, 22, 42, 182, 0, 33, 16, 97, 100, 54, 4, 42]
abbrev dktX11_term_1 : List UInt8 := dkwX11_term_1 ++ dktX11_term_2
def dkwX11_term_0 : List UInt8 := [4, 62, 42, 182, 0, 33, 133, 20, 0, 37, 20, 0, 39, 184, 0, 41, 153, 0, 21, 42, 182, 0, 33]
abbrev dktX11_term_0 : List UInt8 := dkwX11_term_0 ++ dktX11_term_1
theorem dksX11_term_0 : cX11_term.data.toList.drop 0 = dktX11_term_0 := by decide +kernel
theorem dksX11_term_1 : cX11_term.data.toList.drop 23 = dktX11_term_1 := dk_seg dksX11_term_0 23 rfl rfl
theorem dksX11_term_2 : cX11_term.data.toList.drop 47 = dktX11_term_2 := dk_seg dksX11_term_1 24 rfl rfl
theorem dksX11_term_3 : cX11_term.data.toList.drop 69 = dktX11_term_3 := dk_seg dksX11_term_2 22 rfl rfl
theorem dksX11_term_4 : cX11_term.data.toList.drop 93 = dktX11_term_4 := dk_seg dksX11_term_3 24 rfl rfl
theorem dksX11_term_5 : cX11_term.data.toList.drop 117 = dktX11_term_5 := dk_seg dksX11_term_4 24 rfl rfl
theorem dX11_term_0 : decode cX11_term 0 = .ok (.iconst 1, 1) := dk_4 (dk_at dksX11_term_0 0 rfl rfl)
theorem dX11_term_1 : decode cX11_term 1 = .ok (.istore_n 3, 1) := dk_62 (dk_at dksX11_term_0 1 rfl rfl)
theorem dX11_term_2 : decode cX11_term 2 = .ok (.aload_n 0, 1) := dk_42 (dk_at dksX11_term_0 2 rfl rfl)
theorem dX11_term_3 : decode cX11_term 3 = .ok (.invokevirtual 33, 3) := dk_182 0 33 (dk_at dksX11_term_0 3 rfl rfl)
theorem dX11_term_6 : decode cX11_term 6 = .ok (.i2l, 1) := dk_133 (dk_at dksX11_term_0 6 rfl rfl)
theorem dX11_term_7 : decode cX11_term 7 = .ok (.ldc2_w 37, 3) := dk_20 0 37 (dk_at dksX11_term_0 7 rfl rfl)
theorem dX11_term_10 : decode cX11_term 10 = .ok (.ldc2_w 39, 3) := dk_20 0 39 (dk_at dksX11_term_0 10 rfl rfl)
theorem dX11_term_13 : decode cX11_term 13 = .ok (.invokestatic 41, 3) := dk_184 0 41 (dk_at dksX11_term_0 13 rfl rfl)
theorem dX11_term_16 : decode cX11_term 16 = .ok (.ifCond .eq 21, 3) := dk_153 0 21 (dk_at dksX11_term_0 16 rfl rfl)
theorem dX11_term_19 : decode cX11_term 19 = .ok (.aload_n 0, 1) := dk_42 (dk_at dksX11_term_0 19 rfl rfl)
theorem dX11_term_20 : decode cX11_term 20 = .ok (.invokevirtual 33, 3) := dk_182 0 33 (dk_at dksX11_term_0 20 rfl rfl)
theorem dX11_term_23 : decode cX11_term 23 = .ok (.bipush 48, 2) := dk_16 48 (dk_at dksX11_term_1 0 rfl rfl)
theorem dX11_term_25 : decode cX11_term 25 = .ok (.isub, 1) := dk_100 (dk_at dksX11_term_1 2 rfl rfl)
theorem dX11_term_26 : decode cX11_term 26 = .ok (.istore_n 3, 1) := dk_62 (dk_at dksX11_term_1 3 rfl rfl)
theorem dX11_term_27 : decode cX11_term 27 = .ok (.aload_n 0, 1) := dk_42 (dk_at dksX11_term_1 4 rfl rfl)
theorem dX11_term_28 : decode cX11_term 28 = .ok (.dup, 1) := dk_89 (dk_at dksX11_term_1 5 rfl rfl)
theorem dX11_term_29 : decode cX11_term 29 = .ok (.getfield 22, 3) := dk_180 0 22 (dk_at dksX11_term_1 6 rfl rfl)
theorem dX11_term_32 : decode cX11_term 32 = .ok (.iconst 1, 1) := dk_4 (dk_at dksX11_term_1 9 rfl rfl)
theorem dX11_term_33 : decode cX11_term 33 = .ok (.iadd, 1) := dk_96 (dk_at dksX11_term_1 10 rfl rfl)
theorem dX11_term_34 : decode cX11_term 34 = .ok (.putfield 22, 3) := dk_181 0 22 (dk_at dksX11_term_1 11 rfl rfl)
theorem dX11_term_37 : decode cX11_term 37 = .ok (.aload_n 0, 1) := dk_42 (dk_at dksX11_term_1 14 rfl rfl)
theorem dX11_term_38 : decode cX11_term 38 = .ok (.invokevirtual 33, 3) := dk_182 0 33 (dk_at dksX11_term_1 15 rfl rfl)
theorem dX11_term_41 : decode cX11_term 41 = .ok (.bipush 97, 2) := dk_16 97 (dk_at dksX11_term_1 18 rfl rfl)
theorem dX11_term_43 : decode cX11_term 43 = .ok (.isub, 1) := dk_100 (dk_at dksX11_term_1 20 rfl rfl)
theorem dX11_term_44 : decode cX11_term 44 = .ok (.istore 4, 2) := dk_54 4 (dk_at dksX11_term_1 21 rfl rfl)
theorem dX11_term_46 : decode cX11_term 46 = .ok (.aload_n 0, 1) := dk_42 (dk_at dksX11_term_1 23 rfl rfl)
theorem dX11_term_47 : decode cX11_term 47 = .ok (.getfield 3, 3) := dk_180 0 3 (dk_at dksX11_term_2 0 rfl rfl)
theorem dX11_term_50 : decode cX11_term 50 = .ok (.getfield 45, 3) := dk_180 0 45 (dk_at dksX11_term_2 3 rfl rfl)
theorem dX11_term_53 : decode cX11_term 53 = .ok (.iload 4, 2) := dk_21 4 (dk_at dksX11_term_2 6 rfl rfl)
theorem dX11_term_55 : decode cX11_term 55 = .ok (.invokevirtual 49, 3) := dk_182 0 49 (dk_at dksX11_term_2 8 rfl rfl)
theorem dX11_term_58 : decode cX11_term 58 = .ok (.ifCond .ne 15, 3) := dk_154 0 15 (dk_at dksX11_term_2 11 rfl rfl)
theorem dX11_term_61 : decode cX11_term 61 = .ok (.new 55, 3) := dk_187 0 55 (dk_at dksX11_term_2 14 rfl rfl)
theorem dX11_term_64 : decode cX11_term 64 = .ok (.dup, 1) := dk_89 (dk_at dksX11_term_2 17 rfl rfl)
theorem dX11_term_65 : decode cX11_term 65 = .ok (.aload_n 0, 1) := dk_42 (dk_at dksX11_term_2 18 rfl rfl)
theorem dX11_term_66 : decode cX11_term 66 = .ok (.getfield 22, 3) := dk_180 0 22 (dk_at dksX11_term_2 19 rfl rfl)
theorem dX11_term_69 : decode cX11_term 69 = .ok (.invokespecial 57, 3) := dk_183 0 57 (dk_at dksX11_term_3 0 rfl rfl)
theorem dX11_term_72 : decode cX11_term 72 = .ok (.athrow, 1) := dk_191 (dk_at dksX11_term_3 3 rfl rfl)
theorem dX11_term_73 : decode cX11_term 73 = .ok (.aload_n 1, 1) := dk_43 (dk_at dksX11_term_3 4 rfl rfl)
theorem dX11_term_74 : decode cX11_term 74 = .ok (.getfield 60, 3) := dk_180 0 60 (dk_at dksX11_term_3 5 rfl rfl)
theorem dX11_term_77 : decode cX11_term 77 = .ok (.iload 4, 2) := dk_21 4 (dk_at dksX11_term_3 8 rfl rfl)
theorem dX11_term_79 : decode cX11_term 79 = .ok (.dup2, 1) := dk_92 (dk_at dksX11_term_3 10 rfl rfl)
theorem dX11_term_80 : decode cX11_term 80 = .ok (.iaload, 1) := dk_46 (dk_at dksX11_term_3 11 rfl rfl)
theorem dX11_term_81 : decode cX11_term 81 = .ok (.iload_n 2, 1) := dk_28 (dk_at dksX11_term_3 12 rfl rfl)
theorem dX11_term_82 : decode cX11_term 82 = .ok (.iload_n 3, 1) := dk_29 (dk_at dksX11_term_3 13 rfl rfl)
theorem dX11_term_83 : decode cX11_term 83 = .ok (.imul, 1) := dk_104 (dk_at dksX11_term_3 14 rfl rfl)
theorem dX11_term_84 : decode cX11_term 84 = .ok (.iadd, 1) := dk_96 (dk_at dksX11_term_3 15 rfl rfl)
theorem dX11_term_85 : decode cX11_term 85 = .ok (.iastore, 1) := dk_79 (dk_at dksX11_term_3 16 rfl rfl)
theorem dX11_term_86 : decode cX11_term 86 = .ok (.aload_n 1, 1) := dk_43 (dk_at dksX11_term_3 17 rfl rfl)
theorem dX11_term_87 : decode cX11_term 87 = .ok (.getfield 60, 3) := dk_180 0 60 (dk_at dksX11_term_3 18 rfl rfl)
theorem dX11_term_90 : decode cX11_term 90 = .ok (.iload 4, 2) := dk_21 4 (dk_at dksX11_term_3 21 rfl rfl)
theorem dX11_term_92 : decode cX11_term 92 = .ok (.iaload, 1) := dk_46 (dk_at dksX11_term_3 23 rfl rfl)
theorem dX11_term_93 : decode cX11_term 93 = .ok (.i2l, 1) := dk_133 (dk_at dksX11_term_4 0 rfl rfl)
theorem dX11_term_94 : decode cX11_term 94 = .ok (.ldc2_w 64, 3) := dk_20 0 64 (dk_at dksX11_term_4 1 rfl rfl)
theorem dX11_term_97 : decode cX11_term 97 = .ok (.ldc2_w 66, 3) := dk_20 0 66 (dk_at dksX11_term_4 4 rfl rfl)
theorem dX11_term_100 : decode cX11_term 100 = .ok (.invokestatic 41, 3) := dk_184 0 41 (dk_at dksX11_term_4 7 rfl rfl)
theorem dX11_term_103 : decode cX11_term 103 = .ok (.ifCond .ne 15, 3) := dk_154 0 15 (dk_at dksX11_term_4 10 rfl rfl)
theorem dX11_term_106 : decode cX11_term 106 = .ok (.new 55, 3) := dk_187 0 55 (dk_at dksX11_term_4 13 rfl rfl)
theorem dX11_term_109 : decode cX11_term 109 = .ok (.dup, 1) := dk_89 (dk_at dksX11_term_4 16 rfl rfl)
theorem dX11_term_110 : decode cX11_term 110 = .ok (.aload_n 0, 1) := dk_42 (dk_at dksX11_term_4 17 rfl rfl)
theorem dX11_term_111 : decode cX11_term 111 = .ok (.getfield 22, 3) := dk_180 0 22 (dk_at dksX11_term_4 18 rfl rfl)
theorem dX11_term_114 : decode cX11_term 114 = .ok (.invokespecial 57, 3) := dk_183 0 57 (dk_at dksX11_term_4 21 rfl rfl)
theorem dX11_term_117 : decode cX11_term 117 = .ok (.athrow, 1) := dk_191 (dk_at dksX11_term_5 0 rfl rfl)
theorem dX11_term_118 : decode cX11_term 118 = .ok (.aload_n 0, 1) := dk_42 (dk_at dksX11_term_5 1 rfl rfl)
theorem dX11_term_119 : decode cX11_term 119 = .ok (.dup, 1) := dk_89 (dk_at dksX11_term_5 2 rfl rfl)
theorem dX11_term_120 : decode cX11_term 120 = .ok (.getfield 22, 3) := dk_180 0 22 (dk_at dksX11_term_5 3 rfl rfl)
theorem dX11_term_123 : decode cX11_term 123 = .ok (.iconst 1, 1) := dk_4 (dk_at dksX11_term_5 6 rfl rfl)
theorem dX11_term_124 : decode cX11_term 124 = .ok (.iadd, 1) := dk_96 (dk_at dksX11_term_5 7 rfl rfl)
theorem dX11_term_125 : decode cX11_term 125 = .ok (.putfield 22, 3) := dk_181 0 22 (dk_at dksX11_term_5 8 rfl rfl)
theorem dX11_term_128 : decode cX11_term 128 = .ok (.return_, 1) := dk_177 (dk_at dksX11_term_5 11 rfl rfl)
abbrev cX11_number : ByteArray := prog_13_method_5_code
def yX11_number : MethodName := ⟨RX11, "number", "()I"⟩
def dkwX11_number_5 : List UInt8 := [183, 0, 57, 191, 27, 29, 104, 172]
abbrev dktX11_number_5 : List UInt8 := dkwX11_number_5 ++ []
def dkwX11_number_4 : List UInt8 := [183, 0, 57, 191, 27, 29, 104, 16, 157, 162, 0, 17, 187, 0, 55, 89, 42, 180, 0, 22, 4, 100]
abbrev dktX11_number_4 : List UInt8 := dkwX11_number_4 ++ dktX11_number_5
def dkwX11_number_3 : List UInt8 := [181, 0, 22, 167, 255, 206, 42, 180, 0, 22, 28, 160, 0, 15, 187, 0, 55, 89, 42, 180, 0, 22]
abbrev dktX11_number_3 : List UInt8 := dkwX11_number_3 ++ dktX11_number_4
def dkwX11_number_2 : List UInt8 := [153, 0, 29, 16, 10, 29, 104, 42, 182, 0, 33, 96, 16, 48, 100, 62, 42, 89, 180, 0, 22, 4, 96]
abbrev dktX11_number_2 : List UInt8 := dkwX11_number_2 ++ dktX11_number_3
def dkwX11_number_1 : List UInt8 := [180, 0, 22, 28, 100, 6, 162, 0, 46, 42, 182, 0, 33, 133, 20, 0, 37, 20, 0, 39, 184, 0, 41]
abbrev dktX11_number_1 : List UInt8 := dkwX11_number_1 ++ dktX11_number_2
def dkwX11_number_0 : List UInt8 := [42, 16, 45, 182, 0, 68, 153, 0, 7, 2, 167, 0, 4, 4, 60, 42, 180, 0, 22, 61, 3, 62, 42]
abbrev dktX11_number_0 : List UInt8 := dkwX11_number_0 ++ dktX11_number_1
theorem dksX11_number_0 : cX11_number.data.toList.drop 0 = dktX11_number_0 := by decide +kernel
theorem dksX11_number_1 : cX11_number.data.toList.drop 23 = dktX11_number_1 := dk_seg dksX11_number_0 23 rfl rfl
theorem dksX11_number_2 : cX11_number.data.toList.drop 46 = dktX11_number_2 := dk_seg dksX11_number_1 23 rfl rfl
theorem dksX11_number_3 : cX11_number.data.toList.drop 69 = dktX11_number_3 := dk_seg dksX11_number_2 23 rfl rfl
theorem dksX11_number_4 : cX11_number.data.toList.drop 91 = dktX11_number_4 := dk_seg dksX11_number_3 22 rfl rfl
theorem dksX11_number_5 : cX11_number.data.toList.drop 113 = dktX11_number_5 := dk_seg dksX11_number_4 22 rfl rfl
theorem dX11_number_0 : decode cX11_number 0 = .ok (.aload_n 0, 1) := dk_42 (dk_at dksX11_number_0 0 rfl rfl)
theorem dX11_number_1 : decode cX11_number 1 = .ok (.bipush 45, 2) := dk_16 45 (dk_at dksX11_number_0 1 rfl rfl)
theorem dX11_number_3 : decode cX11_number 3 = .ok (.invokevirtual 68, 3) := dk_182 0 68 (dk_at dksX11_number_0 3 rfl rfl)
theorem dX11_number_6 : decode cX11_number 6 = .ok (.ifCond .eq 7, 3) := dk_153 0 7 (dk_at dksX11_number_0 6 rfl rfl)
theorem dX11_number_9 : decode cX11_number 9 = .ok (.iconst (-1), 1) := dk_2 (dk_at dksX11_number_0 9 rfl rfl)
theorem dX11_number_10 : decode cX11_number 10 = .ok (.goto 4, 3) := dk_167 0 4 (dk_at dksX11_number_0 10 rfl rfl)
theorem dX11_number_13 : decode cX11_number 13 = .ok (.iconst 1, 1) := dk_4 (dk_at dksX11_number_0 13 rfl rfl)
theorem dX11_number_14 : decode cX11_number 14 = .ok (.istore_n 1, 1) := dk_60 (dk_at dksX11_number_0 14 rfl rfl)
theorem dX11_number_15 : decode cX11_number 15 = .ok (.aload_n 0, 1) := dk_42 (dk_at dksX11_number_0 15 rfl rfl)
theorem dX11_number_16 : decode cX11_number 16 = .ok (.getfield 22, 3) := dk_180 0 22 (dk_at dksX11_number_0 16 rfl rfl)
theorem dX11_number_19 : decode cX11_number 19 = .ok (.istore_n 2, 1) := dk_61 (dk_at dksX11_number_0 19 rfl rfl)
theorem dX11_number_20 : decode cX11_number 20 = .ok (.iconst 0, 1) := dk_3 (dk_at dksX11_number_0 20 rfl rfl)
theorem dX11_number_21 : decode cX11_number 21 = .ok (.istore_n 3, 1) := dk_62 (dk_at dksX11_number_0 21 rfl rfl)
theorem dX11_number_22 : decode cX11_number 22 = .ok (.aload_n 0, 1) := dk_42 (dk_at dksX11_number_0 22 rfl rfl)
theorem dX11_number_23 : decode cX11_number 23 = .ok (.getfield 22, 3) := dk_180 0 22 (dk_at dksX11_number_1 0 rfl rfl)
theorem dX11_number_26 : decode cX11_number 26 = .ok (.iload_n 2, 1) := dk_28 (dk_at dksX11_number_1 3 rfl rfl)
theorem dX11_number_27 : decode cX11_number 27 = .ok (.isub, 1) := dk_100 (dk_at dksX11_number_1 4 rfl rfl)
theorem dX11_number_28 : decode cX11_number 28 = .ok (.iconst 3, 1) := dk_6 (dk_at dksX11_number_1 5 rfl rfl)
theorem dX11_number_29 : decode cX11_number 29 = .ok (.if_icmp .ge 46, 3) := dk_162 0 46 (dk_at dksX11_number_1 6 rfl rfl)
theorem dX11_number_32 : decode cX11_number 32 = .ok (.aload_n 0, 1) := dk_42 (dk_at dksX11_number_1 9 rfl rfl)
theorem dX11_number_33 : decode cX11_number 33 = .ok (.invokevirtual 33, 3) := dk_182 0 33 (dk_at dksX11_number_1 10 rfl rfl)
theorem dX11_number_36 : decode cX11_number 36 = .ok (.i2l, 1) := dk_133 (dk_at dksX11_number_1 13 rfl rfl)
theorem dX11_number_37 : decode cX11_number 37 = .ok (.ldc2_w 37, 3) := dk_20 0 37 (dk_at dksX11_number_1 14 rfl rfl)
theorem dX11_number_40 : decode cX11_number 40 = .ok (.ldc2_w 39, 3) := dk_20 0 39 (dk_at dksX11_number_1 17 rfl rfl)
theorem dX11_number_43 : decode cX11_number 43 = .ok (.invokestatic 41, 3) := dk_184 0 41 (dk_at dksX11_number_1 20 rfl rfl)
theorem dX11_number_46 : decode cX11_number 46 = .ok (.ifCond .eq 29, 3) := dk_153 0 29 (dk_at dksX11_number_2 0 rfl rfl)
theorem dX11_number_49 : decode cX11_number 49 = .ok (.bipush 10, 2) := dk_16 10 (dk_at dksX11_number_2 3 rfl rfl)
theorem dX11_number_51 : decode cX11_number 51 = .ok (.iload_n 3, 1) := dk_29 (dk_at dksX11_number_2 5 rfl rfl)
theorem dX11_number_52 : decode cX11_number 52 = .ok (.imul, 1) := dk_104 (dk_at dksX11_number_2 6 rfl rfl)
theorem dX11_number_53 : decode cX11_number 53 = .ok (.aload_n 0, 1) := dk_42 (dk_at dksX11_number_2 7 rfl rfl)
theorem dX11_number_54 : decode cX11_number 54 = .ok (.invokevirtual 33, 3) := dk_182 0 33 (dk_at dksX11_number_2 8 rfl rfl)
theorem dX11_number_57 : decode cX11_number 57 = .ok (.iadd, 1) := dk_96 (dk_at dksX11_number_2 11 rfl rfl)
theorem dX11_number_58 : decode cX11_number 58 = .ok (.bipush 48, 2) := dk_16 48 (dk_at dksX11_number_2 12 rfl rfl)
theorem dX11_number_60 : decode cX11_number 60 = .ok (.isub, 1) := dk_100 (dk_at dksX11_number_2 14 rfl rfl)
theorem dX11_number_61 : decode cX11_number 61 = .ok (.istore_n 3, 1) := dk_62 (dk_at dksX11_number_2 15 rfl rfl)
theorem dX11_number_62 : decode cX11_number 62 = .ok (.aload_n 0, 1) := dk_42 (dk_at dksX11_number_2 16 rfl rfl)
theorem dX11_number_63 : decode cX11_number 63 = .ok (.dup, 1) := dk_89 (dk_at dksX11_number_2 17 rfl rfl)
theorem dX11_number_64 : decode cX11_number 64 = .ok (.getfield 22, 3) := dk_180 0 22 (dk_at dksX11_number_2 18 rfl rfl)
theorem dX11_number_67 : decode cX11_number 67 = .ok (.iconst 1, 1) := dk_4 (dk_at dksX11_number_2 21 rfl rfl)
theorem dX11_number_68 : decode cX11_number 68 = .ok (.iadd, 1) := dk_96 (dk_at dksX11_number_2 22 rfl rfl)
theorem dX11_number_69 : decode cX11_number 69 = .ok (.putfield 22, 3) := dk_181 0 22 (dk_at dksX11_number_3 0 rfl rfl)
theorem dX11_number_72 : decode cX11_number 72 = .ok (.goto (-50), 3) := dk_167 255 206 (dk_at dksX11_number_3 3 rfl rfl)
theorem dX11_number_75 : decode cX11_number 75 = .ok (.aload_n 0, 1) := dk_42 (dk_at dksX11_number_3 6 rfl rfl)
theorem dX11_number_76 : decode cX11_number 76 = .ok (.getfield 22, 3) := dk_180 0 22 (dk_at dksX11_number_3 7 rfl rfl)
theorem dX11_number_79 : decode cX11_number 79 = .ok (.iload_n 2, 1) := dk_28 (dk_at dksX11_number_3 10 rfl rfl)
theorem dX11_number_80 : decode cX11_number 80 = .ok (.if_icmp .ne 15, 3) := dk_160 0 15 (dk_at dksX11_number_3 11 rfl rfl)
theorem dX11_number_83 : decode cX11_number 83 = .ok (.new 55, 3) := dk_187 0 55 (dk_at dksX11_number_3 14 rfl rfl)
theorem dX11_number_86 : decode cX11_number 86 = .ok (.dup, 1) := dk_89 (dk_at dksX11_number_3 17 rfl rfl)
theorem dX11_number_87 : decode cX11_number 87 = .ok (.aload_n 0, 1) := dk_42 (dk_at dksX11_number_3 18 rfl rfl)
theorem dX11_number_88 : decode cX11_number 88 = .ok (.getfield 22, 3) := dk_180 0 22 (dk_at dksX11_number_3 19 rfl rfl)
theorem dX11_number_91 : decode cX11_number 91 = .ok (.invokespecial 57, 3) := dk_183 0 57 (dk_at dksX11_number_4 0 rfl rfl)
theorem dX11_number_94 : decode cX11_number 94 = .ok (.athrow, 1) := dk_191 (dk_at dksX11_number_4 3 rfl rfl)
theorem dX11_number_95 : decode cX11_number 95 = .ok (.iload_n 1, 1) := dk_27 (dk_at dksX11_number_4 4 rfl rfl)
theorem dX11_number_96 : decode cX11_number 96 = .ok (.iload_n 3, 1) := dk_29 (dk_at dksX11_number_4 5 rfl rfl)
theorem dX11_number_97 : decode cX11_number 97 = .ok (.imul, 1) := dk_104 (dk_at dksX11_number_4 6 rfl rfl)
theorem dX11_number_98 : decode cX11_number 98 = .ok (.bipush (-99), 2) := dk_16 157 (dk_at dksX11_number_4 7 rfl rfl)
theorem dX11_number_100 : decode cX11_number 100 = .ok (.if_icmp .ge 17, 3) := dk_162 0 17 (dk_at dksX11_number_4 9 rfl rfl)
theorem dX11_number_103 : decode cX11_number 103 = .ok (.new 55, 3) := dk_187 0 55 (dk_at dksX11_number_4 12 rfl rfl)
theorem dX11_number_106 : decode cX11_number 106 = .ok (.dup, 1) := dk_89 (dk_at dksX11_number_4 15 rfl rfl)
theorem dX11_number_107 : decode cX11_number 107 = .ok (.aload_n 0, 1) := dk_42 (dk_at dksX11_number_4 16 rfl rfl)
theorem dX11_number_108 : decode cX11_number 108 = .ok (.getfield 22, 3) := dk_180 0 22 (dk_at dksX11_number_4 17 rfl rfl)
theorem dX11_number_111 : decode cX11_number 111 = .ok (.iconst 1, 1) := dk_4 (dk_at dksX11_number_4 20 rfl rfl)
theorem dX11_number_112 : decode cX11_number 112 = .ok (.isub, 1) := dk_100 (dk_at dksX11_number_4 21 rfl rfl)
theorem dX11_number_113 : decode cX11_number 113 = .ok (.invokespecial 57, 3) := dk_183 0 57 (dk_at dksX11_number_5 0 rfl rfl)
theorem dX11_number_116 : decode cX11_number 116 = .ok (.athrow, 1) := dk_191 (dk_at dksX11_number_5 3 rfl rfl)
theorem dX11_number_117 : decode cX11_number 117 = .ok (.iload_n 1, 1) := dk_27 (dk_at dksX11_number_5 4 rfl rfl)
theorem dX11_number_118 : decode cX11_number 118 = .ok (.iload_n 3, 1) := dk_29 (dk_at dksX11_number_5 5 rfl rfl)
theorem dX11_number_119 : decode cX11_number 119 = .ok (.imul, 1) := dk_104 (dk_at dksX11_number_5 6 rfl rfl)
theorem dX11_number_120 : decode cX11_number 120 = .ok (.ireturn, 1) := dk_172 (dk_at dksX11_number_5 7 rfl rfl)
theorem q130 : (Jvm.Cond.initialized "WholePacks$Reader") ∈ lw_all := lw_g (lw_at lw_m1 17 rfl) rfl
theorem q175 : (Jvm.Cond.fieldLinkNest "WholePacks$Reader" (82 : Nat) "WholePacks$Rule" "sort" "I" "WholePacks") ∈ lw_tbl := lw_at lw_m1 62 rfl
theorem q178 : (Jvm.Cond.fieldLinkNest "WholePacks$Reader" (88 : Nat) "WholePacks$Rule" "bound" "I" "WholePacks") ∈ lw_tbl := lw_at lw_m1 65 rfl
theorem q181 : (Jvm.Cond.fieldLinkNest "WholePacks$Reader" (60 : Nat) "WholePacks$Rule" "factors" "[I" "WholePacks") ∈ lw_tbl := lw_at lw_m1 68 rfl
theorem q496 : (Jvm.Cond.fieldLinkNest "WholePacks$Reader" (45 : Nat) "WholePacks" "w" "LWholePacks$Desk;" "WholePacks") ∈ lw_tbl := lw_at lw_m2 143 rfl
theorem q508 : (Jvm.Cond.fieldLinkNest "WholePacks$Reader" (29 : Nat) "WholePacks" "text" "[B" "WholePacks") ∈ lw_tbl := lw_at lw_m2 155 rfl
theorem q509 : (Jvm.Cond.fieldLinkNest "WholePacks$Reader" (26 : Nat) "WholePacks" "texted" "I" "WholePacks") ∈ lw_tbl := lw_at lw_m2 156 rfl
theorem q636 : (Jvm.Cond.instantiable "WholePacks$Reader" (4 : Nat)) ∈ lw_all := lw_g (lw_at lw_m3 43 rfl) rfl
theorem q638 : (Jvm.Cond.instanceMethod ({ cls := "WholePacks$Reader", name := "<init>", desc := "(LWholePacks;)V" } : Jvm.MethodName)) ∈ lw_all := lw_g (lw_at lw_m3 45 rfl) rfl
theorem q639 : (Jvm.Cond.code ({ cls := "WholePacks$Reader", name := "<init>", desc := "(LWholePacks;)V" } : Jvm.MethodName) prog_13_method_1_code (3 : Nat) (Option.none : Option Jvm.ClassFile.FieldType)) ∈ lw_all := lw_g (lw_at lw_m3 46 rfl) rfl
theorem q640 : (Jvm.Cond.methodLink "WholePacks$Reader" (9 : Nat) ({ cls := "java/lang/Object", name := "<init>", desc := "()V" } : Jvm.MethodName)) ∈ lw_all := lw_g (lw_at lw_m3 47 rfl) rfl
theorem q641 : (Jvm.Cond.classLink "WholePacks$Reader" (15 : Nat) "WholePacks$Rule") ∈ lw_all := lw_g (lw_at lw_m3 48 rfl) rfl
theorem q642 : (Jvm.Cond.methodLinkNest "WholePacks$Reader" (21 : Nat) ({ cls := "WholePacks$Rule", name := "<init>", desc := "()V" } : Jvm.MethodName) "WholePacks") ∈ lw_tbl := lw_at lw_m3 49 rfl
theorem q643 : (Jvm.Cond.fieldLink "WholePacks$Reader" (17 : Nat) "WholePacks$Reader" "read" "[LWholePacks$Rule;") ∈ lw_all := lw_g (lw_at lw_m3 50 rfl) rfl
theorem q645 : (Jvm.Cond.fieldLink "WholePacks$Reader" (71 : Nat) "WholePacks$Reader" "many" "I") ∈ lw_all := lw_g (lw_at lw_m3 52 rfl) rfl
theorem q647 : (Jvm.Cond.fieldLink "WholePacks$Reader" (22 : Nat) "WholePacks$Reader" "at" "I") ∈ lw_all := lw_g (lw_at lw_m3 54 rfl) rfl
theorem q648 : (Jvm.Cond.fieldLink "WholePacks$Reader" (3 : Nat) "WholePacks$Reader" "this$0" "LWholePacks;") ∈ lw_all := lw_g (lw_at lw_m3 55 rfl) rfl
theorem q649 : (Jvm.Cond.laysFinal "WholePacks$Reader" "WholePacks$Reader" "read" "[LWholePacks$Rule;") ∈ lw_all := lw_g (lw_at lw_m3 56 rfl) rfl
theorem q650 : (Jvm.Cond.soleField "WholePacks$Reader" "read") ∈ lw_all := lw_g (lw_at lw_m3 57 rfl) rfl
theorem q651 : (Jvm.Cond.lays "WholePacks$Reader" "WholePacks$Reader" "many" "I") ∈ lw_all := lw_g (lw_at lw_m3 58 rfl) rfl
theorem q652 : (Jvm.Cond.soleField "WholePacks$Reader" "many") ∈ lw_all := lw_g (lw_at lw_m3 59 rfl) rfl
theorem q653 : (Jvm.Cond.lays "WholePacks$Reader" "WholePacks$Reader" "at" "I") ∈ lw_all := lw_g (lw_at lw_m3 60 rfl) rfl
theorem q654 : (Jvm.Cond.soleField "WholePacks$Reader" "at") ∈ lw_all := lw_g (lw_at lw_m3 61 rfl) rfl
theorem q655 : (Jvm.Cond.laysFinal "WholePacks$Reader" "WholePacks$Reader" "this$0" "LWholePacks;") ∈ lw_all := lw_g (lw_at lw_m3 62 rfl) rfl
theorem q656 : (Jvm.Cond.soleField "WholePacks$Reader" "this$0") ∈ lw_all := lw_g (lw_at lw_m3 63 rfl) rfl
theorem q657 : (Jvm.Cond.superclass "WholePacks$Reader" "java/lang/Object") ∈ lw_all := lw_g (lw_at lw_m3 64 rfl) rfl
theorem q659 : (Jvm.Cond.instanceMethod ({ cls := "WholePacks$Reader", name := "reads", desc := "()V" } : Jvm.MethodName)) ∈ lw_all := lw_g (lw_at lw_m3 66 rfl) rfl
theorem q660 : (Jvm.Cond.selects "WholePacks$Reader" ({ cls := "WholePacks$Reader", name := "reads", desc := "()V" } : Jvm.MethodName) ({ cls := "WholePacks$Reader", name := "reads", desc := "()V" } : Jvm.MethodName)) ∈ lw_all := lw_g (lw_at lw_m3 67 rfl) rfl
theorem q661 : (Jvm.Cond.code ({ cls := "WholePacks$Reader", name := "reads", desc := "()V" } : Jvm.MethodName) prog_13_method_7_code (1 : Nat) (Option.none : Option Jvm.ClassFile.FieldType)) ∈ lw_all := lw_g (lw_at lw_m3 68 rfl) rfl
theorem q662 : (Jvm.Cond.methodLink "WholePacks$Reader" (91 : Nat) ({ cls := "WholePacks$Reader", name := "clause", desc := "()V" } : Jvm.MethodName)) ∈ lw_all := lw_g (lw_at lw_m3 69 rfl) rfl
theorem q663 : (Jvm.Cond.privateMethod ({ cls := "WholePacks$Reader", name := "clause", desc := "()V" } : Jvm.MethodName)) ∈ lw_tbl := lw_at lw_m3 70 rfl
theorem q664 : (Jvm.Cond.instanceMethod ({ cls := "WholePacks$Reader", name := "clause", desc := "()V" } : Jvm.MethodName)) ∈ lw_all := lw_g (lw_at lw_m3 71 rfl) rfl
theorem q665 : (Jvm.Cond.code ({ cls := "WholePacks$Reader", name := "clause", desc := "()V" } : Jvm.MethodName) prog_13_method_6_code (2 : Nat) (Option.none : Option Jvm.ClassFile.FieldType)) ∈ lw_all := lw_g (lw_at lw_m3 72 rfl) rfl
theorem q666 : (Jvm.Cond.methodLink "WholePacks$Reader" (74 : Nat) ({ cls := "WholePacks$Rule", name := "begins", desc := "(II)V" } : Jvm.MethodName)) ∈ lw_all := lw_g (lw_at lw_m3 73 rfl) rfl
theorem q667 : (Jvm.Cond.methodLink "WholePacks$Reader" (68 : Nat) ({ cls := "WholePacks$Reader", name := "is", desc := "(I)Z" } : Jvm.MethodName)) ∈ lw_all := lw_g (lw_at lw_m3 74 rfl) rfl
theorem q668 : (Jvm.Cond.privateMethod ({ cls := "WholePacks$Reader", name := "is", desc := "(I)Z" } : Jvm.MethodName)) ∈ lw_tbl := lw_at lw_m3 75 rfl
theorem q669 : (Jvm.Cond.instanceMethod ({ cls := "WholePacks$Reader", name := "is", desc := "(I)Z" } : Jvm.MethodName)) ∈ lw_all := lw_g (lw_at lw_m3 76 rfl) rfl
theorem q670 : (Jvm.Cond.code ({ cls := "WholePacks$Reader", name := "is", desc := "(I)Z" } : Jvm.MethodName) prog_13_method_3_code (2 : Nat) (Option.some Jvm.ClassFile.FieldType.boolean)) ∈ lw_all := lw_g (lw_at lw_m3 77 rfl) rfl
theorem q671 : (Jvm.Cond.methodLink "WholePacks$Reader" (33 : Nat) ({ cls := "WholePacks$Reader", name := "here", desc := "()I" } : Jvm.MethodName)) ∈ lw_all := lw_g (lw_at lw_m3 78 rfl) rfl
theorem q672 : (Jvm.Cond.privateMethod ({ cls := "WholePacks$Reader", name := "here", desc := "()I" } : Jvm.MethodName)) ∈ lw_tbl := lw_at lw_m3 79 rfl
theorem q673 : (Jvm.Cond.instanceMethod ({ cls := "WholePacks$Reader", name := "here", desc := "()I" } : Jvm.MethodName)) ∈ lw_all := lw_g (lw_at lw_m3 80 rfl) rfl
theorem q674 : (Jvm.Cond.code ({ cls := "WholePacks$Reader", name := "here", desc := "()I" } : Jvm.MethodName) prog_13_method_2_code (1 : Nat) (Option.some Jvm.ClassFile.FieldType.int)) ∈ lw_all := lw_g (lw_at lw_m3 81 rfl) rfl
theorem q675 : (Jvm.Cond.methodLink "WholePacks$Reader" (78 : Nat) ({ cls := "WholePacks$Reader", name := "term", desc := "(LWholePacks$Rule;I)V" } : Jvm.MethodName)) ∈ lw_all := lw_g (lw_at lw_m3 82 rfl) rfl
theorem q676 : (Jvm.Cond.privateMethod ({ cls := "WholePacks$Reader", name := "term", desc := "(LWholePacks$Rule;I)V" } : Jvm.MethodName)) ∈ lw_tbl := lw_at lw_m3 83 rfl
theorem q677 : (Jvm.Cond.instanceMethod ({ cls := "WholePacks$Reader", name := "term", desc := "(LWholePacks$Rule;I)V" } : Jvm.MethodName)) ∈ lw_all := lw_g (lw_at lw_m3 84 rfl) rfl
theorem q678 : (Jvm.Cond.code ({ cls := "WholePacks$Reader", name := "term", desc := "(LWholePacks$Rule;I)V" } : Jvm.MethodName) prog_13_method_4_code (5 : Nat) (Option.none : Option Jvm.ClassFile.FieldType)) ∈ lw_all := lw_g (lw_at lw_m3 85 rfl) rfl
theorem q679 : (Jvm.Cond.constantLong "WholePacks$Reader" (37 : Nat) (48 : Int64)) ∈ lw_all := lw_g (lw_at lw_m3 86 rfl) rfl
theorem q680 : (Jvm.Cond.constantLong "WholePacks$Reader" (39 : Nat) (57 : Int64)) ∈ lw_all := lw_g (lw_at lw_m3 87 rfl) rfl
theorem q681 : (Jvm.Cond.methodLinkNest "WholePacks$Reader" (41 : Nat) ({ cls := "WholePacks", name := "in", desc := "(JJJ)Z" } : Jvm.MethodName) "WholePacks") ∈ lw_tbl := lw_at lw_m3 88 rfl
theorem q682 : (Jvm.Cond.methodLink "WholePacks$Reader" (49 : Nat) ({ cls := "WholePacks$Desk", name := "hasPack", desc := "(I)Z" } : Jvm.MethodName)) ∈ lw_all := lw_g (lw_at lw_m3 89 rfl) rfl
theorem q683 : (Jvm.Cond.classLink "WholePacks$Reader" (55 : Nat) "WholePacks$Fault") ∈ lw_all := lw_g (lw_at lw_m3 90 rfl) rfl
theorem q724 : (Jvm.Cond.methodLink "WholePacks$Reader" (57 : Nat) ({ cls := "WholePacks$Fault", name := "<init>", desc := "(I)V" } : Jvm.MethodName)) ∈ lw_all := lw_g (lw_at lw_m3 131 rfl) rfl
theorem q750 : (Jvm.Cond.constantLong "WholePacks$Reader" (64 : Nat) (-9 : Int64)) ∈ lw_all := lw_g (lw_at lw_m3 157 rfl) rfl
theorem q751 : (Jvm.Cond.constantLong "WholePacks$Reader" (66 : Nat) (9 : Int64)) ∈ lw_all := lw_g (lw_at lw_m3 158 rfl) rfl
theorem q752 : (Jvm.Cond.methodLink "WholePacks$Reader" (85 : Nat) ({ cls := "WholePacks$Reader", name := "number", desc := "()I" } : Jvm.MethodName)) ∈ lw_all := lw_g (lw_at lw_m3 159 rfl) rfl
theorem q753 : (Jvm.Cond.privateMethod ({ cls := "WholePacks$Reader", name := "number", desc := "()I" } : Jvm.MethodName)) ∈ lw_tbl := lw_at lw_m3 160 rfl
theorem q754 : (Jvm.Cond.instanceMethod ({ cls := "WholePacks$Reader", name := "number", desc := "()I" } : Jvm.MethodName)) ∈ lw_all := lw_g (lw_at lw_m3 161 rfl) rfl
theorem q755 : (Jvm.Cond.code ({ cls := "WholePacks$Reader", name := "number", desc := "()I" } : Jvm.MethodName) prog_13_method_5_code (4 : Nat) (Option.some Jvm.ClassFile.FieldType.int)) ∈ lw_all := lw_g (lw_at lw_m3 162 rfl) rfl
theorem q1045 : (Jvm.Cond.selects "WholePacks$Reader" ({ cls := "java/lang/Object", name := "getClass", desc := "()Ljava/lang/Class;" } : Jvm.MethodName) ({ cls := "java/lang/Object", name := "getClass", desc := "()Ljava/lang/Class;" } : Jvm.MethodName)) ∈ lw_all := lw_g (lw_at lw_m4 212 rfl) rfl
theorem q2413 : (Jvm.Cond.castable "WholePacks$Reader" "java/lang/Object") ∈ lw_tbl := lw_at lw_m10 140 rfl
theorem in_X11 : ∀ w ∈ wsX110, w ∈ lw_all := lw_in wsX110 [649, 651, 653, 655] (by decide +kernel) (by decide +kernel)
/-! WholePacks$Fault -/
set_option maxRecDepth 100000
def RX12 : String := "WholePacks$Fault"
def TX12 : u_T := fun k => match k with
  | 0 => ("java/lang/Throwable", "cause", "Ljava/lang/Throwable;", false)
  | 1 => ("java/lang/Throwable", "stackTrace", "[Ljava/lang/StackTraceElement;", false)
  | 2 => ("java/lang/Throwable", "suppressedExceptions", "Ljava/util/List;", false)
  | 3 => ("java/lang/Throwable", "detailMessage", "Ljava/lang/String;", false)
  | 4 => ("java/lang/Throwable", "backtrace", "Ljava/lang/Object;", false)
  | 5 => ("java/lang/Throwable", "depth", "I", false)
  | _ => ("WholePacks$Fault", "place", "I", true)
def tyX12 : Nat → FieldType := fun k => match k with
  | 0 => .object "java/lang/Throwable"
  | 1 => .array (.object "java/lang/StackTraceElement")
  | 2 => .object "java/util/List"
  | 3 => .object "java/lang/String"
  | 4 => .object "java/lang/Object"
  | 5 => .int
  | _ => .int
abbrev wsX120 : List Cond := u_ws RX12 TX12 7
theorem nmX12 : ∀ a, a < 7 → ∀ b, b < 7 → a ≠ b → (TX12 a).2.1 ≠ (TX12 b).2.1 := by decide +kernel
theorem tyX12_ok : ∀ k, k < 7 → parseFieldDescriptor (TX12 k).2.2.1 = some (tyX12 k) := by decide +kernel
abbrev cX12_init : ByteArray := prog_7_method_1_code
def yX12_init : MethodName := ⟨RX12, "<init>", "(I)V"⟩
def dkwX12_init_0 : List UInt8 := [42, 1, 1, 3, 3, 183, 0, 1, 42, 27, 181, 0, 7, 177]
abbrev dktX12_init_0 : List UInt8 := dkwX12_init_0 ++ []
theorem dksX12_init_0 : cX12_init.data.toList.drop 0 = dktX12_init_0 := by decide +kernel
theorem dX12_init_0 : decode cX12_init 0 = .ok (.aload_n 0, 1) := dk_42 (dk_at dksX12_init_0 0 rfl rfl)
theorem dX12_init_1 : decode cX12_init 1 = .ok (.aconst_null, 1) := dk_1 (dk_at dksX12_init_0 1 rfl rfl)
theorem dX12_init_2 : decode cX12_init 2 = .ok (.aconst_null, 1) := dk_1 (dk_at dksX12_init_0 2 rfl rfl)
theorem dX12_init_3 : decode cX12_init 3 = .ok (.iconst 0, 1) := dk_3 (dk_at dksX12_init_0 3 rfl rfl)
theorem dX12_init_4 : decode cX12_init 4 = .ok (.iconst 0, 1) := dk_3 (dk_at dksX12_init_0 4 rfl rfl)
theorem dX12_init_5 : decode cX12_init 5 = .ok (.invokespecial 1, 3) := dk_183 0 1 (dk_at dksX12_init_0 5 rfl rfl)
theorem dX12_init_8 : decode cX12_init 8 = .ok (.aload_n 0, 1) := dk_42 (dk_at dksX12_init_0 8 rfl rfl)
theorem dX12_init_9 : decode cX12_init 9 = .ok (.iload_n 1, 1) := dk_27 (dk_at dksX12_init_0 9 rfl rfl)
theorem dX12_init_10 : decode cX12_init 10 = .ok (.putfield 7, 3) := dk_181 0 7 (dk_at dksX12_init_0 10 rfl rfl)
theorem dX12_init_13 : decode cX12_init 13 = .ok (.return_, 1) := dk_177 (dk_at dksX12_init_0 13 rfl rfl)
theorem q133 : (Jvm.Cond.initialized "WholePacks$Fault") ∈ lw_all := lw_g (lw_at lw_m1 20 rfl) rfl
theorem q684 : (Jvm.Cond.instantiable "WholePacks$Fault" (7 : Nat)) ∈ lw_all := lw_g (lw_at lw_m3 91 rfl) rfl
theorem q685 : (Jvm.Cond.castable "WholePacks$Fault" "WholePacks$Fault") ∈ lw_tbl := lw_at lw_m3 92 rfl
theorem q690 : (Jvm.Cond.selects "WholePacks$Fault" ({ cls := "java/lang/Throwable", name := "fillInStackTrace", desc := "(I)Ljava/lang/Throwable;" } : Jvm.MethodName) ({ cls := "java/lang/Throwable", name := "fillInStackTrace", desc := "(I)Ljava/lang/Throwable;" } : Jvm.MethodName)) ∈ lw_all := lw_g (lw_at lw_m3 97 rfl) rfl
theorem q691 : (Jvm.Cond.selects "WholePacks$Fault" ({ cls := "java/lang/Throwable", name := "fillInStackTrace", desc := "()Ljava/lang/Throwable;" } : Jvm.MethodName) ({ cls := "java/lang/Throwable", name := "fillInStackTrace", desc := "()Ljava/lang/Throwable;" } : Jvm.MethodName)) ∈ lw_all := lw_g (lw_at lw_m3 98 rfl) rfl
theorem q692 : (Jvm.Cond.lays "WholePacks$Fault" "java/lang/Throwable" "cause" "Ljava/lang/Throwable;") ∈ lw_all := lw_g (lw_at lw_m3 99 rfl) rfl
theorem q694 : (Jvm.Cond.lays "WholePacks$Fault" "java/lang/Throwable" "stackTrace" "[Ljava/lang/StackTraceElement;") ∈ lw_all := lw_g (lw_at lw_m3 101 rfl) rfl
theorem q696 : (Jvm.Cond.lays "WholePacks$Fault" "java/lang/Throwable" "suppressedExceptions" "Ljava/util/List;") ∈ lw_all := lw_g (lw_at lw_m3 103 rfl) rfl
theorem q698 : (Jvm.Cond.lays "WholePacks$Fault" "java/lang/Throwable" "detailMessage" "Ljava/lang/String;") ∈ lw_all := lw_g (lw_at lw_m3 105 rfl) rfl
theorem q700 : (Jvm.Cond.lays "WholePacks$Fault" "java/lang/Throwable" "backtrace" "Ljava/lang/Object;") ∈ lw_all := lw_g (lw_at lw_m3 107 rfl) rfl
theorem q725 : (Jvm.Cond.instanceMethod ({ cls := "WholePacks$Fault", name := "<init>", desc := "(I)V" } : Jvm.MethodName)) ∈ lw_all := lw_g (lw_at lw_m3 132 rfl) rfl
theorem q726 : (Jvm.Cond.code ({ cls := "WholePacks$Fault", name := "<init>", desc := "(I)V" } : Jvm.MethodName) prog_7_method_1_code (2 : Nat) (Option.none : Option Jvm.ClassFile.FieldType)) ∈ lw_all := lw_g (lw_at lw_m3 133 rfl) rfl
theorem q727 : (Jvm.Cond.methodLink "WholePacks$Fault" (1 : Nat) ({ cls := "java/lang/Exception", name := "<init>", desc := "(Ljava/lang/String;Ljava/lang/Throwable;ZZ)V" } : Jvm.MethodName)) ∈ lw_all := lw_g (lw_at lw_m3 134 rfl) rfl
theorem q733 : (Jvm.Cond.fieldLink "WholePacks$Fault" (7 : Nat) "WholePacks$Fault" "place" "I") ∈ lw_all := lw_g (lw_at lw_m3 140 rfl) rfl
theorem q740 : (Jvm.Cond.laysFinal "WholePacks$Fault" "WholePacks$Fault" "place" "I") ∈ lw_all := lw_g (lw_at lw_m3 147 rfl) rfl
theorem q741 : (Jvm.Cond.soleField "WholePacks$Fault" "place") ∈ lw_all := lw_g (lw_at lw_m3 148 rfl) rfl
theorem q746 : (Jvm.Cond.lays "WholePacks$Fault" "java/lang/Throwable" "depth" "I") ∈ lw_all := lw_g (lw_at lw_m3 153 rfl) rfl
theorem q749 : (Jvm.Cond.superclass "WholePacks$Fault" "java/lang/Exception") ∈ lw_all := lw_g (lw_at lw_m3 156 rfl) rfl
theorem q1041 : (Jvm.Cond.selects "WholePacks$Fault" ({ cls := "java/lang/Object", name := "getClass", desc := "()Ljava/lang/Class;" } : Jvm.MethodName) ({ cls := "java/lang/Object", name := "getClass", desc := "()Ljava/lang/Class;" } : Jvm.MethodName)) ∈ lw_all := lw_g (lw_at lw_m4 208 rfl) rfl
theorem q2414 : (Jvm.Cond.castable "WholePacks$Fault" "java/lang/Object") ∈ lw_tbl := lw_at lw_m10 141 rfl
theorem in_X12 : ∀ w ∈ wsX120, w ∈ lw_all := lw_in wsX120 [692, 694, 696, 698, 700, 746, 740] (by decide +kernel) (by decide +kernel)
/-! WholePacks$Stuck -/
set_option maxRecDepth 100000
def RX13 : String := "WholePacks$Stuck"
def TX13 : u_T := fun k => match k with
  | 0 => ("java/lang/Throwable", "cause", "Ljava/lang/Throwable;", false)
  | 1 => ("java/lang/Throwable", "stackTrace", "[Ljava/lang/StackTraceElement;", false)
  | 2 => ("java/lang/Throwable", "suppressedExceptions", "Ljava/util/List;", false)
  | 3 => ("java/lang/Throwable", "detailMessage", "Ljava/lang/String;", false)
  | 4 => ("java/lang/Throwable", "backtrace", "Ljava/lang/Object;", false)
  | 5 => ("java/lang/Throwable", "depth", "I", false)
  | _ => ("WholePacks$Stuck", "answer", "I", true)
def tyX13 : Nat → FieldType := fun k => match k with
  | 0 => .object "java/lang/Throwable"
  | 1 => .array (.object "java/lang/StackTraceElement")
  | 2 => .object "java/util/List"
  | 3 => .object "java/lang/String"
  | 4 => .object "java/lang/Object"
  | 5 => .int
  | _ => .int
abbrev wsX130 : List Cond := u_ws RX13 TX13 7
theorem nmX13 : ∀ a, a < 7 → ∀ b, b < 7 → a ≠ b → (TX13 a).2.1 ≠ (TX13 b).2.1 := by decide +kernel
theorem tyX13_ok : ∀ k, k < 7 → parseFieldDescriptor (TX13 k).2.2.1 = some (tyX13 k) := by decide +kernel
abbrev cX13_init : ByteArray := prog_15_method_1_code
def yX13_init : MethodName := ⟨RX13, "<init>", "(I)V"⟩
def dkwX13_init_0 : List UInt8 := [42, 1, 1, 3, 3, 183, 0, 1, 42, 27, 181, 0, 7, 177]
abbrev dktX13_init_0 : List UInt8 := dkwX13_init_0 ++ []
theorem dksX13_init_0 : cX13_init.data.toList.drop 0 = dktX13_init_0 := by decide +kernel
theorem dX13_init_0 : decode cX13_init 0 = .ok (.aload_n 0, 1) := dk_42 (dk_at dksX13_init_0 0 rfl rfl)
theorem dX13_init_1 : decode cX13_init 1 = .ok (.aconst_null, 1) := dk_1 (dk_at dksX13_init_0 1 rfl rfl)
theorem dX13_init_2 : decode cX13_init 2 = .ok (.aconst_null, 1) := dk_1 (dk_at dksX13_init_0 2 rfl rfl)
theorem dX13_init_3 : decode cX13_init 3 = .ok (.iconst 0, 1) := dk_3 (dk_at dksX13_init_0 3 rfl rfl)
theorem dX13_init_4 : decode cX13_init 4 = .ok (.iconst 0, 1) := dk_3 (dk_at dksX13_init_0 4 rfl rfl)
theorem dX13_init_5 : decode cX13_init 5 = .ok (.invokespecial 1, 3) := dk_183 0 1 (dk_at dksX13_init_0 5 rfl rfl)
theorem dX13_init_8 : decode cX13_init 8 = .ok (.aload_n 0, 1) := dk_42 (dk_at dksX13_init_0 8 rfl rfl)
theorem dX13_init_9 : decode cX13_init 9 = .ok (.iload_n 1, 1) := dk_27 (dk_at dksX13_init_0 9 rfl rfl)
theorem dX13_init_10 : decode cX13_init 10 = .ok (.putfield 7, 3) := dk_181 0 7 (dk_at dksX13_init_0 10 rfl rfl)
theorem dX13_init_13 : decode cX13_init 13 = .ok (.return_, 1) := dk_177 (dk_at dksX13_init_0 13 rfl rfl)
theorem q135 : (Jvm.Cond.initialized "WholePacks$Stuck") ∈ lw_all := lw_g (lw_at lw_m1 22 rfl) rfl
theorem q714 : (Jvm.Cond.selects "WholePacks$Stuck" ({ cls := "java/lang/Throwable", name := "fillInStackTrace", desc := "()Ljava/lang/Throwable;" } : Jvm.MethodName) ({ cls := "java/lang/Throwable", name := "fillInStackTrace", desc := "()Ljava/lang/Throwable;" } : Jvm.MethodName)) ∈ lw_all := lw_g (lw_at lw_m3 121 rfl) rfl
theorem q817 : (Jvm.Cond.instantiable "WholePacks$Stuck" (7 : Nat)) ∈ lw_all := lw_g (lw_at lw_m3 224 rfl) rfl
theorem q818 : (Jvm.Cond.castable "WholePacks$Stuck" "WholePacks$Stuck") ∈ lw_tbl := lw_at lw_m3 225 rfl
theorem q819 : (Jvm.Cond.selects "WholePacks$Stuck" ({ cls := "java/lang/Throwable", name := "fillInStackTrace", desc := "(I)Ljava/lang/Throwable;" } : Jvm.MethodName) ({ cls := "java/lang/Throwable", name := "fillInStackTrace", desc := "(I)Ljava/lang/Throwable;" } : Jvm.MethodName)) ∈ lw_all := lw_g (lw_at lw_m3 226 rfl) rfl
theorem q820 : (Jvm.Cond.lays "WholePacks$Stuck" "java/lang/Throwable" "cause" "Ljava/lang/Throwable;") ∈ lw_all := lw_g (lw_at lw_m3 227 rfl) rfl
theorem q821 : (Jvm.Cond.lays "WholePacks$Stuck" "java/lang/Throwable" "stackTrace" "[Ljava/lang/StackTraceElement;") ∈ lw_all := lw_g (lw_at lw_m3 228 rfl) rfl
theorem q822 : (Jvm.Cond.lays "WholePacks$Stuck" "java/lang/Throwable" "suppressedExceptions" "Ljava/util/List;") ∈ lw_all := lw_g (lw_at lw_m3 229 rfl) rfl
theorem q823 : (Jvm.Cond.lays "WholePacks$Stuck" "java/lang/Throwable" "detailMessage" "Ljava/lang/String;") ∈ lw_all := lw_g (lw_at lw_m3 230 rfl) rfl
theorem q824 : (Jvm.Cond.lays "WholePacks$Stuck" "java/lang/Throwable" "backtrace" "Ljava/lang/Object;") ∈ lw_all := lw_g (lw_at lw_m3 231 rfl) rfl
theorem q826 : (Jvm.Cond.instanceMethod ({ cls := "WholePacks$Stuck", name := "<init>", desc := "(I)V" } : Jvm.MethodName)) ∈ lw_all := lw_g (lw_at lw_m3 233 rfl) rfl
theorem q827 : (Jvm.Cond.code ({ cls := "WholePacks$Stuck", name := "<init>", desc := "(I)V" } : Jvm.MethodName) prog_15_method_1_code (2 : Nat) (Option.none : Option Jvm.ClassFile.FieldType)) ∈ lw_all := lw_g (lw_at lw_m3 234 rfl) rfl
theorem q828 : (Jvm.Cond.methodLink "WholePacks$Stuck" (1 : Nat) ({ cls := "java/lang/Exception", name := "<init>", desc := "(Ljava/lang/String;Ljava/lang/Throwable;ZZ)V" } : Jvm.MethodName)) ∈ lw_all := lw_g (lw_at lw_m3 235 rfl) rfl
theorem q829 : (Jvm.Cond.fieldLink "WholePacks$Stuck" (7 : Nat) "WholePacks$Stuck" "answer" "I") ∈ lw_all := lw_g (lw_at lw_m3 236 rfl) rfl
theorem q832 : (Jvm.Cond.laysFinal "WholePacks$Stuck" "WholePacks$Stuck" "answer" "I") ∈ lw_all := lw_g (lw_at lw_m3 239 rfl) rfl
theorem q833 : (Jvm.Cond.soleField "WholePacks$Stuck" "answer") ∈ lw_all := lw_g (lw_at lw_m4 0 rfl) rfl
theorem q834 : (Jvm.Cond.lays "WholePacks$Stuck" "java/lang/Throwable" "depth" "I") ∈ lw_all := lw_g (lw_at lw_m4 1 rfl) rfl
theorem q835 : (Jvm.Cond.superclass "WholePacks$Stuck" "java/lang/Exception") ∈ lw_all := lw_g (lw_at lw_m4 2 rfl) rfl
theorem q1047 : (Jvm.Cond.selects "WholePacks$Stuck" ({ cls := "java/lang/Object", name := "getClass", desc := "()Ljava/lang/Class;" } : Jvm.MethodName) ({ cls := "java/lang/Object", name := "getClass", desc := "()Ljava/lang/Class;" } : Jvm.MethodName)) ∈ lw_all := lw_g (lw_at lw_m4 214 rfl) rfl
theorem q2415 : (Jvm.Cond.castable "WholePacks$Stuck" "java/lang/Object") ∈ lw_tbl := lw_at lw_m10 142 rfl
theorem in_X13 : ∀ w ∈ wsX130, w ∈ lw_all := lw_in wsX130 [820, 821, 822, 823, 824, 834, 832] (by decide +kernel) (by decide +kernel)
/-! WholePacks$Mix -/
set_option maxRecDepth 100000
def RX14 : String := "WholePacks$Mix"
def TX14 : u_T := fun k => match k with
  | 0 => ("WholePacks$Mix", "cost", "I", true)
  | _ => ("WholePacks$Mix", "code", "I", true)
def tyX14 : Nat → FieldType := fun k => match k with
  | 0 => .int
  | _ => .int
abbrev wsX140 : List Cond := u_ws RX14 TX14 2
theorem nmX14 : ∀ a, a < 2 → ∀ b, b < 2 → a ≠ b → (TX14 a).2.1 ≠ (TX14 b).2.1 := by decide +kernel
theorem tyX14_ok : ∀ k, k < 2 → parseFieldDescriptor (TX14 k).2.2.1 = some (tyX14 k) := by decide +kernel
abbrev cX14_compareTo : ByteArray := prog_11_method_3_code
def yX14_compareTo : MethodName := ⟨RX14, "compareTo", "(Ljava/lang/Object;)I"⟩
def dkwX14_compareTo_0 : List UInt8 := [42, 43, 192, 0, 8, 182, 0, 16, 172]
abbrev dktX14_compareTo_0 : List UInt8 := dkwX14_compareTo_0 ++ []
theorem dksX14_compareTo_0 : cX14_compareTo.data.toList.drop 0 = dktX14_compareTo_0 := by decide +kernel
theorem dX14_compareTo_0 : decode cX14_compareTo 0 = .ok (.aload_n 0, 1) := dk_42 (dk_at dksX14_compareTo_0 0 rfl rfl)
theorem dX14_compareTo_1 : decode cX14_compareTo 1 = .ok (.aload_n 1, 1) := dk_43 (dk_at dksX14_compareTo_0 1 rfl rfl)
theorem dX14_compareTo_2 : decode cX14_compareTo 2 = .ok (.checkcast 8, 3) := dk_192 0 8 (dk_at dksX14_compareTo_0 2 rfl rfl)
theorem dX14_compareTo_5 : decode cX14_compareTo 5 = .ok (.invokevirtual 16, 3) := dk_182 0 16 (dk_at dksX14_compareTo_0 5 rfl rfl)
theorem dX14_compareTo_8 : decode cX14_compareTo 8 = .ok (.ireturn, 1) := dk_172 (dk_at dksX14_compareTo_0 8 rfl rfl)
abbrev cX14_compareTo_2 : ByteArray := prog_11_method_2_code
def yX14_compareTo_2 : MethodName := ⟨RX14, "compareTo", "(LWholePacks$Mix;)I"⟩
def dkwX14_compareTo_2_2 : List UInt8 := [162, 0, 7, 2, 167, 0, 13, 28, 29, 160, 0, 7, 3, 167, 0, 4, 4, 172]
abbrev dktX14_compareTo_2_2 : List UInt8 := dkwX14_compareTo_2_2 ++ []
def dkwX14_compareTo_2_1 : List UInt8 := [180, 0, 7, 43, 180, 0, 7, 160, 0, 10, 43, 180, 0, 13, 167, 0, 7, 43, 180, 0, 7, 62, 28, 29]
abbrev dktX14_compareTo_2_1 : List UInt8 := dkwX14_compareTo_2_1 ++ dktX14_compareTo_2_2
def dkwX14_compareTo_2_0 : List UInt8 := [42, 180, 0, 7, 43, 180, 0, 7, 160, 0, 10, 42, 180, 0, 13, 167, 0, 7, 42, 180, 0, 7, 61, 42]
abbrev dktX14_compareTo_2_0 : List UInt8 := dkwX14_compareTo_2_0 ++ dktX14_compareTo_2_1
theorem dksX14_compareTo_2_0 : cX14_compareTo_2.data.toList.drop 0 = dktX14_compareTo_2_0 := by decide +kernel
theorem dksX14_compareTo_2_1 : cX14_compareTo_2.data.toList.drop 24 = dktX14_compareTo_2_1 := dk_seg dksX14_compareTo_2_0 24 rfl rfl
theorem dksX14_compareTo_2_2 : cX14_compareTo_2.data.toList.drop 48 = dktX14_compareTo_2_2 := dk_seg dksX14_compareTo_2_1 24 rfl rfl
theorem dX14_compareTo_2_0 : decode cX14_compareTo_2 0 = .ok (.aload_n 0, 1) := dk_42 (dk_at dksX14_compareTo_2_0 0 rfl rfl)
theorem dX14_compareTo_2_1 : decode cX14_compareTo_2 1 = .ok (.getfield 7, 3) := dk_180 0 7 (dk_at dksX14_compareTo_2_0 1 rfl rfl)
theorem dX14_compareTo_2_4 : decode cX14_compareTo_2 4 = .ok (.aload_n 1, 1) := dk_43 (dk_at dksX14_compareTo_2_0 4 rfl rfl)
theorem dX14_compareTo_2_5 : decode cX14_compareTo_2 5 = .ok (.getfield 7, 3) := dk_180 0 7 (dk_at dksX14_compareTo_2_0 5 rfl rfl)
theorem dX14_compareTo_2_8 : decode cX14_compareTo_2 8 = .ok (.if_icmp .ne 10, 3) := dk_160 0 10 (dk_at dksX14_compareTo_2_0 8 rfl rfl)
theorem dX14_compareTo_2_11 : decode cX14_compareTo_2 11 = .ok (.aload_n 0, 1) := dk_42 (dk_at dksX14_compareTo_2_0 11 rfl rfl)
theorem dX14_compareTo_2_12 : decode cX14_compareTo_2 12 = .ok (.getfield 13, 3) := dk_180 0 13 (dk_at dksX14_compareTo_2_0 12 rfl rfl)
theorem dX14_compareTo_2_15 : decode cX14_compareTo_2 15 = .ok (.goto 7, 3) := dk_167 0 7 (dk_at dksX14_compareTo_2_0 15 rfl rfl)
theorem dX14_compareTo_2_18 : decode cX14_compareTo_2 18 = .ok (.aload_n 0, 1) := dk_42 (dk_at dksX14_compareTo_2_0 18 rfl rfl)
theorem dX14_compareTo_2_19 : decode cX14_compareTo_2 19 = .ok (.getfield 7, 3) := dk_180 0 7 (dk_at dksX14_compareTo_2_0 19 rfl rfl)
theorem dX14_compareTo_2_22 : decode cX14_compareTo_2 22 = .ok (.istore_n 2, 1) := dk_61 (dk_at dksX14_compareTo_2_0 22 rfl rfl)
theorem dX14_compareTo_2_23 : decode cX14_compareTo_2 23 = .ok (.aload_n 0, 1) := dk_42 (dk_at dksX14_compareTo_2_0 23 rfl rfl)
theorem dX14_compareTo_2_24 : decode cX14_compareTo_2 24 = .ok (.getfield 7, 3) := dk_180 0 7 (dk_at dksX14_compareTo_2_1 0 rfl rfl)
theorem dX14_compareTo_2_27 : decode cX14_compareTo_2 27 = .ok (.aload_n 1, 1) := dk_43 (dk_at dksX14_compareTo_2_1 3 rfl rfl)
theorem dX14_compareTo_2_28 : decode cX14_compareTo_2 28 = .ok (.getfield 7, 3) := dk_180 0 7 (dk_at dksX14_compareTo_2_1 4 rfl rfl)
theorem dX14_compareTo_2_31 : decode cX14_compareTo_2 31 = .ok (.if_icmp .ne 10, 3) := dk_160 0 10 (dk_at dksX14_compareTo_2_1 7 rfl rfl)
theorem dX14_compareTo_2_34 : decode cX14_compareTo_2 34 = .ok (.aload_n 1, 1) := dk_43 (dk_at dksX14_compareTo_2_1 10 rfl rfl)
theorem dX14_compareTo_2_35 : decode cX14_compareTo_2 35 = .ok (.getfield 13, 3) := dk_180 0 13 (dk_at dksX14_compareTo_2_1 11 rfl rfl)
theorem dX14_compareTo_2_38 : decode cX14_compareTo_2 38 = .ok (.goto 7, 3) := dk_167 0 7 (dk_at dksX14_compareTo_2_1 14 rfl rfl)
theorem dX14_compareTo_2_41 : decode cX14_compareTo_2 41 = .ok (.aload_n 1, 1) := dk_43 (dk_at dksX14_compareTo_2_1 17 rfl rfl)
theorem dX14_compareTo_2_42 : decode cX14_compareTo_2 42 = .ok (.getfield 7, 3) := dk_180 0 7 (dk_at dksX14_compareTo_2_1 18 rfl rfl)
theorem dX14_compareTo_2_45 : decode cX14_compareTo_2 45 = .ok (.istore_n 3, 1) := dk_62 (dk_at dksX14_compareTo_2_1 21 rfl rfl)
theorem dX14_compareTo_2_46 : decode cX14_compareTo_2 46 = .ok (.iload_n 2, 1) := dk_28 (dk_at dksX14_compareTo_2_1 22 rfl rfl)
theorem dX14_compareTo_2_47 : decode cX14_compareTo_2 47 = .ok (.iload_n 3, 1) := dk_29 (dk_at dksX14_compareTo_2_1 23 rfl rfl)
theorem dX14_compareTo_2_48 : decode cX14_compareTo_2 48 = .ok (.if_icmp .ge 7, 3) := dk_162 0 7 (dk_at dksX14_compareTo_2_2 0 rfl rfl)
theorem dX14_compareTo_2_51 : decode cX14_compareTo_2 51 = .ok (.iconst (-1), 1) := dk_2 (dk_at dksX14_compareTo_2_2 3 rfl rfl)
theorem dX14_compareTo_2_52 : decode cX14_compareTo_2 52 = .ok (.goto 13, 3) := dk_167 0 13 (dk_at dksX14_compareTo_2_2 4 rfl rfl)
theorem dX14_compareTo_2_55 : decode cX14_compareTo_2 55 = .ok (.iload_n 2, 1) := dk_28 (dk_at dksX14_compareTo_2_2 7 rfl rfl)
theorem dX14_compareTo_2_56 : decode cX14_compareTo_2 56 = .ok (.iload_n 3, 1) := dk_29 (dk_at dksX14_compareTo_2_2 8 rfl rfl)
theorem dX14_compareTo_2_57 : decode cX14_compareTo_2 57 = .ok (.if_icmp .ne 7, 3) := dk_160 0 7 (dk_at dksX14_compareTo_2_2 9 rfl rfl)
theorem dX14_compareTo_2_60 : decode cX14_compareTo_2 60 = .ok (.iconst 0, 1) := dk_3 (dk_at dksX14_compareTo_2_2 12 rfl rfl)
theorem dX14_compareTo_2_61 : decode cX14_compareTo_2 61 = .ok (.goto 4, 3) := dk_167 0 4 (dk_at dksX14_compareTo_2_2 13 rfl rfl)
theorem dX14_compareTo_2_64 : decode cX14_compareTo_2 64 = .ok (.iconst 1, 1) := dk_4 (dk_at dksX14_compareTo_2_2 16 rfl rfl)
theorem dX14_compareTo_2_65 : decode cX14_compareTo_2 65 = .ok (.ireturn, 1) := dk_172 (dk_at dksX14_compareTo_2_2 17 rfl rfl)
abbrev cX14_init : ByteArray := prog_11_method_1_code
def yX14_init : MethodName := ⟨RX14, "<init>", "(II)V"⟩
def dkwX14_init_0 : List UInt8 := [42, 183, 0, 1, 42, 27, 181, 0, 7, 42, 28, 181, 0, 13, 177]
abbrev dktX14_init_0 : List UInt8 := dkwX14_init_0 ++ []
theorem dksX14_init_0 : cX14_init.data.toList.drop 0 = dktX14_init_0 := by decide +kernel
theorem dX14_init_0 : decode cX14_init 0 = .ok (.aload_n 0, 1) := dk_42 (dk_at dksX14_init_0 0 rfl rfl)
theorem dX14_init_1 : decode cX14_init 1 = .ok (.invokespecial 1, 3) := dk_183 0 1 (dk_at dksX14_init_0 1 rfl rfl)
theorem dX14_init_4 : decode cX14_init 4 = .ok (.aload_n 0, 1) := dk_42 (dk_at dksX14_init_0 4 rfl rfl)
theorem dX14_init_5 : decode cX14_init 5 = .ok (.iload_n 1, 1) := dk_27 (dk_at dksX14_init_0 5 rfl rfl)
theorem dX14_init_6 : decode cX14_init 6 = .ok (.putfield 7, 3) := dk_181 0 7 (dk_at dksX14_init_0 6 rfl rfl)
theorem dX14_init_9 : decode cX14_init 9 = .ok (.aload_n 0, 1) := dk_42 (dk_at dksX14_init_0 9 rfl rfl)
theorem dX14_init_10 : decode cX14_init 10 = .ok (.iload_n 2, 1) := dk_28 (dk_at dksX14_init_0 10 rfl rfl)
theorem dX14_init_11 : decode cX14_init 11 = .ok (.putfield 13, 3) := dk_181 0 13 (dk_at dksX14_init_0 11 rfl rfl)
theorem dX14_init_14 : decode cX14_init 14 = .ok (.return_, 1) := dk_177 (dk_at dksX14_init_0 14 rfl rfl)
theorem q139 : (Jvm.Cond.initialized "WholePacks$Mix") ∈ lw_all := lw_g (lw_at lw_m1 26 rfl) rfl
theorem q1043 : (Jvm.Cond.selects "WholePacks$Mix" ({ cls := "java/lang/Object", name := "getClass", desc := "()Ljava/lang/Class;" } : Jvm.MethodName) ({ cls := "java/lang/Object", name := "getClass", desc := "()Ljava/lang/Class;" } : Jvm.MethodName)) ∈ lw_all := lw_g (lw_at lw_m4 210 rfl) rfl
theorem q1104 : (Jvm.Cond.castable "WholePacks$Mix" "java/lang/Comparable") ∈ lw_tbl := lw_at lw_m5 31 rfl
theorem q1105 : (Jvm.Cond.selects "WholePacks$Mix" ({ cls := "java/lang/Comparable", name := "compareTo", desc := "(Ljava/lang/Object;)I" } : Jvm.MethodName) ({ cls := "WholePacks$Mix", name := "compareTo", desc := "(Ljava/lang/Object;)I" } : Jvm.MethodName)) ∈ lw_all := lw_g (lw_at lw_m5 32 rfl) rfl
theorem q1106 : (Jvm.Cond.unhidden "WholePacks$Mix" "compareTo" "(Ljava/lang/Object;)I") ∈ lw_tbl := lw_at lw_m5 33 rfl
theorem q1107 : (Jvm.Cond.instanceMethod ({ cls := "WholePacks$Mix", name := "compareTo", desc := "(Ljava/lang/Object;)I" } : Jvm.MethodName)) ∈ lw_all := lw_g (lw_at lw_m5 34 rfl) rfl
theorem q1108 : (Jvm.Cond.publicMethod ({ cls := "WholePacks$Mix", name := "compareTo", desc := "(Ljava/lang/Object;)I" } : Jvm.MethodName)) ∈ lw_tbl := lw_at lw_m5 35 rfl
theorem q1109 : (Jvm.Cond.code ({ cls := "WholePacks$Mix", name := "compareTo", desc := "(Ljava/lang/Object;)I" } : Jvm.MethodName) prog_11_method_3_code (2 : Nat) (Option.some Jvm.ClassFile.FieldType.int)) ∈ lw_all := lw_g (lw_at lw_m5 36 rfl) rfl
theorem q1110 : (Jvm.Cond.classLink "WholePacks$Mix" (8 : Nat) "WholePacks$Mix") ∈ lw_all := lw_g (lw_at lw_m5 37 rfl) rfl
theorem q1111 : (Jvm.Cond.methodLink "WholePacks$Mix" (16 : Nat) ({ cls := "WholePacks$Mix", name := "compareTo", desc := "(LWholePacks$Mix;)I" } : Jvm.MethodName)) ∈ lw_all := lw_g (lw_at lw_m5 38 rfl) rfl
theorem q1112 : (Jvm.Cond.instanceMethod ({ cls := "WholePacks$Mix", name := "compareTo", desc := "(LWholePacks$Mix;)I" } : Jvm.MethodName)) ∈ lw_all := lw_g (lw_at lw_m5 39 rfl) rfl
theorem q1113 : (Jvm.Cond.selects "WholePacks$Mix" ({ cls := "WholePacks$Mix", name := "compareTo", desc := "(LWholePacks$Mix;)I" } : Jvm.MethodName) ({ cls := "WholePacks$Mix", name := "compareTo", desc := "(LWholePacks$Mix;)I" } : Jvm.MethodName)) ∈ lw_all := lw_g (lw_at lw_m5 40 rfl) rfl
theorem q1114 : (Jvm.Cond.code ({ cls := "WholePacks$Mix", name := "compareTo", desc := "(LWholePacks$Mix;)I" } : Jvm.MethodName) prog_11_method_2_code (4 : Nat) (Option.some Jvm.ClassFile.FieldType.int)) ∈ lw_all := lw_g (lw_at lw_m5 41 rfl) rfl
theorem q1335 : (Jvm.Cond.instantiable "WholePacks$Mix" (2 : Nat)) ∈ lw_all := lw_g (lw_at lw_m6 22 rfl) rfl
theorem q1337 : (Jvm.Cond.instanceMethod ({ cls := "WholePacks$Mix", name := "<init>", desc := "(II)V" } : Jvm.MethodName)) ∈ lw_all := lw_g (lw_at lw_m6 24 rfl) rfl
theorem q1338 : (Jvm.Cond.code ({ cls := "WholePacks$Mix", name := "<init>", desc := "(II)V" } : Jvm.MethodName) prog_11_method_1_code (3 : Nat) (Option.none : Option Jvm.ClassFile.FieldType)) ∈ lw_all := lw_g (lw_at lw_m6 25 rfl) rfl
theorem q1339 : (Jvm.Cond.methodLink "WholePacks$Mix" (1 : Nat) ({ cls := "java/lang/Object", name := "<init>", desc := "()V" } : Jvm.MethodName)) ∈ lw_all := lw_g (lw_at lw_m6 26 rfl) rfl
theorem q1340 : (Jvm.Cond.fieldLink "WholePacks$Mix" (7 : Nat) "WholePacks$Mix" "cost" "I") ∈ lw_all := lw_g (lw_at lw_m6 27 rfl) rfl
theorem q1342 : (Jvm.Cond.fieldLink "WholePacks$Mix" (13 : Nat) "WholePacks$Mix" "code" "I") ∈ lw_all := lw_g (lw_at lw_m6 29 rfl) rfl
theorem q1344 : (Jvm.Cond.laysFinal "WholePacks$Mix" "WholePacks$Mix" "cost" "I") ∈ lw_all := lw_g (lw_at lw_m6 31 rfl) rfl
theorem q1345 : (Jvm.Cond.soleField "WholePacks$Mix" "cost") ∈ lw_all := lw_g (lw_at lw_m6 32 rfl) rfl
theorem q1346 : (Jvm.Cond.laysFinal "WholePacks$Mix" "WholePacks$Mix" "code" "I") ∈ lw_all := lw_g (lw_at lw_m6 33 rfl) rfl
theorem q1347 : (Jvm.Cond.soleField "WholePacks$Mix" "code") ∈ lw_all := lw_g (lw_at lw_m6 34 rfl) rfl
theorem q1348 : (Jvm.Cond.superclass "WholePacks$Mix" "java/lang/Object") ∈ lw_all := lw_g (lw_at lw_m6 35 rfl) rfl
theorem q2416 : (Jvm.Cond.castable "WholePacks$Mix" "java/lang/Object") ∈ lw_tbl := lw_at lw_m10 143 rfl
theorem in_X14 : ∀ w ∈ wsX140, w ∈ lw_all := lw_in wsX140 [1344, 1346] (by decide +kernel) (by decide +kernel)
/-! WholePacks$Ask -/
set_option maxRecDepth 100000
def RX15 : String := "WholePacks$Ask"
def TX15 : u_T := fun k => match k with
  | _ => ("WholePacks$Ask", "v", "I", true)
def tyX15 : Nat → FieldType := fun k => match k with
  | _ => .int
abbrev wsX150 : List Cond := u_ws RX15 TX15 1
theorem nmX15 : ∀ a, a < 1 → ∀ b, b < 1 → a ≠ b → (TX15 a).2.1 ≠ (TX15 b).2.1 := by decide +kernel
theorem tyX15_ok : ∀ k, k < 1 → parseFieldDescriptor (TX15 k).2.2.1 = some (tyX15 k) := by decide +kernel
abbrev cX15_init : ByteArray := prog_2_method_1_code
def yX15_init : MethodName := ⟨RX15, "<init>", "(I)V"⟩
def dkwX15_init_0 : List UInt8 := [42, 183, 0, 1, 42, 27, 181, 0, 7, 177]
abbrev dktX15_init_0 : List UInt8 := dkwX15_init_0 ++ []
theorem dksX15_init_0 : cX15_init.data.toList.drop 0 = dktX15_init_0 := by decide +kernel
theorem dX15_init_0 : decode cX15_init 0 = .ok (.aload_n 0, 1) := dk_42 (dk_at dksX15_init_0 0 rfl rfl)
theorem dX15_init_1 : decode cX15_init 1 = .ok (.invokespecial 1, 3) := dk_183 0 1 (dk_at dksX15_init_0 1 rfl rfl)
theorem dX15_init_4 : decode cX15_init 4 = .ok (.aload_n 0, 1) := dk_42 (dk_at dksX15_init_0 4 rfl rfl)
theorem dX15_init_5 : decode cX15_init 5 = .ok (.iload_n 1, 1) := dk_27 (dk_at dksX15_init_0 5 rfl rfl)
theorem dX15_init_6 : decode cX15_init 6 = .ok (.putfield 7, 3) := dk_181 0 7 (dk_at dksX15_init_0 6 rfl rfl)
theorem dX15_init_9 : decode cX15_init 9 = .ok (.return_, 1) := dk_177 (dk_at dksX15_init_0 9 rfl rfl)
theorem q141 : (Jvm.Cond.initialized "WholePacks$Ask") ∈ lw_all := lw_g (lw_at lw_m1 28 rfl) rfl
theorem q1037 : (Jvm.Cond.selects "WholePacks$Ask" ({ cls := "java/lang/Object", name := "getClass", desc := "()Ljava/lang/Class;" } : Jvm.MethodName) ({ cls := "java/lang/Object", name := "getClass", desc := "()Ljava/lang/Class;" } : Jvm.MethodName)) ∈ lw_all := lw_g (lw_at lw_m4 204 rfl) rfl
theorem q1371 : (Jvm.Cond.instantiable "WholePacks$Ask" (1 : Nat)) ∈ lw_all := lw_g (lw_at lw_m6 58 rfl) rfl
theorem q1373 : (Jvm.Cond.instanceMethod ({ cls := "WholePacks$Ask", name := "<init>", desc := "(I)V" } : Jvm.MethodName)) ∈ lw_all := lw_g (lw_at lw_m6 60 rfl) rfl
theorem q1374 : (Jvm.Cond.code ({ cls := "WholePacks$Ask", name := "<init>", desc := "(I)V" } : Jvm.MethodName) prog_2_method_1_code (2 : Nat) (Option.none : Option Jvm.ClassFile.FieldType)) ∈ lw_all := lw_g (lw_at lw_m6 61 rfl) rfl
theorem q1375 : (Jvm.Cond.methodLink "WholePacks$Ask" (1 : Nat) ({ cls := "java/lang/Object", name := "<init>", desc := "()V" } : Jvm.MethodName)) ∈ lw_all := lw_g (lw_at lw_m6 62 rfl) rfl
theorem q1376 : (Jvm.Cond.fieldLink "WholePacks$Ask" (7 : Nat) "WholePacks$Ask" "v" "I") ∈ lw_all := lw_g (lw_at lw_m6 63 rfl) rfl
theorem q1378 : (Jvm.Cond.laysFinal "WholePacks$Ask" "WholePacks$Ask" "v" "I") ∈ lw_all := lw_g (lw_at lw_m6 65 rfl) rfl
theorem q1379 : (Jvm.Cond.soleField "WholePacks$Ask" "v") ∈ lw_all := lw_g (lw_at lw_m6 66 rfl) rfl
theorem q1380 : (Jvm.Cond.superclass "WholePacks$Ask" "java/lang/Object") ∈ lw_all := lw_g (lw_at lw_m6 67 rfl) rfl
theorem q2417 : (Jvm.Cond.castable "WholePacks$Ask" "java/lang/Object") ∈ lw_tbl := lw_at lw_m10 144 rfl
theorem in_X15 : ∀ w ∈ wsX150, w ∈ lw_all := lw_in wsX150 [1378] (by decide +kernel) (by decide +kernel)
