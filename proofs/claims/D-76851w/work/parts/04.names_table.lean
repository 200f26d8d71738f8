/-! WholePacks$Table -/
set_option maxRecDepth 100000
def RX3 : String := "WholePacks$Table"
def TX3 : u_T := fun k => match k with
  | 0 => ("WholePacks$Table", "n", "I", false)
  | 1 => ("WholePacks$Table", "rows", "I", false)
  | 2 => ("WholePacks$Table", "pivots", "I", false)
  | 3 => ("WholePacks$Table", "cutMany", "I", false)
  | 4 => ("WholePacks$Table", "below", "J", false)
  | 5 => ("WholePacks$Table", "base", "J", false)
  | 6 => ("WholePacks$Table", "entries", "[J", true)
  | 7 => ("WholePacks$Table", "rights", "[J", true)
  | 8 => ("WholePacks$Table", "rises", "[J", true)
  | 9 => ("WholePacks$Table", "rowOwners", "[I", true)
  | 10 => ("WholePacks$Table", "columnOwners", "[I", true)
  | _ => ("WholePacks$Table", "cuts", "[LWholePacks$Cut;", true)
def tyX3 : Nat → FieldType := fun k => match k with
  | 0 => .int
  | 1 => .int
  | 2 => .int
  | 3 => .int
  | 4 => .long
  | 5 => .long
  | 6 => .array .long
  | 7 => .array .long
  | 8 => .array .long
  | 9 => .array .int
  | 10 => .array .int
  | _ => .array (.object "WholePacks$Cut")
abbrev wsX30 : List Cond := u_ws RX3 TX3 12
theorem nmX3 : ∀ a, a < 12 → ∀ b, b < 12 → a ≠ b → (TX3 a).2.1 ≠ (TX3 b).2.1 := by decide +kernel
theorem tyX3_ok : ∀ k, k < 12 → parseFieldDescriptor (TX3 k).2.2.1 = some (tyX3 k) := by decide +kernel
abbrev cX3_init : ByteArray := prog_16_method_1_code
def yX3_init : MethodName := ⟨RX3, "<init>", "()V"⟩
def dkwX3_init_3 : List UInt8 := [183, 0, 34, 83, 132, 1, 1, 167, 255, 234, 177]
abbrev dktX3_init_3 : List UInt8 := dkwX3_init_3 ++ []
def dkwX3_init_2 : List UInt8 := [189, 0, 28, 181, 0, 30, 3, 60, 27, 16, 12, 162, 0, 22, 42, 180, 0, 30, 27, 187, 0, 28, 89]
abbrev dktX3_init_2 : List UInt8 := dkwX3_init_2 ++ dktX3_init_3
def dkwX3_init_1 : List UInt8 := [188, 11, 181, 0, 18, 42, 16, 30, 188, 10, 181, 0, 21, 42, 8, 188, 10, 181, 0, 25, 42, 16, 12]
abbrev dktX3_init_1 : List UInt8 := dkwX3_init_1 ++ dktX3_init_2
def dkwX3_init_0 : List UInt8 := [42, 183, 0, 3, 42, 17, 0, 150, 188, 11, 181, 0, 9, 42, 16, 30, 188, 11, 181, 0, 15, 42, 8]
abbrev dktX3_init_0 : List UInt8 := dkwX3_init_0 ++ dktX3_init_1
theorem dksX3_init_0 : cX3_init.data.toList.drop 0 = dktX3_init_0 := by decide +kernel
theorem dksX3_init_1 : cX3_init.data.toList.drop 23 = dktX3_init_1 := dk_seg dksX3_init_0 23 rfl rfl
theorem dksX3_init_2 : cX3_init.data.toList.drop 46 = dktX3_init_2 := dk_seg dksX3_init_1 23 rfl rfl
theorem dksX3_init_3 : cX3_init.data.toList.drop 69 = dktX3_init_3 := dk_seg dksX3_init_2 23 rfl rfl
theorem dX3_init_0 : decode cX3_init 0 = .ok (.aload_n 0, 1) := dk_42 (dk_at dksX3_init_0 0 rfl rfl)
theorem dX3_init_1 : decode cX3_init 1 = .ok (.invokespecial 3, 3) := dk_183 0 3 (dk_at dksX3_init_0 1 rfl rfl)
theorem dX3_init_4 : decode cX3_init 4 = .ok (.aload_n 0, 1) := dk_42 (dk_at dksX3_init_0 4 rfl rfl)
theorem dX3_init_5 : decode cX3_init 5 = .ok (.sipush 150, 3) := dk_17 0 150 (dk_at dksX3_init_0 5 rfl rfl)
theorem dX3_init_8 : decode cX3_init 8 = .ok (.newarray .long, 2) := dk_188_11 (dk_at dksX3_init_0 8 rfl rfl)
theorem dX3_init_10 : decode cX3_init 10 = .ok (.putfield 9, 3) := dk_181 0 9 (dk_at dksX3_init_0 10 rfl rfl)
theorem dX3_init_13 : decode cX3_init 13 = .ok (.aload_n 0, 1) := dk_42 (dk_at dksX3_init_0 13 rfl rfl)
theorem dX3_init_14 : decode cX3_init 14 = .ok (.bipush 30, 2) := dk_16 30 (dk_at dksX3_init_0 14 rfl rfl)
theorem dX3_init_16 : decode cX3_init 16 = .ok (.newarray .long, 2) := dk_188_11 (dk_at dksX3_init_0 16 rfl rfl)
theorem dX3_init_18 : decode cX3_init 18 = .ok (.putfield 15, 3) := dk_181 0 15 (dk_at dksX3_init_0 18 rfl rfl)
theorem dX3_init_21 : decode cX3_init 21 = .ok (.aload_n 0, 1) := dk_42 (dk_at dksX3_init_0 21 rfl rfl)
theorem dX3_init_22 : decode cX3_init 22 = .ok (.iconst 5, 1) := dk_8 (dk_at dksX3_init_0 22 rfl rfl)
theorem dX3_init_23 : decode cX3_init 23 = .ok (.newarray .long, 2) := dk_188_11 (dk_at dksX3_init_1 0 rfl rfl)
theorem dX3_init_25 : decode cX3_init 25 = .ok (.putfield 18, 3) := dk_181 0 18 (dk_at dksX3_init_1 2 rfl rfl)
theorem dX3_init_28 : decode cX3_init 28 = .ok (.aload_n 0, 1) := dk_42 (dk_at dksX3_init_1 5 rfl rfl)
theorem dX3_init_29 : decode cX3_init 29 = .ok (.bipush 30, 2) := dk_16 30 (dk_at dksX3_init_1 6 rfl rfl)
theorem dX3_init_31 : decode cX3_init 31 = .ok (.newarray .int, 2) := dk_188_10 (dk_at dksX3_init_1 8 rfl rfl)
theorem dX3_init_33 : decode cX3_init 33 = .ok (.putfield 21, 3) := dk_181 0 21 (dk_at dksX3_init_1 10 rfl rfl)
theorem dX3_init_36 : decode cX3_init 36 = .ok (.aload_n 0, 1) := dk_42 (dk_at dksX3_init_1 13 rfl rfl)
theorem dX3_init_37 : decode cX3_init 37 = .ok (.iconst 5, 1) := dk_8 (dk_at dksX3_init_1 14 rfl rfl)
theorem dX3_init_38 : decode cX3_init 38 = .ok (.newarray .int, 2) := dk_188_10 (dk_at dksX3_init_1 15 rfl rfl)
theorem dX3_init_40 : decode cX3_init 40 = .ok (.putfield 25, 3) := dk_181 0 25 (dk_at dksX3_init_1 17 rfl rfl)
theorem dX3_init_43 : decode cX3_init 43 = .ok (.aload_n 0, 1) := dk_42 (dk_at dksX3_init_1 20 rfl rfl)
theorem dX3_init_44 : decode cX3_init 44 = .ok (.bipush 12, 2) := dk_16 12 (dk_at dksX3_init_1 21 rfl rfl)
theorem dX3_init_46 : decode cX3_init 46 = .ok (.anewarray 28, 3) := dk_189 0 28 (dk_at dksX3_init_2 0 rfl rfl)
theorem dX3_init_49 : decode cX3_init 49 = .ok (.putfield 30, 3) := dk_181 0 30 (dk_at dksX3_init_2 3 rfl rfl)
theorem dX3_init_52 : decode cX3_init 52 = .ok (.iconst 0, 1) := dk_3 (dk_at dksX3_init_2 6 rfl rfl)
theorem dX3_init_53 : decode cX3_init 53 = .ok (.istore_n 1, 1) := dk_60 (dk_at dksX3_init_2 7 rfl rfl)
theorem dX3_init_54 : decode cX3_init 54 = .ok (.iload_n 1, 1) := dk_27 (dk_at dksX3_init_2 8 rfl rfl)
theorem dX3_init_55 : decode cX3_init 55 = .ok (.bipush 12, 2) := dk_16 12 (dk_at dksX3_init_2 9 rfl rfl)
theorem dX3_init_57 : decode cX3_init 57 = .ok (.if_icmp .ge 22, 3) := dk_162 0 22 (dk_at dksX3_init_2 11 rfl rfl)
theorem dX3_init_60 : decode cX3_init 60 = .ok (.aload_n 0, 1) := dk_42 (dk_at dksX3_init_2 14 rfl rfl)
theorem dX3_init_61 : decode cX3_init 61 = .ok (.getfield 30, 3) := dk_180 0 30 (dk_at dksX3_init_2 15 rfl rfl)
theorem dX3_init_64 : decode cX3_init 64 = .ok (.iload_n 1, 1) := dk_27 (dk_at dksX3_init_2 18 rfl rfl)
theorem dX3_init_65 : decode cX3_init 65 = .ok (.new 28, 3) := dk_187 0 28 (dk_at dksX3_init_2 19 rfl rfl)
theorem dX3_init_68 : decode cX3_init 68 = .ok (.dup, 1) := dk_89 (dk_at dksX3_init_2 22 rfl rfl)
theorem dX3_init_69 : decode cX3_init 69 = .ok (.invokespecial 34, 3) := dk_183 0 34 (dk_at dksX3_init_3 0 rfl rfl)
theorem dX3_init_72 : decode cX3_init 72 = .ok (.aastore, 1) := dk_83 (dk_at dksX3_init_3 3 rfl rfl)
theorem dX3_init_73 : decode cX3_init 73 = .ok (.iinc 1 1, 3) := dk_132 1 1 (dk_at dksX3_init_3 4 rfl rfl)
theorem dX3_init_76 : decode cX3_init 76 = .ok (.goto (-22), 3) := dk_167 255 234 (dk_at dksX3_init_3 7 rfl rfl)
theorem dX3_init_79 : decode cX3_init 79 = .ok (.return_, 1) := dk_177 (dk_at dksX3_init_3 10 rfl rfl)
abbrev cX3_solves : ByteArray := prog_16_method_18_code
def yX3_solves : MethodName := ⟨RX3, "solves", "(LWholePacks$Desk;I)I"⟩
def dkwX3_solves_2 : List UInt8 := [172, 78, 45, 180, 0, 177, 172]
abbrev dktX3_solves_2 : List UInt8 := dkwX3_solves_2 ++ []
def dkwX3_solves_1 : List UInt8 := [160, 0, 5, 5, 172, 42, 29, 43, 182, 0, 174, 42, 182, 0, 168, 42, 182, 0, 171, 62, 167, 255, 226, 4]
abbrev dktX3_solves_1 : List UInt8 := dkwX3_solves_1 ++ dktX3_solves_2
def dkwX3_solves_0 : List UInt8 := [42, 43, 182, 0, 165, 42, 182, 0, 168, 42, 182, 0, 171, 62, 29, 2, 159, 0, 31, 42, 180, 0, 48, 28]
abbrev dktX3_solves_0 : List UInt8 := dkwX3_solves_0 ++ dktX3_solves_1
theorem dksX3_solves_0 : cX3_solves.data.toList.drop 0 = dktX3_solves_0 := by decide +kernel
theorem dksX3_solves_1 : cX3_solves.data.toList.drop 24 = dktX3_solves_1 := dk_seg dksX3_solves_0 24 rfl rfl
theorem dksX3_solves_2 : cX3_solves.data.toList.drop 48 = dktX3_solves_2 := dk_seg dksX3_solves_1 24 rfl rfl
theorem dX3_solves_0 : decode cX3_solves 0 = .ok (.aload_n 0, 1) := dk_42 (dk_at dksX3_solves_0 0 rfl rfl)
theorem dX3_solves_1 : decode cX3_solves 1 = .ok (.aload_n 1, 1) := dk_43 (dk_at dksX3_solves_0 1 rfl rfl)
theorem dX3_solves_2 : decode cX3_solves 2 = .ok (.invokevirtual 165, 3) := dk_182 0 165 (dk_at dksX3_solves_0 2 rfl rfl)
theorem dX3_solves_5 : decode cX3_solves 5 = .ok (.aload_n 0, 1) := dk_42 (dk_at dksX3_solves_0 5 rfl rfl)
theorem dX3_solves_6 : decode cX3_solves 6 = .ok (.invokevirtual 168, 3) := dk_182 0 168 (dk_at dksX3_solves_0 6 rfl rfl)
theorem dX3_solves_9 : decode cX3_solves 9 = .ok (.aload_n 0, 1) := dk_42 (dk_at dksX3_solves_0 9 rfl rfl)
theorem dX3_solves_10 : decode cX3_solves 10 = .ok (.invokevirtual 171, 3) := dk_182 0 171 (dk_at dksX3_solves_0 10 rfl rfl)
theorem dX3_solves_13 : decode cX3_solves 13 = .ok (.istore_n 3, 1) := dk_62 (dk_at dksX3_solves_0 13 rfl rfl)
theorem dX3_solves_14 : decode cX3_solves 14 = .ok (.iload_n 3, 1) := dk_29 (dk_at dksX3_solves_0 14 rfl rfl)
theorem dX3_solves_15 : decode cX3_solves 15 = .ok (.iconst (-1), 1) := dk_2 (dk_at dksX3_solves_0 15 rfl rfl)
theorem dX3_solves_16 : decode cX3_solves 16 = .ok (.if_icmp .eq 31, 3) := dk_159 0 31 (dk_at dksX3_solves_0 16 rfl rfl)
theorem dX3_solves_19 : decode cX3_solves 19 = .ok (.aload_n 0, 1) := dk_42 (dk_at dksX3_solves_0 19 rfl rfl)
theorem dX3_solves_20 : decode cX3_solves 20 = .ok (.getfield 48, 3) := dk_180 0 48 (dk_at dksX3_solves_0 20 rfl rfl)
theorem dX3_solves_23 : decode cX3_solves 23 = .ok (.iload_n 2, 1) := dk_28 (dk_at dksX3_solves_0 23 rfl rfl)
theorem dX3_solves_24 : decode cX3_solves 24 = .ok (.if_icmp .ne 5, 3) := dk_160 0 5 (dk_at dksX3_solves_1 0 rfl rfl)
theorem dX3_solves_27 : decode cX3_solves 27 = .ok (.iconst 2, 1) := dk_5 (dk_at dksX3_solves_1 3 rfl rfl)
theorem dX3_solves_28 : decode cX3_solves 28 = .ok (.ireturn, 1) := dk_172 (dk_at dksX3_solves_1 4 rfl rfl)
theorem dX3_solves_29 : decode cX3_solves 29 = .ok (.aload_n 0, 1) := dk_42 (dk_at dksX3_solves_1 5 rfl rfl)
theorem dX3_solves_30 : decode cX3_solves 30 = .ok (.iload_n 3, 1) := dk_29 (dk_at dksX3_solves_1 6 rfl rfl)
theorem dX3_solves_31 : decode cX3_solves 31 = .ok (.aload_n 1, 1) := dk_43 (dk_at dksX3_solves_1 7 rfl rfl)
theorem dX3_solves_32 : decode cX3_solves 32 = .ok (.invokevirtual 174, 3) := dk_182 0 174 (dk_at dksX3_solves_1 8 rfl rfl)
theorem dX3_solves_35 : decode cX3_solves 35 = .ok (.aload_n 0, 1) := dk_42 (dk_at dksX3_solves_1 11 rfl rfl)
theorem dX3_solves_36 : decode cX3_solves 36 = .ok (.invokevirtual 168, 3) := dk_182 0 168 (dk_at dksX3_solves_1 12 rfl rfl)
theorem dX3_solves_39 : decode cX3_solves 39 = .ok (.aload_n 0, 1) := dk_42 (dk_at dksX3_solves_1 15 rfl rfl)
theorem dX3_solves_40 : decode cX3_solves 40 = .ok (.invokevirtual 171, 3) := dk_182 0 171 (dk_at dksX3_solves_1 16 rfl rfl)
theorem dX3_solves_43 : decode cX3_solves 43 = .ok (.istore_n 3, 1) := dk_62 (dk_at dksX3_solves_1 19 rfl rfl)
theorem dX3_solves_44 : decode cX3_solves 44 = .ok (.goto (-30), 3) := dk_167 255 226 (dk_at dksX3_solves_1 20 rfl rfl)
theorem dX3_solves_47 : decode cX3_solves 47 = .ok (.iconst 1, 1) := dk_4 (dk_at dksX3_solves_1 23 rfl rfl)
theorem dX3_solves_48 : decode cX3_solves 48 = .ok (.ireturn, 1) := dk_172 (dk_at dksX3_solves_2 0 rfl rfl)
theorem dX3_solves_49 : decode cX3_solves 49 = .ok (.astore_n 3, 1) := dk_78 (dk_at dksX3_solves_2 1 rfl rfl)
theorem dX3_solves_50 : decode cX3_solves 50 = .ok (.aload_n 3, 1) := dk_45 (dk_at dksX3_solves_2 2 rfl rfl)
theorem dX3_solves_51 : decode cX3_solves 51 = .ok (.getfield 177, 3) := dk_180 0 177 (dk_at dksX3_solves_2 3 rfl rfl)
theorem dX3_solves_54 : decode cX3_solves 54 = .ok (.ireturn, 1) := dk_172 (dk_at dksX3_solves_2 6 rfl rfl)
abbrev cX3_begins : ByteArray := prog_16_method_5_code
def yX3_begins : MethodName := ⟨RX3, "begins", "(LWholePacks$Desk;)V"⟩
def dkwX3_begins_5 : List UInt8 := [21, 4, 182, 0, 78, 182, 0, 82, 132, 4, 1, 167, 255, 226, 132, 2, 1, 167, 255, 191, 177]
abbrev dktX3_begins_5 : List UInt8 := dkwX3_begins_5 ++ []
def dkwX3_begins_4 : List UInt8 := [62, 3, 54, 4, 21, 4, 42, 180, 0, 44, 162, 0, 27, 42, 29, 21, 4, 43, 180, 0, 64, 28, 50]
abbrev dktX3_begins_4 : List UInt8 := dkwX3_begins_4 ++ dktX3_begins_5
def dkwX3_begins_3 : List UInt8 := [43, 180, 0, 61, 162, 0, 63, 42, 16, 10, 28, 96, 43, 180, 0, 64, 28, 50, 182, 0, 68, 182, 0, 74]
abbrev dktX3_begins_3 : List UInt8 := dkwX3_begins_3 ++ dktX3_begins_4
def dkwX3_begins_2 : List UInt8 := [28, 79, 42, 180, 0, 18, 28, 43, 180, 0, 58, 28, 46, 133, 80, 132, 2, 1, 167, 255, 225, 3, 61, 28]
abbrev dktX3_begins_2 : List UInt8 := dkwX3_begins_2 ++ dktX3_begins_3
def dkwX3_begins_1 : List UInt8 := [10, 181, 0, 51, 42, 9, 181, 0, 55, 3, 61, 28, 42, 180, 0, 44, 162, 0, 29, 42, 180, 0, 25, 28]
abbrev dktX3_begins_1 : List UInt8 := dkwX3_begins_1 ++ dktX3_begins_2
def dkwX3_begins_0 : List UInt8 := [42, 43, 180, 0, 39, 181, 0, 44, 42, 3, 181, 0, 35, 42, 3, 181, 0, 45, 42, 3, 181, 0, 48, 42]
abbrev dktX3_begins_0 : List UInt8 := dkwX3_begins_0 ++ dktX3_begins_1
theorem dksX3_begins_0 : cX3_begins.data.toList.drop 0 = dktX3_begins_0 := by decide +kernel
theorem dksX3_begins_1 : cX3_begins.data.toList.drop 24 = dktX3_begins_1 := dk_seg dksX3_begins_0 24 rfl rfl
theorem dksX3_begins_2 : cX3_begins.data.toList.drop 48 = dktX3_begins_2 := dk_seg dksX3_begins_1 24 rfl rfl
theorem dksX3_begins_3 : cX3_begins.data.toList.drop 72 = dktX3_begins_3 := dk_seg dksX3_begins_2 24 rfl rfl
theorem dksX3_begins_4 : cX3_begins.data.toList.drop 96 = dktX3_begins_4 := dk_seg dksX3_begins_3 24 rfl rfl
theorem dksX3_begins_5 : cX3_begins.data.toList.drop 119 = dktX3_begins_5 := dk_seg dksX3_begins_4 23 rfl rfl
theorem dX3_begins_0 : decode cX3_begins 0 = .ok (.aload_n 0, 1) := dk_42 (dk_at dksX3_begins_0 0 rfl rfl)
theorem dX3_begins_1 : decode cX3_begins 1 = .ok (.aload_n 1, 1) := dk_43 (dk_at dksX3_begins_0 1 rfl rfl)
theorem dX3_begins_2 : decode cX3_begins 2 = .ok (.getfield 39, 3) := dk_180 0 39 (dk_at dksX3_begins_0 2 rfl rfl)
theorem dX3_begins_5 : decode cX3_begins 5 = .ok (.putfield 44, 3) := dk_181 0 44 (dk_at dksX3_begins_0 5 rfl rfl)
theorem dX3_begins_8 : decode cX3_begins 8 = .ok (.aload_n 0, 1) := dk_42 (dk_at dksX3_begins_0 8 rfl rfl)
theorem dX3_begins_9 : decode cX3_begins 9 = .ok (.iconst 0, 1) := dk_3 (dk_at dksX3_begins_0 9 rfl rfl)
theorem dX3_begins_10 : decode cX3_begins 10 = .ok (.putfield 35, 3) := dk_181 0 35 (dk_at dksX3_begins_0 10 rfl rfl)
theorem dX3_begins_13 : decode cX3_begins 13 = .ok (.aload_n 0, 1) := dk_42 (dk_at dksX3_begins_0 13 rfl rfl)
theorem dX3_begins_14 : decode cX3_begins 14 = .ok (.iconst 0, 1) := dk_3 (dk_at dksX3_begins_0 14 rfl rfl)
theorem dX3_begins_15 : decode cX3_begins 15 = .ok (.putfield 45, 3) := dk_181 0 45 (dk_at dksX3_begins_0 15 rfl rfl)
theorem dX3_begins_18 : decode cX3_begins 18 = .ok (.aload_n 0, 1) := dk_42 (dk_at dksX3_begins_0 18 rfl rfl)
theorem dX3_begins_19 : decode cX3_begins 19 = .ok (.iconst 0, 1) := dk_3 (dk_at dksX3_begins_0 19 rfl rfl)
theorem dX3_begins_20 : decode cX3_begins 20 = .ok (.putfield 48, 3) := dk_181 0 48 (dk_at dksX3_begins_0 20 rfl rfl)
theorem dX3_begins_23 : decode cX3_begins 23 = .ok (.aload_n 0, 1) := dk_42 (dk_at dksX3_begins_0 23 rfl rfl)
theorem dX3_begins_24 : decode cX3_begins 24 = .ok (.lconst 1, 1) := dk_10 (dk_at dksX3_begins_1 0 rfl rfl)
theorem dX3_begins_25 : decode cX3_begins 25 = .ok (.putfield 51, 3) := dk_181 0 51 (dk_at dksX3_begins_1 1 rfl rfl)
theorem dX3_begins_28 : decode cX3_begins 28 = .ok (.aload_n 0, 1) := dk_42 (dk_at dksX3_begins_1 4 rfl rfl)
theorem dX3_begins_29 : decode cX3_begins 29 = .ok (.lconst 0, 1) := dk_9 (dk_at dksX3_begins_1 5 rfl rfl)
theorem dX3_begins_30 : decode cX3_begins 30 = .ok (.putfield 55, 3) := dk_181 0 55 (dk_at dksX3_begins_1 6 rfl rfl)
theorem dX3_begins_33 : decode cX3_begins 33 = .ok (.iconst 0, 1) := dk_3 (dk_at dksX3_begins_1 9 rfl rfl)
theorem dX3_begins_34 : decode cX3_begins 34 = .ok (.istore_n 2, 1) := dk_61 (dk_at dksX3_begins_1 10 rfl rfl)
theorem dX3_begins_35 : decode cX3_begins 35 = .ok (.iload_n 2, 1) := dk_28 (dk_at dksX3_begins_1 11 rfl rfl)
theorem dX3_begins_36 : decode cX3_begins 36 = .ok (.aload_n 0, 1) := dk_42 (dk_at dksX3_begins_1 12 rfl rfl)
theorem dX3_begins_37 : decode cX3_begins 37 = .ok (.getfield 44, 3) := dk_180 0 44 (dk_at dksX3_begins_1 13 rfl rfl)
theorem dX3_begins_40 : decode cX3_begins 40 = .ok (.if_icmp .ge 29, 3) := dk_162 0 29 (dk_at dksX3_begins_1 16 rfl rfl)
theorem dX3_begins_43 : decode cX3_begins 43 = .ok (.aload_n 0, 1) := dk_42 (dk_at dksX3_begins_1 19 rfl rfl)
theorem dX3_begins_44 : decode cX3_begins 44 = .ok (.getfield 25, 3) := dk_180 0 25 (dk_at dksX3_begins_1 20 rfl rfl)
theorem dX3_begins_47 : decode cX3_begins 47 = .ok (.iload_n 2, 1) := dk_28 (dk_at dksX3_begins_1 23 rfl rfl)
theorem dX3_begins_48 : decode cX3_begins 48 = .ok (.iload_n 2, 1) := dk_28 (dk_at dksX3_begins_2 0 rfl rfl)
theorem dX3_begins_49 : decode cX3_begins 49 = .ok (.iastore, 1) := dk_79 (dk_at dksX3_begins_2 1 rfl rfl)
theorem dX3_begins_50 : decode cX3_begins 50 = .ok (.aload_n 0, 1) := dk_42 (dk_at dksX3_begins_2 2 rfl rfl)
theorem dX3_begins_51 : decode cX3_begins 51 = .ok (.getfield 18, 3) := dk_180 0 18 (dk_at dksX3_begins_2 3 rfl rfl)
theorem dX3_begins_54 : decode cX3_begins 54 = .ok (.iload_n 2, 1) := dk_28 (dk_at dksX3_begins_2 6 rfl rfl)
theorem dX3_begins_55 : decode cX3_begins 55 = .ok (.aload_n 1, 1) := dk_43 (dk_at dksX3_begins_2 7 rfl rfl)
theorem dX3_begins_56 : decode cX3_begins 56 = .ok (.getfield 58, 3) := dk_180 0 58 (dk_at dksX3_begins_2 8 rfl rfl)
theorem dX3_begins_59 : decode cX3_begins 59 = .ok (.iload_n 2, 1) := dk_28 (dk_at dksX3_begins_2 11 rfl rfl)
theorem dX3_begins_60 : decode cX3_begins 60 = .ok (.iaload, 1) := dk_46 (dk_at dksX3_begins_2 12 rfl rfl)
theorem dX3_begins_61 : decode cX3_begins 61 = .ok (.i2l, 1) := dk_133 (dk_at dksX3_begins_2 13 rfl rfl)
theorem dX3_begins_62 : decode cX3_begins 62 = .ok (.lastore, 1) := dk_80 (dk_at dksX3_begins_2 14 rfl rfl)
theorem dX3_begins_63 : decode cX3_begins 63 = .ok (.iinc 2 1, 3) := dk_132 2 1 (dk_at dksX3_begins_2 15 rfl rfl)
theorem dX3_begins_66 : decode cX3_begins 66 = .ok (.goto (-31), 3) := dk_167 255 225 (dk_at dksX3_begins_2 18 rfl rfl)
theorem dX3_begins_69 : decode cX3_begins 69 = .ok (.iconst 0, 1) := dk_3 (dk_at dksX3_begins_2 21 rfl rfl)
theorem dX3_begins_70 : decode cX3_begins 70 = .ok (.istore_n 2, 1) := dk_61 (dk_at dksX3_begins_2 22 rfl rfl)
theorem dX3_begins_71 : decode cX3_begins 71 = .ok (.iload_n 2, 1) := dk_28 (dk_at dksX3_begins_2 23 rfl rfl)
theorem dX3_begins_72 : decode cX3_begins 72 = .ok (.aload_n 1, 1) := dk_43 (dk_at dksX3_begins_3 0 rfl rfl)
theorem dX3_begins_73 : decode cX3_begins 73 = .ok (.getfield 61, 3) := dk_180 0 61 (dk_at dksX3_begins_3 1 rfl rfl)
theorem dX3_begins_76 : decode cX3_begins 76 = .ok (.if_icmp .ge 63, 3) := dk_162 0 63 (dk_at dksX3_begins_3 4 rfl rfl)
theorem dX3_begins_79 : decode cX3_begins 79 = .ok (.aload_n 0, 1) := dk_42 (dk_at dksX3_begins_3 7 rfl rfl)
theorem dX3_begins_80 : decode cX3_begins 80 = .ok (.bipush 10, 2) := dk_16 10 (dk_at dksX3_begins_3 8 rfl rfl)
theorem dX3_begins_82 : decode cX3_begins 82 = .ok (.iload_n 2, 1) := dk_28 (dk_at dksX3_begins_3 10 rfl rfl)
theorem dX3_begins_83 : decode cX3_begins 83 = .ok (.iadd, 1) := dk_96 (dk_at dksX3_begins_3 11 rfl rfl)
theorem dX3_begins_84 : decode cX3_begins 84 = .ok (.aload_n 1, 1) := dk_43 (dk_at dksX3_begins_3 12 rfl rfl)
theorem dX3_begins_85 : decode cX3_begins 85 = .ok (.getfield 64, 3) := dk_180 0 64 (dk_at dksX3_begins_3 13 rfl rfl)
theorem dX3_begins_88 : decode cX3_begins 88 = .ok (.iload_n 2, 1) := dk_28 (dk_at dksX3_begins_3 16 rfl rfl)
theorem dX3_begins_89 : decode cX3_begins 89 = .ok (.aaload, 1) := dk_50 (dk_at dksX3_begins_3 17 rfl rfl)
theorem dX3_begins_90 : decode cX3_begins 90 = .ok (.invokevirtual 68, 3) := dk_182 0 68 (dk_at dksX3_begins_3 18 rfl rfl)
theorem dX3_begins_93 : decode cX3_begins 93 = .ok (.invokevirtual 74, 3) := dk_182 0 74 (dk_at dksX3_begins_3 21 rfl rfl)
theorem dX3_begins_96 : decode cX3_begins 96 = .ok (.istore_n 3, 1) := dk_62 (dk_at dksX3_begins_4 0 rfl rfl)
theorem dX3_begins_97 : decode cX3_begins 97 = .ok (.iconst 0, 1) := dk_3 (dk_at dksX3_begins_4 1 rfl rfl)
theorem dX3_begins_98 : decode cX3_begins 98 = .ok (.istore 4, 2) := dk_54 4 (dk_at dksX3_begins_4 2 rfl rfl)
theorem dX3_begins_100 : decode cX3_begins 100 = .ok (.iload 4, 2) := dk_21 4 (dk_at dksX3_begins_4 4 rfl rfl)
theorem dX3_begins_102 : decode cX3_begins 102 = .ok (.aload_n 0, 1) := dk_42 (dk_at dksX3_begins_4 6 rfl rfl)
theorem dX3_begins_103 : decode cX3_begins 103 = .ok (.getfield 44, 3) := dk_180 0 44 (dk_at dksX3_begins_4 7 rfl rfl)
theorem dX3_begins_106 : decode cX3_begins 106 = .ok (.if_icmp .ge 27, 3) := dk_162 0 27 (dk_at dksX3_begins_4 10 rfl rfl)
theorem dX3_begins_109 : decode cX3_begins 109 = .ok (.aload_n 0, 1) := dk_42 (dk_at dksX3_begins_4 13 rfl rfl)
theorem dX3_begins_110 : decode cX3_begins 110 = .ok (.iload_n 3, 1) := dk_29 (dk_at dksX3_begins_4 14 rfl rfl)
theorem dX3_begins_111 : decode cX3_begins 111 = .ok (.iload 4, 2) := dk_21 4 (dk_at dksX3_begins_4 15 rfl rfl)
theorem dX3_begins_113 : decode cX3_begins 113 = .ok (.aload_n 1, 1) := dk_43 (dk_at dksX3_begins_4 17 rfl rfl)
theorem dX3_begins_114 : decode cX3_begins 114 = .ok (.getfield 64, 3) := dk_180 0 64 (dk_at dksX3_begins_4 18 rfl rfl)
theorem dX3_begins_117 : decode cX3_begins 117 = .ok (.iload_n 2, 1) := dk_28 (dk_at dksX3_begins_4 21 rfl rfl)
theorem dX3_begins_118 : decode cX3_begins 118 = .ok (.aaload, 1) := dk_50 (dk_at dksX3_begins_4 22 rfl rfl)
theorem dX3_begins_119 : decode cX3_begins 119 = .ok (.iload 4, 2) := dk_21 4 (dk_at dksX3_begins_5 0 rfl rfl)
theorem dX3_begins_121 : decode cX3_begins 121 = .ok (.invokevirtual 78, 3) := dk_182 0 78 (dk_at dksX3_begins_5 2 rfl rfl)
theorem dX3_begins_124 : decode cX3_begins 124 = .ok (.invokevirtual 82, 3) := dk_182 0 82 (dk_at dksX3_begins_5 5 rfl rfl)
theorem dX3_begins_127 : decode cX3_begins 127 = .ok (.iinc 4 1, 3) := dk_132 4 1 (dk_at dksX3_begins_5 8 rfl rfl)
theorem dX3_begins_130 : decode cX3_begins 130 = .ok (.goto (-30), 3) := dk_167 255 226 (dk_at dksX3_begins_5 11 rfl rfl)
theorem dX3_begins_133 : decode cX3_begins 133 = .ok (.iinc 2 1, 3) := dk_132 2 1 (dk_at dksX3_begins_5 14 rfl rfl)
theorem dX3_begins_136 : decode cX3_begins 136 = .ok (.goto (-65), 3) := dk_167 255 191 (dk_at dksX3_begins_5 17 rfl rfl)
theorem dX3_begins_139 : decode cX3_begins 139 = .ok (.return_, 1) := dk_177 (dk_at dksX3_begins_5 20 rfl rfl)
abbrev cX3_rowComes : ByteArray := prog_16_method_4_code
def yX3_rowComes : MethodName := ⟨RX3, "rowComes", "(IJ)I"⟩
def dkwX3_rowComes_1 : List UInt8 := [180, 0, 35, 4, 96, 181, 0, 35, 42, 180, 0, 35, 4, 100, 172]
abbrev dktX3_rowComes_1 : List UInt8 := dkwX3_rowComes_1 ++ []
def dkwX3_rowComes_0 : List UInt8 := [42, 180, 0, 21, 42, 180, 0, 35, 27, 79, 42, 180, 0, 15, 42, 180, 0, 35, 32, 80, 42, 89]
abbrev dktX3_rowComes_0 : List UInt8 := dkwX3_rowComes_0 ++ dktX3_rowComes_1
theorem dksX3_rowComes_0 : cX3_rowComes.data.toList.drop 0 = dktX3_rowComes_0 := by decide +kernel
theorem dksX3_rowComes_1 : cX3_rowComes.data.toList.drop 22 = dktX3_rowComes_1 := dk_seg dksX3_rowComes_0 22 rfl rfl
theorem dX3_rowComes_0 : decode cX3_rowComes 0 = .ok (.aload_n 0, 1) := dk_42 (dk_at dksX3_rowComes_0 0 rfl rfl)
theorem dX3_rowComes_1 : decode cX3_rowComes 1 = .ok (.getfield 21, 3) := dk_180 0 21 (dk_at dksX3_rowComes_0 1 rfl rfl)
theorem dX3_rowComes_4 : decode cX3_rowComes 4 = .ok (.aload_n 0, 1) := dk_42 (dk_at dksX3_rowComes_0 4 rfl rfl)
theorem dX3_rowComes_5 : decode cX3_rowComes 5 = .ok (.getfield 35, 3) := dk_180 0 35 (dk_at dksX3_rowComes_0 5 rfl rfl)
theorem dX3_rowComes_8 : decode cX3_rowComes 8 = .ok (.iload_n 1, 1) := dk_27 (dk_at dksX3_rowComes_0 8 rfl rfl)
theorem dX3_rowComes_9 : decode cX3_rowComes 9 = .ok (.iastore, 1) := dk_79 (dk_at dksX3_rowComes_0 9 rfl rfl)
theorem dX3_rowComes_10 : decode cX3_rowComes 10 = .ok (.aload_n 0, 1) := dk_42 (dk_at dksX3_rowComes_0 10 rfl rfl)
theorem dX3_rowComes_11 : decode cX3_rowComes 11 = .ok (.getfield 15, 3) := dk_180 0 15 (dk_at dksX3_rowComes_0 11 rfl rfl)
theorem dX3_rowComes_14 : decode cX3_rowComes 14 = .ok (.aload_n 0, 1) := dk_42 (dk_at dksX3_rowComes_0 14 rfl rfl)
theorem dX3_rowComes_15 : decode cX3_rowComes 15 = .ok (.getfield 35, 3) := dk_180 0 35 (dk_at dksX3_rowComes_0 15 rfl rfl)
theorem dX3_rowComes_18 : decode cX3_rowComes 18 = .ok (.lload_n 2, 1) := dk_32 (dk_at dksX3_rowComes_0 18 rfl rfl)
theorem dX3_rowComes_19 : decode cX3_rowComes 19 = .ok (.lastore, 1) := dk_80 (dk_at dksX3_rowComes_0 19 rfl rfl)
theorem dX3_rowComes_20 : decode cX3_rowComes 20 = .ok (.aload_n 0, 1) := dk_42 (dk_at dksX3_rowComes_0 20 rfl rfl)
theorem dX3_rowComes_21 : decode cX3_rowComes 21 = .ok (.dup, 1) := dk_89 (dk_at dksX3_rowComes_0 21 rfl rfl)
theorem dX3_rowComes_22 : decode cX3_rowComes 22 = .ok (.getfield 35, 3) := dk_180 0 35 (dk_at dksX3_rowComes_1 0 rfl rfl)
theorem dX3_rowComes_25 : decode cX3_rowComes 25 = .ok (.iconst 1, 1) := dk_4 (dk_at dksX3_rowComes_1 3 rfl rfl)
theorem dX3_rowComes_26 : decode cX3_rowComes 26 = .ok (.iadd, 1) := dk_96 (dk_at dksX3_rowComes_1 4 rfl rfl)
theorem dX3_rowComes_27 : decode cX3_rowComes 27 = .ok (.putfield 35, 3) := dk_181 0 35 (dk_at dksX3_rowComes_1 5 rfl rfl)
theorem dX3_rowComes_30 : decode cX3_rowComes 30 = .ok (.aload_n 0, 1) := dk_42 (dk_at dksX3_rowComes_1 8 rfl rfl)
theorem dX3_rowComes_31 : decode cX3_rowComes 31 = .ok (.getfield 35, 3) := dk_180 0 35 (dk_at dksX3_rowComes_1 9 rfl rfl)
theorem dX3_rowComes_34 : decode cX3_rowComes 34 = .ok (.iconst 1, 1) := dk_4 (dk_at dksX3_rowComes_1 12 rfl rfl)
theorem dX3_rowComes_35 : decode cX3_rowComes 35 = .ok (.isub, 1) := dk_100 (dk_at dksX3_rowComes_1 13 rfl rfl)
theorem dX3_rowComes_36 : decode cX3_rowComes 36 = .ok (.ireturn, 1) := dk_172 (dk_at dksX3_rowComes_1 14 rfl rfl)
abbrev cX3_puts : ByteArray := prog_16_method_3_code
def yX3_puts : MethodName := ⟨RX3, "puts", "(IIJ)V"⟩
def dkwX3_puts_0 : List UInt8 := [42, 180, 0, 9, 8, 27, 104, 28, 96, 33, 80, 177]
abbrev dktX3_puts_0 : List UInt8 := dkwX3_puts_0 ++ []
theorem dksX3_puts_0 : cX3_puts.data.toList.drop 0 = dktX3_puts_0 := by decide +kernel
theorem dX3_puts_0 : decode cX3_puts 0 = .ok (.aload_n 0, 1) := dk_42 (dk_at dksX3_puts_0 0 rfl rfl)
theorem dX3_puts_1 : decode cX3_puts 1 = .ok (.getfield 9, 3) := dk_180 0 9 (dk_at dksX3_puts_0 1 rfl rfl)
theorem dX3_puts_4 : decode cX3_puts 4 = .ok (.iconst 5, 1) := dk_8 (dk_at dksX3_puts_0 4 rfl rfl)
theorem dX3_puts_5 : decode cX3_puts 5 = .ok (.iload_n 1, 1) := dk_27 (dk_at dksX3_puts_0 5 rfl rfl)
theorem dX3_puts_6 : decode cX3_puts 6 = .ok (.imul, 1) := dk_104 (dk_at dksX3_puts_0 6 rfl rfl)
theorem dX3_puts_7 : decode cX3_puts 7 = .ok (.iload_n 2, 1) := dk_28 (dk_at dksX3_puts_0 7 rfl rfl)
theorem dX3_puts_8 : decode cX3_puts 8 = .ok (.iadd, 1) := dk_96 (dk_at dksX3_puts_0 8 rfl rfl)
theorem dX3_puts_9 : decode cX3_puts 9 = .ok (.lload_n 3, 1) := dk_33 (dk_at dksX3_puts_0 9 rfl rfl)
theorem dX3_puts_10 : decode cX3_puts 10 = .ok (.lastore, 1) := dk_80 (dk_at dksX3_puts_0 10 rfl rfl)
theorem dX3_puts_11 : decode cX3_puts 11 = .ok (.return_, 1) := dk_177 (dk_at dksX3_puts_0 11 rfl rfl)
abbrev cX3_repairs : ByteArray := prog_16_method_13_code
def yX3_repairs : MethodName := ⟨RX3, "repairs", "()V"⟩
def dkwX3_repairs_2 : List UInt8 := [191, 42, 27, 28, 182, 0, 125, 42, 182, 0, 117, 60, 167, 255, 201, 177]
abbrev dktX3_repairs_2 : List UInt8 := dkwX3_repairs_2 ++ []
def dkwX3_repairs_1 : List UInt8 := [89, 3, 183, 0, 110, 191, 42, 180, 0, 45, 16, 60, 160, 0, 13, 187, 0, 108, 89, 16, 250, 183, 0, 110]
abbrev dktX3_repairs_1 : List UInt8 := dkwX3_repairs_1 ++ dktX3_repairs_2
def dkwX3_repairs_0 : List UInt8 := [42, 182, 0, 117, 60, 27, 2, 159, 0, 56, 42, 27, 182, 0, 121, 61, 28, 2, 160, 0, 12, 187, 0, 108]
abbrev dktX3_repairs_0 : List UInt8 := dkwX3_repairs_0 ++ dktX3_repairs_1
theorem dksX3_repairs_0 : cX3_repairs.data.toList.drop 0 = dktX3_repairs_0 := by decide +kernel
theorem dksX3_repairs_1 : cX3_repairs.data.toList.drop 24 = dktX3_repairs_1 := dk_seg dksX3_repairs_0 24 rfl rfl
theorem dksX3_repairs_2 : cX3_repairs.data.toList.drop 48 = dktX3_repairs_2 := dk_seg dksX3_repairs_1 24 rfl rfl
theorem dX3_repairs_0 : decode cX3_repairs 0 = .ok (.aload_n 0, 1) := dk_42 (dk_at dksX3_repairs_0 0 rfl rfl)
theorem dX3_repairs_1 : decode cX3_repairs 1 = .ok (.invokevirtual 117, 3) := dk_182 0 117 (dk_at dksX3_repairs_0 1 rfl rfl)
theorem dX3_repairs_4 : decode cX3_repairs 4 = .ok (.istore_n 1, 1) := dk_60 (dk_at dksX3_repairs_0 4 rfl rfl)
theorem dX3_repairs_5 : decode cX3_repairs 5 = .ok (.iload_n 1, 1) := dk_27 (dk_at dksX3_repairs_0 5 rfl rfl)
theorem dX3_repairs_6 : decode cX3_repairs 6 = .ok (.iconst (-1), 1) := dk_2 (dk_at dksX3_repairs_0 6 rfl rfl)
theorem dX3_repairs_7 : decode cX3_repairs 7 = .ok (.if_icmp .eq 56, 3) := dk_159 0 56 (dk_at dksX3_repairs_0 7 rfl rfl)
theorem dX3_repairs_10 : decode cX3_repairs 10 = .ok (.aload_n 0, 1) := dk_42 (dk_at dksX3_repairs_0 10 rfl rfl)
theorem dX3_repairs_11 : decode cX3_repairs 11 = .ok (.iload_n 1, 1) := dk_27 (dk_at dksX3_repairs_0 11 rfl rfl)
theorem dX3_repairs_12 : decode cX3_repairs 12 = .ok (.invokevirtual 121, 3) := dk_182 0 121 (dk_at dksX3_repairs_0 12 rfl rfl)
theorem dX3_repairs_15 : decode cX3_repairs 15 = .ok (.istore_n 2, 1) := dk_61 (dk_at dksX3_repairs_0 15 rfl rfl)
theorem dX3_repairs_16 : decode cX3_repairs 16 = .ok (.iload_n 2, 1) := dk_28 (dk_at dksX3_repairs_0 16 rfl rfl)
theorem dX3_repairs_17 : decode cX3_repairs 17 = .ok (.iconst (-1), 1) := dk_2 (dk_at dksX3_repairs_0 17 rfl rfl)
theorem dX3_repairs_18 : decode cX3_repairs 18 = .ok (.if_icmp .ne 12, 3) := dk_160 0 12 (dk_at dksX3_repairs_0 18 rfl rfl)
theorem dX3_repairs_21 : decode cX3_repairs 21 = .ok (.new 108, 3) := dk_187 0 108 (dk_at dksX3_repairs_0 21 rfl rfl)
theorem dX3_repairs_24 : decode cX3_repairs 24 = .ok (.dup, 1) := dk_89 (dk_at dksX3_repairs_1 0 rfl rfl)
theorem dX3_repairs_25 : decode cX3_repairs 25 = .ok (.iconst 0, 1) := dk_3 (dk_at dksX3_repairs_1 1 rfl rfl)
theorem dX3_repairs_26 : decode cX3_repairs 26 = .ok (.invokespecial 110, 3) := dk_183 0 110 (dk_at dksX3_repairs_1 2 rfl rfl)
theorem dX3_repairs_29 : decode cX3_repairs 29 = .ok (.athrow, 1) := dk_191 (dk_at dksX3_repairs_1 5 rfl rfl)
theorem dX3_repairs_30 : decode cX3_repairs 30 = .ok (.aload_n 0, 1) := dk_42 (dk_at dksX3_repairs_1 6 rfl rfl)
theorem dX3_repairs_31 : decode cX3_repairs 31 = .ok (.getfield 45, 3) := dk_180 0 45 (dk_at dksX3_repairs_1 7 rfl rfl)
theorem dX3_repairs_34 : decode cX3_repairs 34 = .ok (.bipush 60, 2) := dk_16 60 (dk_at dksX3_repairs_1 10 rfl rfl)
theorem dX3_repairs_36 : decode cX3_repairs 36 = .ok (.if_icmp .ne 13, 3) := dk_160 0 13 (dk_at dksX3_repairs_1 12 rfl rfl)
theorem dX3_repairs_39 : decode cX3_repairs 39 = .ok (.new 108, 3) := dk_187 0 108 (dk_at dksX3_repairs_1 15 rfl rfl)
theorem dX3_repairs_42 : decode cX3_repairs 42 = .ok (.dup, 1) := dk_89 (dk_at dksX3_repairs_1 18 rfl rfl)
theorem dX3_repairs_43 : decode cX3_repairs 43 = .ok (.bipush (-6), 2) := dk_16 250 (dk_at dksX3_repairs_1 19 rfl rfl)
theorem dX3_repairs_45 : decode cX3_repairs 45 = .ok (.invokespecial 110, 3) := dk_183 0 110 (dk_at dksX3_repairs_1 21 rfl rfl)
theorem dX3_repairs_48 : decode cX3_repairs 48 = .ok (.athrow, 1) := dk_191 (dk_at dksX3_repairs_2 0 rfl rfl)
theorem dX3_repairs_49 : decode cX3_repairs 49 = .ok (.aload_n 0, 1) := dk_42 (dk_at dksX3_repairs_2 1 rfl rfl)
theorem dX3_repairs_50 : decode cX3_repairs 50 = .ok (.iload_n 1, 1) := dk_27 (dk_at dksX3_repairs_2 2 rfl rfl)
theorem dX3_repairs_51 : decode cX3_repairs 51 = .ok (.iload_n 2, 1) := dk_28 (dk_at dksX3_repairs_2 3 rfl rfl)
theorem dX3_repairs_52 : decode cX3_repairs 52 = .ok (.invokevirtual 125, 3) := dk_182 0 125 (dk_at dksX3_repairs_2 4 rfl rfl)
theorem dX3_repairs_55 : decode cX3_repairs 55 = .ok (.aload_n 0, 1) := dk_42 (dk_at dksX3_repairs_2 7 rfl rfl)
theorem dX3_repairs_56 : decode cX3_repairs 56 = .ok (.invokevirtual 117, 3) := dk_182 0 117 (dk_at dksX3_repairs_2 8 rfl rfl)
theorem dX3_repairs_59 : decode cX3_repairs 59 = .ok (.istore_n 1, 1) := dk_60 (dk_at dksX3_repairs_2 11 rfl rfl)
theorem dX3_repairs_60 : decode cX3_repairs 60 = .ok (.goto (-55), 3) := dk_167 255 201 (dk_at dksX3_repairs_2 12 rfl rfl)
theorem dX3_repairs_63 : decode cX3_repairs 63 = .ok (.return_, 1) := dk_177 (dk_at dksX3_repairs_2 15 rfl rfl)
abbrev cX3_lowRow : ByteArray := prog_16_method_10_code
def yX3_lowRow : MethodName := ⟨RX3, "lowRow", "()I"⟩
def dkwX3_lowRow_2 : List UInt8 := [132, 2, 1, 167, 255, 211, 27, 172]
abbrev dktX3_lowRow_2 : List UInt8 := dkwX3_lowRow_2 ++ []
def dkwX3_lowRow_1 : List UInt8 := [2, 159, 0, 19, 42, 180, 0, 15, 28, 47, 42, 180, 0, 15, 27, 47, 148, 156, 0, 5, 28, 60]
abbrev dktX3_lowRow_1 : List UInt8 := dkwX3_lowRow_1 ++ dktX3_lowRow_2
def dkwX3_lowRow_0 : List UInt8 := [2, 60, 3, 61, 28, 42, 180, 0, 35, 162, 0, 43, 42, 180, 0, 15, 28, 47, 9, 148, 156, 0, 26, 27]
abbrev dktX3_lowRow_0 : List UInt8 := dkwX3_lowRow_0 ++ dktX3_lowRow_1
theorem dksX3_lowRow_0 : cX3_lowRow.data.toList.drop 0 = dktX3_lowRow_0 := by decide +kernel
theorem dksX3_lowRow_1 : cX3_lowRow.data.toList.drop 24 = dktX3_lowRow_1 := dk_seg dksX3_lowRow_0 24 rfl rfl
theorem dksX3_lowRow_2 : cX3_lowRow.data.toList.drop 46 = dktX3_lowRow_2 := dk_seg dksX3_lowRow_1 22 rfl rfl
theorem dX3_lowRow_0 : decode cX3_lowRow 0 = .ok (.iconst (-1), 1) := dk_2 (dk_at dksX3_lowRow_0 0 rfl rfl)
theorem dX3_lowRow_1 : decode cX3_lowRow 1 = .ok (.istore_n 1, 1) := dk_60 (dk_at dksX3_lowRow_0 1 rfl rfl)
theorem dX3_lowRow_2 : decode cX3_lowRow 2 = .ok (.iconst 0, 1) := dk_3 (dk_at dksX3_lowRow_0 2 rfl rfl)
theorem dX3_lowRow_3 : decode cX3_lowRow 3 = .ok (.istore_n 2, 1) := dk_61 (dk_at dksX3_lowRow_0 3 rfl rfl)
theorem dX3_lowRow_4 : decode cX3_lowRow 4 = .ok (.iload_n 2, 1) := dk_28 (dk_at dksX3_lowRow_0 4 rfl rfl)
theorem dX3_lowRow_5 : decode cX3_lowRow 5 = .ok (.aload_n 0, 1) := dk_42 (dk_at dksX3_lowRow_0 5 rfl rfl)
theorem dX3_lowRow_6 : decode cX3_lowRow 6 = .ok (.getfield 35, 3) := dk_180 0 35 (dk_at dksX3_lowRow_0 6 rfl rfl)
theorem dX3_lowRow_9 : decode cX3_lowRow 9 = .ok (.if_icmp .ge 43, 3) := dk_162 0 43 (dk_at dksX3_lowRow_0 9 rfl rfl)
theorem dX3_lowRow_12 : decode cX3_lowRow 12 = .ok (.aload_n 0, 1) := dk_42 (dk_at dksX3_lowRow_0 12 rfl rfl)
theorem dX3_lowRow_13 : decode cX3_lowRow 13 = .ok (.getfield 15, 3) := dk_180 0 15 (dk_at dksX3_lowRow_0 13 rfl rfl)
theorem dX3_lowRow_16 : decode cX3_lowRow 16 = .ok (.iload_n 2, 1) := dk_28 (dk_at dksX3_lowRow_0 16 rfl rfl)
theorem dX3_lowRow_17 : decode cX3_lowRow 17 = .ok (.laload, 1) := dk_47 (dk_at dksX3_lowRow_0 17 rfl rfl)
theorem dX3_lowRow_18 : decode cX3_lowRow 18 = .ok (.lconst 0, 1) := dk_9 (dk_at dksX3_lowRow_0 18 rfl rfl)
theorem dX3_lowRow_19 : decode cX3_lowRow 19 = .ok (.lcmp, 1) := dk_148 (dk_at dksX3_lowRow_0 19 rfl rfl)
theorem dX3_lowRow_20 : decode cX3_lowRow 20 = .ok (.ifCond .ge 26, 3) := dk_156 0 26 (dk_at dksX3_lowRow_0 20 rfl rfl)
theorem dX3_lowRow_23 : decode cX3_lowRow 23 = .ok (.iload_n 1, 1) := dk_27 (dk_at dksX3_lowRow_0 23 rfl rfl)
theorem dX3_lowRow_24 : decode cX3_lowRow 24 = .ok (.iconst (-1), 1) := dk_2 (dk_at dksX3_lowRow_1 0 rfl rfl)
theorem dX3_lowRow_25 : decode cX3_lowRow 25 = .ok (.if_icmp .eq 19, 3) := dk_159 0 19 (dk_at dksX3_lowRow_1 1 rfl rfl)
theorem dX3_lowRow_28 : decode cX3_lowRow 28 = .ok (.aload_n 0, 1) := dk_42 (dk_at dksX3_lowRow_1 4 rfl rfl)
theorem dX3_lowRow_29 : decode cX3_lowRow 29 = .ok (.getfield 15, 3) := dk_180 0 15 (dk_at dksX3_lowRow_1 5 rfl rfl)
theorem dX3_lowRow_32 : decode cX3_lowRow 32 = .ok (.iload_n 2, 1) := dk_28 (dk_at dksX3_lowRow_1 8 rfl rfl)
theorem dX3_lowRow_33 : decode cX3_lowRow 33 = .ok (.laload, 1) := dk_47 (dk_at dksX3_lowRow_1 9 rfl rfl)
theorem dX3_lowRow_34 : decode cX3_lowRow 34 = .ok (.aload_n 0, 1) := dk_42 (dk_at dksX3_lowRow_1 10 rfl rfl)
theorem dX3_lowRow_35 : decode cX3_lowRow 35 = .ok (.getfield 15, 3) := dk_180 0 15 (dk_at dksX3_lowRow_1 11 rfl rfl)
theorem dX3_lowRow_38 : decode cX3_lowRow 38 = .ok (.iload_n 1, 1) := dk_27 (dk_at dksX3_lowRow_1 14 rfl rfl)
theorem dX3_lowRow_39 : decode cX3_lowRow 39 = .ok (.laload, 1) := dk_47 (dk_at dksX3_lowRow_1 15 rfl rfl)
theorem dX3_lowRow_40 : decode cX3_lowRow 40 = .ok (.lcmp, 1) := dk_148 (dk_at dksX3_lowRow_1 16 rfl rfl)
theorem dX3_lowRow_41 : decode cX3_lowRow 41 = .ok (.ifCond .ge 5, 3) := dk_156 0 5 (dk_at dksX3_lowRow_1 17 rfl rfl)
theorem dX3_lowRow_44 : decode cX3_lowRow 44 = .ok (.iload_n 2, 1) := dk_28 (dk_at dksX3_lowRow_1 20 rfl rfl)
theorem dX3_lowRow_45 : decode cX3_lowRow 45 = .ok (.istore_n 1, 1) := dk_60 (dk_at dksX3_lowRow_1 21 rfl rfl)
theorem dX3_lowRow_46 : decode cX3_lowRow 46 = .ok (.iinc 2 1, 3) := dk_132 2 1 (dk_at dksX3_lowRow_2 0 rfl rfl)
theorem dX3_lowRow_49 : decode cX3_lowRow 49 = .ok (.goto (-45), 3) := dk_167 255 211 (dk_at dksX3_lowRow_2 3 rfl rfl)
theorem dX3_lowRow_52 : decode cX3_lowRow 52 = .ok (.iload_n 1, 1) := dk_27 (dk_at dksX3_lowRow_2 6 rfl rfl)
theorem dX3_lowRow_53 : decode cX3_lowRow 53 = .ok (.ireturn, 1) := dk_172 (dk_at dksX3_lowRow_2 7 rfl rfl)
abbrev cX3_columnFor : ByteArray := prog_16_method_12_code
def yX3_columnFor : MethodName := ⟨RX3, "columnFor", "(I)I"⟩
def dkwX3_columnFor_1 : List UInt8 := [2, 159, 0, 13, 42, 27, 29, 28, 182, 0, 113, 153, 0, 5, 29, 61, 132, 3, 1, 167, 255, 217, 28, 172]
abbrev dktX3_columnFor_1 : List UInt8 := dkwX3_columnFor_1 ++ []
def dkwX3_columnFor_0 : List UInt8 := [2, 61, 3, 62, 29, 42, 180, 0, 44, 162, 0, 37, 42, 27, 29, 182, 0, 88, 9, 148, 156, 0, 20, 28]
abbrev dktX3_columnFor_0 : List UInt8 := dkwX3_columnFor_0 ++ dktX3_columnFor_1
theorem dksX3_columnFor_0 : cX3_columnFor.data.toList.drop 0 = dktX3_columnFor_0 := by decide +kernel
theorem dksX3_columnFor_1 : cX3_columnFor.data.toList.drop 24 = dktX3_columnFor_1 := dk_seg dksX3_columnFor_0 24 rfl rfl
theorem dX3_columnFor_0 : decode cX3_columnFor 0 = .ok (.iconst (-1), 1) := dk_2 (dk_at dksX3_columnFor_0 0 rfl rfl)
theorem dX3_columnFor_1 : decode cX3_columnFor 1 = .ok (.istore_n 2, 1) := dk_61 (dk_at dksX3_columnFor_0 1 rfl rfl)
theorem dX3_columnFor_2 : decode cX3_columnFor 2 = .ok (.iconst 0, 1) := dk_3 (dk_at dksX3_columnFor_0 2 rfl rfl)
theorem dX3_columnFor_3 : decode cX3_columnFor 3 = .ok (.istore_n 3, 1) := dk_62 (dk_at dksX3_columnFor_0 3 rfl rfl)
theorem dX3_columnFor_4 : decode cX3_columnFor 4 = .ok (.iload_n 3, 1) := dk_29 (dk_at dksX3_columnFor_0 4 rfl rfl)
theorem dX3_columnFor_5 : decode cX3_columnFor 5 = .ok (.aload_n 0, 1) := dk_42 (dk_at dksX3_columnFor_0 5 rfl rfl)
theorem dX3_columnFor_6 : decode cX3_columnFor 6 = .ok (.getfield 44, 3) := dk_180 0 44 (dk_at dksX3_columnFor_0 6 rfl rfl)
theorem dX3_columnFor_9 : decode cX3_columnFor 9 = .ok (.if_icmp .ge 37, 3) := dk_162 0 37 (dk_at dksX3_columnFor_0 9 rfl rfl)
theorem dX3_columnFor_12 : decode cX3_columnFor 12 = .ok (.aload_n 0, 1) := dk_42 (dk_at dksX3_columnFor_0 12 rfl rfl)
theorem dX3_columnFor_13 : decode cX3_columnFor 13 = .ok (.iload_n 1, 1) := dk_27 (dk_at dksX3_columnFor_0 13 rfl rfl)
theorem dX3_columnFor_14 : decode cX3_columnFor 14 = .ok (.iload_n 3, 1) := dk_29 (dk_at dksX3_columnFor_0 14 rfl rfl)
theorem dX3_columnFor_15 : decode cX3_columnFor 15 = .ok (.invokevirtual 88, 3) := dk_182 0 88 (dk_at dksX3_columnFor_0 15 rfl rfl)
theorem dX3_columnFor_18 : decode cX3_columnFor 18 = .ok (.lconst 0, 1) := dk_9 (dk_at dksX3_columnFor_0 18 rfl rfl)
theorem dX3_columnFor_19 : decode cX3_columnFor 19 = .ok (.lcmp, 1) := dk_148 (dk_at dksX3_columnFor_0 19 rfl rfl)
theorem dX3_columnFor_20 : decode cX3_columnFor 20 = .ok (.ifCond .ge 20, 3) := dk_156 0 20 (dk_at dksX3_columnFor_0 20 rfl rfl)
theorem dX3_columnFor_23 : decode cX3_columnFor 23 = .ok (.iload_n 2, 1) := dk_28 (dk_at dksX3_columnFor_0 23 rfl rfl)
theorem dX3_columnFor_24 : decode cX3_columnFor 24 = .ok (.iconst (-1), 1) := dk_2 (dk_at dksX3_columnFor_1 0 rfl rfl)
theorem dX3_columnFor_25 : decode cX3_columnFor 25 = .ok (.if_icmp .eq 13, 3) := dk_159 0 13 (dk_at dksX3_columnFor_1 1 rfl rfl)
theorem dX3_columnFor_28 : decode cX3_columnFor 28 = .ok (.aload_n 0, 1) := dk_42 (dk_at dksX3_columnFor_1 4 rfl rfl)
theorem dX3_columnFor_29 : decode cX3_columnFor 29 = .ok (.iload_n 1, 1) := dk_27 (dk_at dksX3_columnFor_1 5 rfl rfl)
theorem dX3_columnFor_30 : decode cX3_columnFor 30 = .ok (.iload_n 3, 1) := dk_29 (dk_at dksX3_columnFor_1 6 rfl rfl)
theorem dX3_columnFor_31 : decode cX3_columnFor 31 = .ok (.iload_n 2, 1) := dk_28 (dk_at dksX3_columnFor_1 7 rfl rfl)
theorem dX3_columnFor_32 : decode cX3_columnFor 32 = .ok (.invokevirtual 113, 3) := dk_182 0 113 (dk_at dksX3_columnFor_1 8 rfl rfl)
theorem dX3_columnFor_35 : decode cX3_columnFor 35 = .ok (.ifCond .eq 5, 3) := dk_153 0 5 (dk_at dksX3_columnFor_1 11 rfl rfl)
theorem dX3_columnFor_38 : decode cX3_columnFor 38 = .ok (.iload_n 3, 1) := dk_29 (dk_at dksX3_columnFor_1 14 rfl rfl)
theorem dX3_columnFor_39 : decode cX3_columnFor 39 = .ok (.istore_n 2, 1) := dk_61 (dk_at dksX3_columnFor_1 15 rfl rfl)
theorem dX3_columnFor_40 : decode cX3_columnFor 40 = .ok (.iinc 3 1, 3) := dk_132 3 1 (dk_at dksX3_columnFor_1 16 rfl rfl)
theorem dX3_columnFor_43 : decode cX3_columnFor 43 = .ok (.goto (-39), 3) := dk_167 255 217 (dk_at dksX3_columnFor_1 19 rfl rfl)
theorem dX3_columnFor_46 : decode cX3_columnFor 46 = .ok (.iload_n 2, 1) := dk_28 (dk_at dksX3_columnFor_1 22 rfl rfl)
theorem dX3_columnFor_47 : decode cX3_columnFor 47 = .ok (.ireturn, 1) := dk_172 (dk_at dksX3_columnFor_1 23 rfl rfl)
abbrev cX3_entry : ByteArray := prog_16_method_2_code
def yX3_entry : MethodName := ⟨RX3, "entry", "(II)J"⟩
def dkwX3_entry_0 : List UInt8 := [42, 180, 0, 9, 8, 27, 104, 28, 96, 47, 173]
abbrev dktX3_entry_0 : List UInt8 := dkwX3_entry_0 ++ []
theorem dksX3_entry_0 : cX3_entry.data.toList.drop 0 = dktX3_entry_0 := by decide +kernel
theorem dX3_entry_0 : decode cX3_entry 0 = .ok (.aload_n 0, 1) := dk_42 (dk_at dksX3_entry_0 0 rfl rfl)
theorem dX3_entry_1 : decode cX3_entry 1 = .ok (.getfield 9, 3) := dk_180 0 9 (dk_at dksX3_entry_0 1 rfl rfl)
theorem dX3_entry_4 : decode cX3_entry 4 = .ok (.iconst 5, 1) := dk_8 (dk_at dksX3_entry_0 4 rfl rfl)
theorem dX3_entry_5 : decode cX3_entry 5 = .ok (.iload_n 1, 1) := dk_27 (dk_at dksX3_entry_0 5 rfl rfl)
theorem dX3_entry_6 : decode cX3_entry 6 = .ok (.imul, 1) := dk_104 (dk_at dksX3_entry_0 6 rfl rfl)
theorem dX3_entry_7 : decode cX3_entry 7 = .ok (.iload_n 2, 1) := dk_28 (dk_at dksX3_entry_0 7 rfl rfl)
theorem dX3_entry_8 : decode cX3_entry 8 = .ok (.iadd, 1) := dk_96 (dk_at dksX3_entry_0 8 rfl rfl)
theorem dX3_entry_9 : decode cX3_entry 9 = .ok (.laload, 1) := dk_47 (dk_at dksX3_entry_0 9 rfl rfl)
theorem dX3_entry_10 : decode cX3_entry 10 = .ok (.lreturn, 1) := dk_173 (dk_at dksX3_entry_0 10 rfl rfl)
abbrev cX3_isBetter : ByteArray := prog_16_method_11_code
def yX3_isBetter : MethodName := ⟨RX3, "isBetter", "(III)Z"⟩
def dkwX3_isBetter_2 : List UInt8 := [42, 180, 0, 25, 28, 46, 42, 180, 0, 25, 29, 46, 162, 0, 7, 4, 167, 0, 4, 3, 172]
abbrev dktX3_isBetter_2 : List UInt8 := dkwX3_isBetter_2 ++ []
def dkwX3_isBetter_1 : List UInt8 := [28, 182, 0, 88, 117, 105, 55, 6, 22, 4, 22, 6, 148, 155, 0, 26, 22, 4, 22, 6, 148, 154, 0, 22]
abbrev dktX3_isBetter_1 : List UInt8 := dkwX3_isBetter_1 ++ dktX3_isBetter_2
def dkwX3_isBetter_0 : List UInt8 := [42, 180, 0, 18, 28, 47, 42, 27, 29, 182, 0, 88, 117, 105, 55, 4, 42, 180, 0, 18, 29, 47, 42, 27]
abbrev dktX3_isBetter_0 : List UInt8 := dkwX3_isBetter_0 ++ dktX3_isBetter_1
theorem dksX3_isBetter_0 : cX3_isBetter.data.toList.drop 0 = dktX3_isBetter_0 := by decide +kernel
theorem dksX3_isBetter_1 : cX3_isBetter.data.toList.drop 24 = dktX3_isBetter_1 := dk_seg dksX3_isBetter_0 24 rfl rfl
theorem dksX3_isBetter_2 : cX3_isBetter.data.toList.drop 48 = dktX3_isBetter_2 := dk_seg dksX3_isBetter_1 24 rfl rfl
theorem dX3_isBetter_0 : decode cX3_isBetter 0 = .ok (.aload_n 0, 1) := dk_42 (dk_at dksX3_isBetter_0 0 rfl rfl)
theorem dX3_isBetter_1 : decode cX3_isBetter 1 = .ok (.getfield 18, 3) := dk_180 0 18 (dk_at dksX3_isBetter_0 1 rfl rfl)
theorem dX3_isBetter_4 : decode cX3_isBetter 4 = .ok (.iload_n 2, 1) := dk_28 (dk_at dksX3_isBetter_0 4 rfl rfl)
theorem dX3_isBetter_5 : decode cX3_isBetter 5 = .ok (.laload, 1) := dk_47 (dk_at dksX3_isBetter_0 5 rfl rfl)
theorem dX3_isBetter_6 : decode cX3_isBetter 6 = .ok (.aload_n 0, 1) := dk_42 (dk_at dksX3_isBetter_0 6 rfl rfl)
theorem dX3_isBetter_7 : decode cX3_isBetter 7 = .ok (.iload_n 1, 1) := dk_27 (dk_at dksX3_isBetter_0 7 rfl rfl)
theorem dX3_isBetter_8 : decode cX3_isBetter 8 = .ok (.iload_n 3, 1) := dk_29 (dk_at dksX3_isBetter_0 8 rfl rfl)
theorem dX3_isBetter_9 : decode cX3_isBetter 9 = .ok (.invokevirtual 88, 3) := dk_182 0 88 (dk_at dksX3_isBetter_0 9 rfl rfl)
theorem dX3_isBetter_12 : decode cX3_isBetter 12 = .ok (.lneg, 1) := dk_117 (dk_at dksX3_isBetter_0 12 rfl rfl)
theorem dX3_isBetter_13 : decode cX3_isBetter 13 = .ok (.lmul, 1) := dk_105 (dk_at dksX3_isBetter_0 13 rfl rfl)
theorem dX3_isBetter_14 : decode cX3_isBetter 14 = .ok (.lstore 4, 2) := dk_55 4 (dk_at dksX3_isBetter_0 14 rfl rfl)
theorem dX3_isBetter_16 : decode cX3_isBetter 16 = .ok (.aload_n 0, 1) := dk_42 (dk_at dksX3_isBetter_0 16 rfl rfl)
theorem dX3_isBetter_17 : decode cX3_isBetter 17 = .ok (.getfield 18, 3) := dk_180 0 18 (dk_at dksX3_isBetter_0 17 rfl rfl)
theorem dX3_isBetter_20 : decode cX3_isBetter 20 = .ok (.iload_n 3, 1) := dk_29 (dk_at dksX3_isBetter_0 20 rfl rfl)
theorem dX3_isBetter_21 : decode cX3_isBetter 21 = .ok (.laload, 1) := dk_47 (dk_at dksX3_isBetter_0 21 rfl rfl)
theorem dX3_isBetter_22 : decode cX3_isBetter 22 = .ok (.aload_n 0, 1) := dk_42 (dk_at dksX3_isBetter_0 22 rfl rfl)
theorem dX3_isBetter_23 : decode cX3_isBetter 23 = .ok (.iload_n 1, 1) := dk_27 (dk_at dksX3_isBetter_0 23 rfl rfl)
theorem dX3_isBetter_24 : decode cX3_isBetter 24 = .ok (.iload_n 2, 1) := dk_28 (dk_at dksX3_isBetter_1 0 rfl rfl)
theorem dX3_isBetter_25 : decode cX3_isBetter 25 = .ok (.invokevirtual 88, 3) := dk_182 0 88 (dk_at dksX3_isBetter_1 1 rfl rfl)
theorem dX3_isBetter_28 : decode cX3_isBetter 28 = .ok (.lneg, 1) := dk_117 (dk_at dksX3_isBetter_1 4 rfl rfl)
theorem dX3_isBetter_29 : decode cX3_isBetter 29 = .ok (.lmul, 1) := dk_105 (dk_at dksX3_isBetter_1 5 rfl rfl)
theorem dX3_isBetter_30 : decode cX3_isBetter 30 = .ok (.lstore 6, 2) := dk_55 6 (dk_at dksX3_isBetter_1 6 rfl rfl)
theorem dX3_isBetter_32 : decode cX3_isBetter 32 = .ok (.lload 4, 2) := dk_22 4 (dk_at dksX3_isBetter_1 8 rfl rfl)
theorem dX3_isBetter_34 : decode cX3_isBetter 34 = .ok (.lload 6, 2) := dk_22 6 (dk_at dksX3_isBetter_1 10 rfl rfl)
theorem dX3_isBetter_36 : decode cX3_isBetter 36 = .ok (.lcmp, 1) := dk_148 (dk_at dksX3_isBetter_1 12 rfl rfl)
theorem dX3_isBetter_37 : decode cX3_isBetter 37 = .ok (.ifCond .lt 26, 3) := dk_155 0 26 (dk_at dksX3_isBetter_1 13 rfl rfl)
theorem dX3_isBetter_40 : decode cX3_isBetter 40 = .ok (.lload 4, 2) := dk_22 4 (dk_at dksX3_isBetter_1 16 rfl rfl)
theorem dX3_isBetter_42 : decode cX3_isBetter 42 = .ok (.lload 6, 2) := dk_22 6 (dk_at dksX3_isBetter_1 18 rfl rfl)
theorem dX3_isBetter_44 : decode cX3_isBetter 44 = .ok (.lcmp, 1) := dk_148 (dk_at dksX3_isBetter_1 20 rfl rfl)
theorem dX3_isBetter_45 : decode cX3_isBetter 45 = .ok (.ifCond .ne 22, 3) := dk_154 0 22 (dk_at dksX3_isBetter_1 21 rfl rfl)
theorem dX3_isBetter_48 : decode cX3_isBetter 48 = .ok (.aload_n 0, 1) := dk_42 (dk_at dksX3_isBetter_2 0 rfl rfl)
theorem dX3_isBetter_49 : decode cX3_isBetter 49 = .ok (.getfield 25, 3) := dk_180 0 25 (dk_at dksX3_isBetter_2 1 rfl rfl)
theorem dX3_isBetter_52 : decode cX3_isBetter 52 = .ok (.iload_n 2, 1) := dk_28 (dk_at dksX3_isBetter_2 4 rfl rfl)
theorem dX3_isBetter_53 : decode cX3_isBetter 53 = .ok (.iaload, 1) := dk_46 (dk_at dksX3_isBetter_2 5 rfl rfl)
theorem dX3_isBetter_54 : decode cX3_isBetter 54 = .ok (.aload_n 0, 1) := dk_42 (dk_at dksX3_isBetter_2 6 rfl rfl)
theorem dX3_isBetter_55 : decode cX3_isBetter 55 = .ok (.getfield 25, 3) := dk_180 0 25 (dk_at dksX3_isBetter_2 7 rfl rfl)
theorem dX3_isBetter_58 : decode cX3_isBetter 58 = .ok (.iload_n 3, 1) := dk_29 (dk_at dksX3_isBetter_2 10 rfl rfl)
theorem dX3_isBetter_59 : decode cX3_isBetter 59 = .ok (.iaload, 1) := dk_46 (dk_at dksX3_isBetter_2 11 rfl rfl)
theorem dX3_isBetter_60 : decode cX3_isBetter 60 = .ok (.if_icmp .ge 7, 3) := dk_162 0 7 (dk_at dksX3_isBetter_2 12 rfl rfl)
theorem dX3_isBetter_63 : decode cX3_isBetter 63 = .ok (.iconst 1, 1) := dk_4 (dk_at dksX3_isBetter_2 15 rfl rfl)
theorem dX3_isBetter_64 : decode cX3_isBetter 64 = .ok (.goto 4, 3) := dk_167 0 4 (dk_at dksX3_isBetter_2 16 rfl rfl)
theorem dX3_isBetter_67 : decode cX3_isBetter 67 = .ok (.iconst 0, 1) := dk_3 (dk_at dksX3_isBetter_2 19 rfl rfl)
theorem dX3_isBetter_68 : decode cX3_isBetter 68 = .ok (.ireturn, 1) := dk_172 (dk_at dksX3_isBetter_2 20 rfl rfl)
abbrev cX3_pivot : ByteArray := prog_16_method_9_code
def yX3_pivot : MethodName := ⟨RX3, "pivot", "(II)V"⟩
def dkwX3_pivot_14 : List UInt8 := [177]
abbrev dktX3_pivot_14 : List UInt8 := dkwX3_pivot_14 ++ []
def dkwX3_pivot_13 : List UInt8 := [180, 0, 25, 28, 46, 79, 42, 180, 0, 25, 28, 21, 7, 79, 42, 89, 180, 0, 45, 4, 96, 181, 0, 45]
abbrev dktX3_pivot_13 : List UInt8 := dkwX3_pivot_13 ++ dktX3_pivot_14
def dkwX3_pivot_12 : List UInt8 := [27, 47, 117, 80, 42, 33, 181, 0, 51, 42, 180, 0, 21, 27, 46, 54, 7, 42, 180, 0, 21, 27, 42]
abbrev dktX3_pivot_12 : List UInt8 := dkwX3_pivot_12 ++ dktX3_pivot_13
def dkwX3_pivot_11 : List UInt8 := [21, 7, 182, 0, 88, 117, 182, 0, 82, 132, 7, 1, 167, 255, 215, 42, 180, 0, 15, 27, 42, 180, 0, 15]
abbrev dktX3_pivot_11 : List UInt8 := dkwX3_pivot_11 ++ dktX3_pivot_12
def dkwX3_pivot_10 : List UInt8 := [162, 0, 38, 42, 27, 21, 7, 21, 7, 28, 160, 0, 11, 42, 180, 0, 51, 117, 167, 0, 11, 42, 27]
abbrev dktX3_pivot_10 : List UInt8 := dkwX3_pivot_10 ++ dktX3_pivot_11
def dkwX3_pivot_9 : List UInt8 := [22, 5, 117, 42, 180, 0, 15, 27, 47, 182, 0, 92, 181, 0, 55, 3, 54, 7, 21, 7, 42, 180, 0, 44]
abbrev dktX3_pivot_9 : List UInt8 := dkwX3_pivot_9 ++ dktX3_pivot_10
def dkwX3_pivot_8 : List UInt8 := [27, 21, 7, 182, 0, 88, 182, 0, 92, 80, 132, 7, 1, 167, 255, 210, 42, 42, 33, 42, 180, 0, 55]
abbrev dktX3_pivot_8 : List UInt8 := dkwX3_pivot_8 ++ dktX3_pivot_9
def dkwX3_pivot_7 : List UInt8 := [21, 7, 28, 159, 0, 31, 42, 180, 0, 18, 21, 7, 42, 33, 42, 180, 0, 18, 21, 7, 47, 22, 5, 42]
abbrev dktX3_pivot_7 : List UInt8 := dkwX3_pivot_7 ++ dktX3_pivot_8
def dkwX3_pivot_6 : List UInt8 := [167, 255, 145, 42, 180, 0, 18, 28, 47, 55, 5, 3, 54, 7, 21, 7, 42, 180, 0, 44, 162, 0, 43]
abbrev dktX3_pivot_6 : List UInt8 := dkwX3_pivot_6 ++ dktX3_pivot_7
def dkwX3_pivot_5 : List UInt8 := [42, 33, 42, 180, 0, 15, 21, 5, 47, 22, 6, 42, 180, 0, 15, 27, 47, 182, 0, 92, 80, 132, 5, 1]
abbrev dktX3_pivot_5 : List UInt8 := dkwX3_pivot_5 ++ dktX3_pivot_6
def dkwX3_pivot_4 : List UInt8 := [27, 21, 8, 182, 0, 88, 182, 0, 92, 182, 0, 82, 132, 8, 1, 167, 255, 208, 42, 180, 0, 15, 21, 5]
abbrev dktX3_pivot_4 : List UInt8 := dkwX3_pivot_4 ++ dktX3_pivot_5
def dkwX3_pivot_3 : List UInt8 := [21, 8, 28, 159, 0, 33, 42, 21, 5, 21, 8, 42, 33, 42, 21, 5, 21, 8, 182, 0, 88, 22, 6, 42]
abbrev dktX3_pivot_3 : List UInt8 := dkwX3_pivot_3 ++ dktX3_pivot_4
def dkwX3_pivot_2 : List UInt8 := [55, 6, 21, 5, 27, 160, 0, 6, 167, 0, 84, 3, 54, 8, 21, 8, 42, 180, 0, 44, 162, 0, 45]
abbrev dktX3_pivot_2 : List UInt8 := dkwX3_pivot_2 ++ dktX3_pivot_3
def dkwX3_pivot_1 : List UInt8 := [182, 0, 88, 117, 66, 3, 54, 5, 21, 5, 42, 180, 0, 35, 162, 0, 108, 42, 21, 5, 28, 182, 0, 88]
abbrev dktX3_pivot_1 : List UInt8 := dkwX3_pivot_1 ++ dktX3_pivot_2
def dkwX3_pivot_0 : List UInt8 := [42, 27, 28, 182, 0, 104, 154, 0, 13, 187, 0, 108, 89, 16, 250, 183, 0, 110, 191, 42, 27, 28]
abbrev dktX3_pivot_0 : List UInt8 := dkwX3_pivot_0 ++ dktX3_pivot_1
theorem dksX3_pivot_0 : cX3_pivot.data.toList.drop 0 = dktX3_pivot_0 := by decide +kernel
theorem dksX3_pivot_1 : cX3_pivot.data.toList.drop 22 = dktX3_pivot_1 := dk_seg dksX3_pivot_0 22 rfl rfl
theorem dksX3_pivot_2 : cX3_pivot.data.toList.drop 46 = dktX3_pivot_2 := dk_seg dksX3_pivot_1 24 rfl rfl
theorem dksX3_pivot_3 : cX3_pivot.data.toList.drop 69 = dktX3_pivot_3 := dk_seg dksX3_pivot_2 23 rfl rfl
theorem dksX3_pivot_4 : cX3_pivot.data.toList.drop 93 = dktX3_pivot_4 := dk_seg dksX3_pivot_3 24 rfl rfl
theorem dksX3_pivot_5 : cX3_pivot.data.toList.drop 117 = dktX3_pivot_5 := dk_seg dksX3_pivot_4 24 rfl rfl
theorem dksX3_pivot_6 : cX3_pivot.data.toList.drop 141 = dktX3_pivot_6 := dk_seg dksX3_pivot_5 24 rfl rfl
theorem dksX3_pivot_7 : cX3_pivot.data.toList.drop 164 = dktX3_pivot_7 := dk_seg dksX3_pivot_6 23 rfl rfl
theorem dksX3_pivot_8 : cX3_pivot.data.toList.drop 188 = dktX3_pivot_8 := dk_seg dksX3_pivot_7 24 rfl rfl
theorem dksX3_pivot_9 : cX3_pivot.data.toList.drop 211 = dktX3_pivot_9 := dk_seg dksX3_pivot_8 23 rfl rfl
theorem dksX3_pivot_10 : cX3_pivot.data.toList.drop 235 = dktX3_pivot_10 := dk_seg dksX3_pivot_9 24 rfl rfl
theorem dksX3_pivot_11 : cX3_pivot.data.toList.drop 258 = dktX3_pivot_11 := dk_seg dksX3_pivot_10 23 rfl rfl
theorem dksX3_pivot_12 : cX3_pivot.data.toList.drop 282 = dktX3_pivot_12 := dk_seg dksX3_pivot_11 24 rfl rfl
theorem dksX3_pivot_13 : cX3_pivot.data.toList.drop 305 = dktX3_pivot_13 := dk_seg dksX3_pivot_12 23 rfl rfl
theorem dksX3_pivot_14 : cX3_pivot.data.toList.drop 329 = dktX3_pivot_14 := dk_seg dksX3_pivot_13 24 rfl rfl
theorem dX3_pivot_0 : decode cX3_pivot 0 = .ok (.aload_n 0, 1) := dk_42 (dk_at dksX3_pivot_0 0 rfl rfl)
theorem dX3_pivot_1 : decode cX3_pivot 1 = .ok (.iload_n 1, 1) := dk_27 (dk_at dksX3_pivot_0 1 rfl rfl)
theorem dX3_pivot_2 : decode cX3_pivot 2 = .ok (.iload_n 2, 1) := dk_28 (dk_at dksX3_pivot_0 2 rfl rfl)
theorem dX3_pivot_3 : decode cX3_pivot 3 = .ok (.invokevirtual 104, 3) := dk_182 0 104 (dk_at dksX3_pivot_0 3 rfl rfl)
theorem dX3_pivot_6 : decode cX3_pivot 6 = .ok (.ifCond .ne 13, 3) := dk_154 0 13 (dk_at dksX3_pivot_0 6 rfl rfl)
theorem dX3_pivot_9 : decode cX3_pivot 9 = .ok (.new 108, 3) := dk_187 0 108 (dk_at dksX3_pivot_0 9 rfl rfl)
theorem dX3_pivot_12 : decode cX3_pivot 12 = .ok (.dup, 1) := dk_89 (dk_at dksX3_pivot_0 12 rfl rfl)
theorem dX3_pivot_13 : decode cX3_pivot 13 = .ok (.bipush (-6), 2) := dk_16 250 (dk_at dksX3_pivot_0 13 rfl rfl)
theorem dX3_pivot_15 : decode cX3_pivot 15 = .ok (.invokespecial 110, 3) := dk_183 0 110 (dk_at dksX3_pivot_0 15 rfl rfl)
theorem dX3_pivot_18 : decode cX3_pivot 18 = .ok (.athrow, 1) := dk_191 (dk_at dksX3_pivot_0 18 rfl rfl)
theorem dX3_pivot_19 : decode cX3_pivot 19 = .ok (.aload_n 0, 1) := dk_42 (dk_at dksX3_pivot_0 19 rfl rfl)
theorem dX3_pivot_20 : decode cX3_pivot 20 = .ok (.iload_n 1, 1) := dk_27 (dk_at dksX3_pivot_0 20 rfl rfl)
theorem dX3_pivot_21 : decode cX3_pivot 21 = .ok (.iload_n 2, 1) := dk_28 (dk_at dksX3_pivot_0 21 rfl rfl)
theorem dX3_pivot_22 : decode cX3_pivot 22 = .ok (.invokevirtual 88, 3) := dk_182 0 88 (dk_at dksX3_pivot_1 0 rfl rfl)
theorem dX3_pivot_25 : decode cX3_pivot 25 = .ok (.lneg, 1) := dk_117 (dk_at dksX3_pivot_1 3 rfl rfl)
theorem dX3_pivot_26 : decode cX3_pivot 26 = .ok (.lstore_n 3, 1) := dk_66 (dk_at dksX3_pivot_1 4 rfl rfl)
theorem dX3_pivot_27 : decode cX3_pivot 27 = .ok (.iconst 0, 1) := dk_3 (dk_at dksX3_pivot_1 5 rfl rfl)
theorem dX3_pivot_28 : decode cX3_pivot 28 = .ok (.istore 5, 2) := dk_54 5 (dk_at dksX3_pivot_1 6 rfl rfl)
theorem dX3_pivot_30 : decode cX3_pivot 30 = .ok (.iload 5, 2) := dk_21 5 (dk_at dksX3_pivot_1 8 rfl rfl)
theorem dX3_pivot_32 : decode cX3_pivot 32 = .ok (.aload_n 0, 1) := dk_42 (dk_at dksX3_pivot_1 10 rfl rfl)
theorem dX3_pivot_33 : decode cX3_pivot 33 = .ok (.getfield 35, 3) := dk_180 0 35 (dk_at dksX3_pivot_1 11 rfl rfl)
theorem dX3_pivot_36 : decode cX3_pivot 36 = .ok (.if_icmp .ge 108, 3) := dk_162 0 108 (dk_at dksX3_pivot_1 14 rfl rfl)
theorem dX3_pivot_39 : decode cX3_pivot 39 = .ok (.aload_n 0, 1) := dk_42 (dk_at dksX3_pivot_1 17 rfl rfl)
theorem dX3_pivot_40 : decode cX3_pivot 40 = .ok (.iload 5, 2) := dk_21 5 (dk_at dksX3_pivot_1 18 rfl rfl)
theorem dX3_pivot_42 : decode cX3_pivot 42 = .ok (.iload_n 2, 1) := dk_28 (dk_at dksX3_pivot_1 20 rfl rfl)
theorem dX3_pivot_43 : decode cX3_pivot 43 = .ok (.invokevirtual 88, 3) := dk_182 0 88 (dk_at dksX3_pivot_1 21 rfl rfl)
theorem dX3_pivot_46 : decode cX3_pivot 46 = .ok (.lstore 6, 2) := dk_55 6 (dk_at dksX3_pivot_2 0 rfl rfl)
theorem dX3_pivot_48 : decode cX3_pivot 48 = .ok (.iload 5, 2) := dk_21 5 (dk_at dksX3_pivot_2 2 rfl rfl)
theorem dX3_pivot_50 : decode cX3_pivot 50 = .ok (.iload_n 1, 1) := dk_27 (dk_at dksX3_pivot_2 4 rfl rfl)
theorem dX3_pivot_51 : decode cX3_pivot 51 = .ok (.if_icmp .ne 6, 3) := dk_160 0 6 (dk_at dksX3_pivot_2 5 rfl rfl)
theorem dX3_pivot_54 : decode cX3_pivot 54 = .ok (.goto 84, 3) := dk_167 0 84 (dk_at dksX3_pivot_2 8 rfl rfl)
theorem dX3_pivot_57 : decode cX3_pivot 57 = .ok (.iconst 0, 1) := dk_3 (dk_at dksX3_pivot_2 11 rfl rfl)
theorem dX3_pivot_58 : decode cX3_pivot 58 = .ok (.istore 8, 2) := dk_54 8 (dk_at dksX3_pivot_2 12 rfl rfl)
theorem dX3_pivot_60 : decode cX3_pivot 60 = .ok (.iload 8, 2) := dk_21 8 (dk_at dksX3_pivot_2 14 rfl rfl)
theorem dX3_pivot_62 : decode cX3_pivot 62 = .ok (.aload_n 0, 1) := dk_42 (dk_at dksX3_pivot_2 16 rfl rfl)
theorem dX3_pivot_63 : decode cX3_pivot 63 = .ok (.getfield 44, 3) := dk_180 0 44 (dk_at dksX3_pivot_2 17 rfl rfl)
theorem dX3_pivot_66 : decode cX3_pivot 66 = .ok (.if_icmp .ge 45, 3) := dk_162 0 45 (dk_at dksX3_pivot_2 20 rfl rfl)
theorem dX3_pivot_69 : decode cX3_pivot 69 = .ok (.iload 8, 2) := dk_21 8 (dk_at dksX3_pivot_3 0 rfl rfl)
theorem dX3_pivot_71 : decode cX3_pivot 71 = .ok (.iload_n 2, 1) := dk_28 (dk_at dksX3_pivot_3 2 rfl rfl)
theorem dX3_pivot_72 : decode cX3_pivot 72 = .ok (.if_icmp .eq 33, 3) := dk_159 0 33 (dk_at dksX3_pivot_3 3 rfl rfl)
theorem dX3_pivot_75 : decode cX3_pivot 75 = .ok (.aload_n 0, 1) := dk_42 (dk_at dksX3_pivot_3 6 rfl rfl)
theorem dX3_pivot_76 : decode cX3_pivot 76 = .ok (.iload 5, 2) := dk_21 5 (dk_at dksX3_pivot_3 7 rfl rfl)
theorem dX3_pivot_78 : decode cX3_pivot 78 = .ok (.iload 8, 2) := dk_21 8 (dk_at dksX3_pivot_3 9 rfl rfl)
theorem dX3_pivot_80 : decode cX3_pivot 80 = .ok (.aload_n 0, 1) := dk_42 (dk_at dksX3_pivot_3 11 rfl rfl)
theorem dX3_pivot_81 : decode cX3_pivot 81 = .ok (.lload_n 3, 1) := dk_33 (dk_at dksX3_pivot_3 12 rfl rfl)
theorem dX3_pivot_82 : decode cX3_pivot 82 = .ok (.aload_n 0, 1) := dk_42 (dk_at dksX3_pivot_3 13 rfl rfl)
theorem dX3_pivot_83 : decode cX3_pivot 83 = .ok (.iload 5, 2) := dk_21 5 (dk_at dksX3_pivot_3 14 rfl rfl)
theorem dX3_pivot_85 : decode cX3_pivot 85 = .ok (.iload 8, 2) := dk_21 8 (dk_at dksX3_pivot_3 16 rfl rfl)
theorem dX3_pivot_87 : decode cX3_pivot 87 = .ok (.invokevirtual 88, 3) := dk_182 0 88 (dk_at dksX3_pivot_3 18 rfl rfl)
theorem dX3_pivot_90 : decode cX3_pivot 90 = .ok (.lload 6, 2) := dk_22 6 (dk_at dksX3_pivot_3 21 rfl rfl)
theorem dX3_pivot_92 : decode cX3_pivot 92 = .ok (.aload_n 0, 1) := dk_42 (dk_at dksX3_pivot_3 23 rfl rfl)
theorem dX3_pivot_93 : decode cX3_pivot 93 = .ok (.iload_n 1, 1) := dk_27 (dk_at dksX3_pivot_4 0 rfl rfl)
theorem dX3_pivot_94 : decode cX3_pivot 94 = .ok (.iload 8, 2) := dk_21 8 (dk_at dksX3_pivot_4 1 rfl rfl)
theorem dX3_pivot_96 : decode cX3_pivot 96 = .ok (.invokevirtual 88, 3) := dk_182 0 88 (dk_at dksX3_pivot_4 3 rfl rfl)
theorem dX3_pivot_99 : decode cX3_pivot 99 = .ok (.invokevirtual 92, 3) := dk_182 0 92 (dk_at dksX3_pivot_4 6 rfl rfl)
theorem dX3_pivot_102 : decode cX3_pivot 102 = .ok (.invokevirtual 82, 3) := dk_182 0 82 (dk_at dksX3_pivot_4 9 rfl rfl)
theorem dX3_pivot_105 : decode cX3_pivot 105 = .ok (.iinc 8 1, 3) := dk_132 8 1 (dk_at dksX3_pivot_4 12 rfl rfl)
theorem dX3_pivot_108 : decode cX3_pivot 108 = .ok (.goto (-48), 3) := dk_167 255 208 (dk_at dksX3_pivot_4 15 rfl rfl)
theorem dX3_pivot_111 : decode cX3_pivot 111 = .ok (.aload_n 0, 1) := dk_42 (dk_at dksX3_pivot_4 18 rfl rfl)
theorem dX3_pivot_112 : decode cX3_pivot 112 = .ok (.getfield 15, 3) := dk_180 0 15 (dk_at dksX3_pivot_4 19 rfl rfl)
theorem dX3_pivot_115 : decode cX3_pivot 115 = .ok (.iload 5, 2) := dk_21 5 (dk_at dksX3_pivot_4 22 rfl rfl)
theorem dX3_pivot_117 : decode cX3_pivot 117 = .ok (.aload_n 0, 1) := dk_42 (dk_at dksX3_pivot_5 0 rfl rfl)
theorem dX3_pivot_118 : decode cX3_pivot 118 = .ok (.lload_n 3, 1) := dk_33 (dk_at dksX3_pivot_5 1 rfl rfl)
theorem dX3_pivot_119 : decode cX3_pivot 119 = .ok (.aload_n 0, 1) := dk_42 (dk_at dksX3_pivot_5 2 rfl rfl)
theorem dX3_pivot_120 : decode cX3_pivot 120 = .ok (.getfield 15, 3) := dk_180 0 15 (dk_at dksX3_pivot_5 3 rfl rfl)
theorem dX3_pivot_123 : decode cX3_pivot 123 = .ok (.iload 5, 2) := dk_21 5 (dk_at dksX3_pivot_5 6 rfl rfl)
theorem dX3_pivot_125 : decode cX3_pivot 125 = .ok (.laload, 1) := dk_47 (dk_at dksX3_pivot_5 8 rfl rfl)
theorem dX3_pivot_126 : decode cX3_pivot 126 = .ok (.lload 6, 2) := dk_22 6 (dk_at dksX3_pivot_5 9 rfl rfl)
theorem dX3_pivot_128 : decode cX3_pivot 128 = .ok (.aload_n 0, 1) := dk_42 (dk_at dksX3_pivot_5 11 rfl rfl)
theorem dX3_pivot_129 : decode cX3_pivot 129 = .ok (.getfield 15, 3) := dk_180 0 15 (dk_at dksX3_pivot_5 12 rfl rfl)
theorem dX3_pivot_132 : decode cX3_pivot 132 = .ok (.iload_n 1, 1) := dk_27 (dk_at dksX3_pivot_5 15 rfl rfl)
theorem dX3_pivot_133 : decode cX3_pivot 133 = .ok (.laload, 1) := dk_47 (dk_at dksX3_pivot_5 16 rfl rfl)
theorem dX3_pivot_134 : decode cX3_pivot 134 = .ok (.invokevirtual 92, 3) := dk_182 0 92 (dk_at dksX3_pivot_5 17 rfl rfl)
theorem dX3_pivot_137 : decode cX3_pivot 137 = .ok (.lastore, 1) := dk_80 (dk_at dksX3_pivot_5 20 rfl rfl)
theorem dX3_pivot_138 : decode cX3_pivot 138 = .ok (.iinc 5 1, 3) := dk_132 5 1 (dk_at dksX3_pivot_5 21 rfl rfl)
theorem dX3_pivot_141 : decode cX3_pivot 141 = .ok (.goto (-111), 3) := dk_167 255 145 (dk_at dksX3_pivot_6 0 rfl rfl)
theorem dX3_pivot_144 : decode cX3_pivot 144 = .ok (.aload_n 0, 1) := dk_42 (dk_at dksX3_pivot_6 3 rfl rfl)
theorem dX3_pivot_145 : decode cX3_pivot 145 = .ok (.getfield 18, 3) := dk_180 0 18 (dk_at dksX3_pivot_6 4 rfl rfl)
theorem dX3_pivot_148 : decode cX3_pivot 148 = .ok (.iload_n 2, 1) := dk_28 (dk_at dksX3_pivot_6 7 rfl rfl)
theorem dX3_pivot_149 : decode cX3_pivot 149 = .ok (.laload, 1) := dk_47 (dk_at dksX3_pivot_6 8 rfl rfl)
theorem dX3_pivot_150 : decode cX3_pivot 150 = .ok (.lstore 5, 2) := dk_55 5 (dk_at dksX3_pivot_6 9 rfl rfl)
theorem dX3_pivot_152 : decode cX3_pivot 152 = .ok (.iconst 0, 1) := dk_3 (dk_at dksX3_pivot_6 11 rfl rfl)
theorem dX3_pivot_153 : decode cX3_pivot 153 = .ok (.istore 7, 2) := dk_54 7 (dk_at dksX3_pivot_6 12 rfl rfl)
theorem dX3_pivot_155 : decode cX3_pivot 155 = .ok (.iload 7, 2) := dk_21 7 (dk_at dksX3_pivot_6 14 rfl rfl)
theorem dX3_pivot_157 : decode cX3_pivot 157 = .ok (.aload_n 0, 1) := dk_42 (dk_at dksX3_pivot_6 16 rfl rfl)
theorem dX3_pivot_158 : decode cX3_pivot 158 = .ok (.getfield 44, 3) := dk_180 0 44 (dk_at dksX3_pivot_6 17 rfl rfl)
theorem dX3_pivot_161 : decode cX3_pivot 161 = .ok (.if_icmp .ge 43, 3) := dk_162 0 43 (dk_at dksX3_pivot_6 20 rfl rfl)
theorem dX3_pivot_164 : decode cX3_pivot 164 = .ok (.iload 7, 2) := dk_21 7 (dk_at dksX3_pivot_7 0 rfl rfl)
theorem dX3_pivot_166 : decode cX3_pivot 166 = .ok (.iload_n 2, 1) := dk_28 (dk_at dksX3_pivot_7 2 rfl rfl)
theorem dX3_pivot_167 : decode cX3_pivot 167 = .ok (.if_icmp .eq 31, 3) := dk_159 0 31 (dk_at dksX3_pivot_7 3 rfl rfl)
theorem dX3_pivot_170 : decode cX3_pivot 170 = .ok (.aload_n 0, 1) := dk_42 (dk_at dksX3_pivot_7 6 rfl rfl)
theorem dX3_pivot_171 : decode cX3_pivot 171 = .ok (.getfield 18, 3) := dk_180 0 18 (dk_at dksX3_pivot_7 7 rfl rfl)
theorem dX3_pivot_174 : decode cX3_pivot 174 = .ok (.iload 7, 2) := dk_21 7 (dk_at dksX3_pivot_7 10 rfl rfl)
theorem dX3_pivot_176 : decode cX3_pivot 176 = .ok (.aload_n 0, 1) := dk_42 (dk_at dksX3_pivot_7 12 rfl rfl)
theorem dX3_pivot_177 : decode cX3_pivot 177 = .ok (.lload_n 3, 1) := dk_33 (dk_at dksX3_pivot_7 13 rfl rfl)
theorem dX3_pivot_178 : decode cX3_pivot 178 = .ok (.aload_n 0, 1) := dk_42 (dk_at dksX3_pivot_7 14 rfl rfl)
theorem dX3_pivot_179 : decode cX3_pivot 179 = .ok (.getfield 18, 3) := dk_180 0 18 (dk_at dksX3_pivot_7 15 rfl rfl)
theorem dX3_pivot_182 : decode cX3_pivot 182 = .ok (.iload 7, 2) := dk_21 7 (dk_at dksX3_pivot_7 18 rfl rfl)
theorem dX3_pivot_184 : decode cX3_pivot 184 = .ok (.laload, 1) := dk_47 (dk_at dksX3_pivot_7 20 rfl rfl)
theorem dX3_pivot_185 : decode cX3_pivot 185 = .ok (.lload 5, 2) := dk_22 5 (dk_at dksX3_pivot_7 21 rfl rfl)
theorem dX3_pivot_187 : decode cX3_pivot 187 = .ok (.aload_n 0, 1) := dk_42 (dk_at dksX3_pivot_7 23 rfl rfl)
theorem dX3_pivot_188 : decode cX3_pivot 188 = .ok (.iload_n 1, 1) := dk_27 (dk_at dksX3_pivot_8 0 rfl rfl)
theorem dX3_pivot_189 : decode cX3_pivot 189 = .ok (.iload 7, 2) := dk_21 7 (dk_at dksX3_pivot_8 1 rfl rfl)
theorem dX3_pivot_191 : decode cX3_pivot 191 = .ok (.invokevirtual 88, 3) := dk_182 0 88 (dk_at dksX3_pivot_8 3 rfl rfl)
theorem dX3_pivot_194 : decode cX3_pivot 194 = .ok (.invokevirtual 92, 3) := dk_182 0 92 (dk_at dksX3_pivot_8 6 rfl rfl)
theorem dX3_pivot_197 : decode cX3_pivot 197 = .ok (.lastore, 1) := dk_80 (dk_at dksX3_pivot_8 9 rfl rfl)
theorem dX3_pivot_198 : decode cX3_pivot 198 = .ok (.iinc 7 1, 3) := dk_132 7 1 (dk_at dksX3_pivot_8 10 rfl rfl)
theorem dX3_pivot_201 : decode cX3_pivot 201 = .ok (.goto (-46), 3) := dk_167 255 210 (dk_at dksX3_pivot_8 13 rfl rfl)
theorem dX3_pivot_204 : decode cX3_pivot 204 = .ok (.aload_n 0, 1) := dk_42 (dk_at dksX3_pivot_8 16 rfl rfl)
theorem dX3_pivot_205 : decode cX3_pivot 205 = .ok (.aload_n 0, 1) := dk_42 (dk_at dksX3_pivot_8 17 rfl rfl)
theorem dX3_pivot_206 : decode cX3_pivot 206 = .ok (.lload_n 3, 1) := dk_33 (dk_at dksX3_pivot_8 18 rfl rfl)
theorem dX3_pivot_207 : decode cX3_pivot 207 = .ok (.aload_n 0, 1) := dk_42 (dk_at dksX3_pivot_8 19 rfl rfl)
theorem dX3_pivot_208 : decode cX3_pivot 208 = .ok (.getfield 55, 3) := dk_180 0 55 (dk_at dksX3_pivot_8 20 rfl rfl)
theorem dX3_pivot_211 : decode cX3_pivot 211 = .ok (.lload 5, 2) := dk_22 5 (dk_at dksX3_pivot_9 0 rfl rfl)
theorem dX3_pivot_213 : decode cX3_pivot 213 = .ok (.lneg, 1) := dk_117 (dk_at dksX3_pivot_9 2 rfl rfl)
theorem dX3_pivot_214 : decode cX3_pivot 214 = .ok (.aload_n 0, 1) := dk_42 (dk_at dksX3_pivot_9 3 rfl rfl)
theorem dX3_pivot_215 : decode cX3_pivot 215 = .ok (.getfield 15, 3) := dk_180 0 15 (dk_at dksX3_pivot_9 4 rfl rfl)
theorem dX3_pivot_218 : decode cX3_pivot 218 = .ok (.iload_n 1, 1) := dk_27 (dk_at dksX3_pivot_9 7 rfl rfl)
theorem dX3_pivot_219 : decode cX3_pivot 219 = .ok (.laload, 1) := dk_47 (dk_at dksX3_pivot_9 8 rfl rfl)
theorem dX3_pivot_220 : decode cX3_pivot 220 = .ok (.invokevirtual 92, 3) := dk_182 0 92 (dk_at dksX3_pivot_9 9 rfl rfl)
theorem dX3_pivot_223 : decode cX3_pivot 223 = .ok (.putfield 55, 3) := dk_181 0 55 (dk_at dksX3_pivot_9 12 rfl rfl)
theorem dX3_pivot_226 : decode cX3_pivot 226 = .ok (.iconst 0, 1) := dk_3 (dk_at dksX3_pivot_9 15 rfl rfl)
theorem dX3_pivot_227 : decode cX3_pivot 227 = .ok (.istore 7, 2) := dk_54 7 (dk_at dksX3_pivot_9 16 rfl rfl)
theorem dX3_pivot_229 : decode cX3_pivot 229 = .ok (.iload 7, 2) := dk_21 7 (dk_at dksX3_pivot_9 18 rfl rfl)
theorem dX3_pivot_231 : decode cX3_pivot 231 = .ok (.aload_n 0, 1) := dk_42 (dk_at dksX3_pivot_9 20 rfl rfl)
theorem dX3_pivot_232 : decode cX3_pivot 232 = .ok (.getfield 44, 3) := dk_180 0 44 (dk_at dksX3_pivot_9 21 rfl rfl)
theorem dX3_pivot_235 : decode cX3_pivot 235 = .ok (.if_icmp .ge 38, 3) := dk_162 0 38 (dk_at dksX3_pivot_10 0 rfl rfl)
theorem dX3_pivot_238 : decode cX3_pivot 238 = .ok (.aload_n 0, 1) := dk_42 (dk_at dksX3_pivot_10 3 rfl rfl)
theorem dX3_pivot_239 : decode cX3_pivot 239 = .ok (.iload_n 1, 1) := dk_27 (dk_at dksX3_pivot_10 4 rfl rfl)
theorem dX3_pivot_240 : decode cX3_pivot 240 = .ok (.iload 7, 2) := dk_21 7 (dk_at dksX3_pivot_10 5 rfl rfl)
theorem dX3_pivot_242 : decode cX3_pivot 242 = .ok (.iload 7, 2) := dk_21 7 (dk_at dksX3_pivot_10 7 rfl rfl)
theorem dX3_pivot_244 : decode cX3_pivot 244 = .ok (.iload_n 2, 1) := dk_28 (dk_at dksX3_pivot_10 9 rfl rfl)
theorem dX3_pivot_245 : decode cX3_pivot 245 = .ok (.if_icmp .ne 11, 3) := dk_160 0 11 (dk_at dksX3_pivot_10 10 rfl rfl)
theorem dX3_pivot_248 : decode cX3_pivot 248 = .ok (.aload_n 0, 1) := dk_42 (dk_at dksX3_pivot_10 13 rfl rfl)
theorem dX3_pivot_249 : decode cX3_pivot 249 = .ok (.getfield 51, 3) := dk_180 0 51 (dk_at dksX3_pivot_10 14 rfl rfl)
theorem dX3_pivot_252 : decode cX3_pivot 252 = .ok (.lneg, 1) := dk_117 (dk_at dksX3_pivot_10 17 rfl rfl)
theorem dX3_pivot_253 : decode cX3_pivot 253 = .ok (.goto 11, 3) := dk_167 0 11 (dk_at dksX3_pivot_10 18 rfl rfl)
theorem dX3_pivot_256 : decode cX3_pivot 256 = .ok (.aload_n 0, 1) := dk_42 (dk_at dksX3_pivot_10 21 rfl rfl)
theorem dX3_pivot_257 : decode cX3_pivot 257 = .ok (.iload_n 1, 1) := dk_27 (dk_at dksX3_pivot_10 22 rfl rfl)
theorem dX3_pivot_258 : decode cX3_pivot 258 = .ok (.iload 7, 2) := dk_21 7 (dk_at dksX3_pivot_11 0 rfl rfl)
theorem dX3_pivot_260 : decode cX3_pivot 260 = .ok (.invokevirtual 88, 3) := dk_182 0 88 (dk_at dksX3_pivot_11 2 rfl rfl)
theorem dX3_pivot_263 : decode cX3_pivot 263 = .ok (.lneg, 1) := dk_117 (dk_at dksX3_pivot_11 5 rfl rfl)
theorem dX3_pivot_264 : decode cX3_pivot 264 = .ok (.invokevirtual 82, 3) := dk_182 0 82 (dk_at dksX3_pivot_11 6 rfl rfl)
theorem dX3_pivot_267 : decode cX3_pivot 267 = .ok (.iinc 7 1, 3) := dk_132 7 1 (dk_at dksX3_pivot_11 9 rfl rfl)
theorem dX3_pivot_270 : decode cX3_pivot 270 = .ok (.goto (-41), 3) := dk_167 255 215 (dk_at dksX3_pivot_11 12 rfl rfl)
theorem dX3_pivot_273 : decode cX3_pivot 273 = .ok (.aload_n 0, 1) := dk_42 (dk_at dksX3_pivot_11 15 rfl rfl)
theorem dX3_pivot_274 : decode cX3_pivot 274 = .ok (.getfield 15, 3) := dk_180 0 15 (dk_at dksX3_pivot_11 16 rfl rfl)
theorem dX3_pivot_277 : decode cX3_pivot 277 = .ok (.iload_n 1, 1) := dk_27 (dk_at dksX3_pivot_11 19 rfl rfl)
theorem dX3_pivot_278 : decode cX3_pivot 278 = .ok (.aload_n 0, 1) := dk_42 (dk_at dksX3_pivot_11 20 rfl rfl)
theorem dX3_pivot_279 : decode cX3_pivot 279 = .ok (.getfield 15, 3) := dk_180 0 15 (dk_at dksX3_pivot_11 21 rfl rfl)
theorem dX3_pivot_282 : decode cX3_pivot 282 = .ok (.iload_n 1, 1) := dk_27 (dk_at dksX3_pivot_12 0 rfl rfl)
theorem dX3_pivot_283 : decode cX3_pivot 283 = .ok (.laload, 1) := dk_47 (dk_at dksX3_pivot_12 1 rfl rfl)
theorem dX3_pivot_284 : decode cX3_pivot 284 = .ok (.lneg, 1) := dk_117 (dk_at dksX3_pivot_12 2 rfl rfl)
theorem dX3_pivot_285 : decode cX3_pivot 285 = .ok (.lastore, 1) := dk_80 (dk_at dksX3_pivot_12 3 rfl rfl)
theorem dX3_pivot_286 : decode cX3_pivot 286 = .ok (.aload_n 0, 1) := dk_42 (dk_at dksX3_pivot_12 4 rfl rfl)
theorem dX3_pivot_287 : decode cX3_pivot 287 = .ok (.lload_n 3, 1) := dk_33 (dk_at dksX3_pivot_12 5 rfl rfl)
theorem dX3_pivot_288 : decode cX3_pivot 288 = .ok (.putfield 51, 3) := dk_181 0 51 (dk_at dksX3_pivot_12 6 rfl rfl)
theorem dX3_pivot_291 : decode cX3_pivot 291 = .ok (.aload_n 0, 1) := dk_42 (dk_at dksX3_pivot_12 9 rfl rfl)
theorem dX3_pivot_292 : decode cX3_pivot 292 = .ok (.getfield 21, 3) := dk_180 0 21 (dk_at dksX3_pivot_12 10 rfl rfl)
theorem dX3_pivot_295 : decode cX3_pivot 295 = .ok (.iload_n 1, 1) := dk_27 (dk_at dksX3_pivot_12 13 rfl rfl)
theorem dX3_pivot_296 : decode cX3_pivot 296 = .ok (.iaload, 1) := dk_46 (dk_at dksX3_pivot_12 14 rfl rfl)
theorem dX3_pivot_297 : decode cX3_pivot 297 = .ok (.istore 7, 2) := dk_54 7 (dk_at dksX3_pivot_12 15 rfl rfl)
theorem dX3_pivot_299 : decode cX3_pivot 299 = .ok (.aload_n 0, 1) := dk_42 (dk_at dksX3_pivot_12 17 rfl rfl)
theorem dX3_pivot_300 : decode cX3_pivot 300 = .ok (.getfield 21, 3) := dk_180 0 21 (dk_at dksX3_pivot_12 18 rfl rfl)
theorem dX3_pivot_303 : decode cX3_pivot 303 = .ok (.iload_n 1, 1) := dk_27 (dk_at dksX3_pivot_12 21 rfl rfl)
theorem dX3_pivot_304 : decode cX3_pivot 304 = .ok (.aload_n 0, 1) := dk_42 (dk_at dksX3_pivot_12 22 rfl rfl)
theorem dX3_pivot_305 : decode cX3_pivot 305 = .ok (.getfield 25, 3) := dk_180 0 25 (dk_at dksX3_pivot_13 0 rfl rfl)
theorem dX3_pivot_308 : decode cX3_pivot 308 = .ok (.iload_n 2, 1) := dk_28 (dk_at dksX3_pivot_13 3 rfl rfl)
theorem dX3_pivot_309 : decode cX3_pivot 309 = .ok (.iaload, 1) := dk_46 (dk_at dksX3_pivot_13 4 rfl rfl)
theorem dX3_pivot_310 : decode cX3_pivot 310 = .ok (.iastore, 1) := dk_79 (dk_at dksX3_pivot_13 5 rfl rfl)
theorem dX3_pivot_311 : decode cX3_pivot 311 = .ok (.aload_n 0, 1) := dk_42 (dk_at dksX3_pivot_13 6 rfl rfl)
theorem dX3_pivot_312 : decode cX3_pivot 312 = .ok (.getfield 25, 3) := dk_180 0 25 (dk_at dksX3_pivot_13 7 rfl rfl)
theorem dX3_pivot_315 : decode cX3_pivot 315 = .ok (.iload_n 2, 1) := dk_28 (dk_at dksX3_pivot_13 10 rfl rfl)
theorem dX3_pivot_316 : decode cX3_pivot 316 = .ok (.iload 7, 2) := dk_21 7 (dk_at dksX3_pivot_13 11 rfl rfl)
theorem dX3_pivot_318 : decode cX3_pivot 318 = .ok (.iastore, 1) := dk_79 (dk_at dksX3_pivot_13 13 rfl rfl)
theorem dX3_pivot_319 : decode cX3_pivot 319 = .ok (.aload_n 0, 1) := dk_42 (dk_at dksX3_pivot_13 14 rfl rfl)
theorem dX3_pivot_320 : decode cX3_pivot 320 = .ok (.dup, 1) := dk_89 (dk_at dksX3_pivot_13 15 rfl rfl)
theorem dX3_pivot_321 : decode cX3_pivot 321 = .ok (.getfield 45, 3) := dk_180 0 45 (dk_at dksX3_pivot_13 16 rfl rfl)
theorem dX3_pivot_324 : decode cX3_pivot 324 = .ok (.iconst 1, 1) := dk_4 (dk_at dksX3_pivot_13 19 rfl rfl)
theorem dX3_pivot_325 : decode cX3_pivot 325 = .ok (.iadd, 1) := dk_96 (dk_at dksX3_pivot_13 20 rfl rfl)
theorem dX3_pivot_326 : decode cX3_pivot 326 = .ok (.putfield 45, 3) := dk_181 0 45 (dk_at dksX3_pivot_13 21 rfl rfl)
theorem dX3_pivot_329 : decode cX3_pivot 329 = .ok (.return_, 1) := dk_177 (dk_at dksX3_pivot_14 0 rfl rfl)
abbrev cX3_staysSmall : ByteArray := prog_16_method_8_code
def yX3_staysSmall : MethodName := ⟨RX3, "staysSmall", "(II)Z"⟩
def dkwX3_staysSmall_10 : List UInt8 := [172]
abbrev dktX3_staysSmall_10 : List UInt8 := dkwX3_staysSmall_10 ++ []
def dkwX3_staysSmall_9 : List UInt8 := [180, 0, 55, 22, 5, 117, 42, 180, 0, 15, 27, 47, 182, 0, 92, 20, 0, 96, 20, 0, 98, 184, 0, 100]
abbrev dktX3_staysSmall_9 : List UInt8 := dkwX3_staysSmall_9 ++ dktX3_staysSmall_10
def dkwX3_staysSmall_8 : List UInt8 := [20, 0, 96, 20, 0, 98, 184, 0, 100, 154, 0, 5, 3, 172, 132, 7, 1, 167, 255, 203, 42, 33, 42]
abbrev dktX3_staysSmall_8 : List UInt8 := dkwX3_staysSmall_8 ++ dktX3_staysSmall_9
def dkwX3_staysSmall_7 : List UInt8 := [159, 0, 38, 42, 33, 42, 180, 0, 18, 21, 7, 47, 22, 5, 42, 27, 21, 7, 182, 0, 88, 182, 0, 92]
abbrev dktX3_staysSmall_7 : List UInt8 := dkwX3_staysSmall_7 ++ dktX3_staysSmall_8
def dkwX3_staysSmall_6 : List UInt8 := [180, 0, 18, 28, 47, 55, 5, 3, 54, 7, 21, 7, 42, 180, 0, 44, 162, 0, 50, 21, 7, 28]
abbrev dktX3_staysSmall_6 : List UInt8 := dkwX3_staysSmall_6 ++ dktX3_staysSmall_7
def dkwX3_staysSmall_5 : List UInt8 := [182, 0, 92, 20, 0, 96, 20, 0, 98, 184, 0, 100, 154, 0, 5, 3, 172, 132, 5, 1, 167, 255, 132, 42]
abbrev dktX3_staysSmall_5 : List UInt8 := dkwX3_staysSmall_5 ++ dktX3_staysSmall_6
def dkwX3_staysSmall_4 : List UInt8 := [132, 8, 1, 167, 255, 202, 42, 33, 42, 180, 0, 15, 21, 5, 47, 22, 6, 42, 180, 0, 15, 27, 47]
abbrev dktX3_staysSmall_4 : List UInt8 := dkwX3_staysSmall_4 ++ dktX3_staysSmall_5
def dkwX3_staysSmall_3 : List UInt8 := [21, 8, 182, 0, 88, 182, 0, 92, 20, 0, 96, 20, 0, 98, 184, 0, 100, 154, 0, 5, 3, 172]
abbrev dktX3_staysSmall_3 : List UInt8 := dkwX3_staysSmall_3 ++ dktX3_staysSmall_4
def dkwX3_staysSmall_2 : List UInt8 := [162, 0, 51, 21, 8, 28, 159, 0, 39, 42, 33, 42, 21, 5, 21, 8, 182, 0, 88, 22, 6, 42, 27]
abbrev dktX3_staysSmall_2 : List UInt8 := dkwX3_staysSmall_2 ++ dktX3_staysSmall_3
def dkwX3_staysSmall_1 : List UInt8 := [182, 0, 88, 55, 6, 21, 5, 27, 160, 0, 6, 167, 0, 97, 3, 54, 8, 21, 8, 42, 180, 0, 44]
abbrev dktX3_staysSmall_1 : List UInt8 := dkwX3_staysSmall_1 ++ dktX3_staysSmall_2
def dkwX3_staysSmall_0 : List UInt8 := [42, 27, 28, 182, 0, 88, 117, 66, 3, 54, 5, 21, 5, 42, 180, 0, 35, 162, 0, 121, 42, 21, 5, 28]
abbrev dktX3_staysSmall_0 : List UInt8 := dkwX3_staysSmall_0 ++ dktX3_staysSmall_1
theorem dksX3_staysSmall_0 : cX3_staysSmall.data.toList.drop 0 = dktX3_staysSmall_0 := by decide +kernel
theorem dksX3_staysSmall_1 : cX3_staysSmall.data.toList.drop 24 = dktX3_staysSmall_1 := dk_seg dksX3_staysSmall_0 24 rfl rfl
theorem dksX3_staysSmall_2 : cX3_staysSmall.data.toList.drop 47 = dktX3_staysSmall_2 := dk_seg dksX3_staysSmall_1 23 rfl rfl
theorem dksX3_staysSmall_3 : cX3_staysSmall.data.toList.drop 70 = dktX3_staysSmall_3 := dk_seg dksX3_staysSmall_2 23 rfl rfl
theorem dksX3_staysSmall_4 : cX3_staysSmall.data.toList.drop 92 = dktX3_staysSmall_4 := dk_seg dksX3_staysSmall_3 22 rfl rfl
theorem dksX3_staysSmall_5 : cX3_staysSmall.data.toList.drop 115 = dktX3_staysSmall_5 := dk_seg dksX3_staysSmall_4 23 rfl rfl
theorem dksX3_staysSmall_6 : cX3_staysSmall.data.toList.drop 139 = dktX3_staysSmall_6 := dk_seg dksX3_staysSmall_5 24 rfl rfl
theorem dksX3_staysSmall_7 : cX3_staysSmall.data.toList.drop 161 = dktX3_staysSmall_7 := dk_seg dksX3_staysSmall_6 22 rfl rfl
theorem dksX3_staysSmall_8 : cX3_staysSmall.data.toList.drop 185 = dktX3_staysSmall_8 := dk_seg dksX3_staysSmall_7 24 rfl rfl
theorem dksX3_staysSmall_9 : cX3_staysSmall.data.toList.drop 208 = dktX3_staysSmall_9 := dk_seg dksX3_staysSmall_8 23 rfl rfl
theorem dksX3_staysSmall_10 : cX3_staysSmall.data.toList.drop 232 = dktX3_staysSmall_10 := dk_seg dksX3_staysSmall_9 24 rfl rfl
theorem dX3_staysSmall_0 : decode cX3_staysSmall 0 = .ok (.aload_n 0, 1) := dk_42 (dk_at dksX3_staysSmall_0 0 rfl rfl)
theorem dX3_staysSmall_1 : decode cX3_staysSmall 1 = .ok (.iload_n 1, 1) := dk_27 (dk_at dksX3_staysSmall_0 1 rfl rfl)
theorem dX3_staysSmall_2 : decode cX3_staysSmall 2 = .ok (.iload_n 2, 1) := dk_28 (dk_at dksX3_staysSmall_0 2 rfl rfl)
theorem dX3_staysSmall_3 : decode cX3_staysSmall 3 = .ok (.invokevirtual 88, 3) := dk_182 0 88 (dk_at dksX3_staysSmall_0 3 rfl rfl)
theorem dX3_staysSmall_6 : decode cX3_staysSmall 6 = .ok (.lneg, 1) := dk_117 (dk_at dksX3_staysSmall_0 6 rfl rfl)
theorem dX3_staysSmall_7 : decode cX3_staysSmall 7 = .ok (.lstore_n 3, 1) := dk_66 (dk_at dksX3_staysSmall_0 7 rfl rfl)
theorem dX3_staysSmall_8 : decode cX3_staysSmall 8 = .ok (.iconst 0, 1) := dk_3 (dk_at dksX3_staysSmall_0 8 rfl rfl)
theorem dX3_staysSmall_9 : decode cX3_staysSmall 9 = .ok (.istore 5, 2) := dk_54 5 (dk_at dksX3_staysSmall_0 9 rfl rfl)
theorem dX3_staysSmall_11 : decode cX3_staysSmall 11 = .ok (.iload 5, 2) := dk_21 5 (dk_at dksX3_staysSmall_0 11 rfl rfl)
theorem dX3_staysSmall_13 : decode cX3_staysSmall 13 = .ok (.aload_n 0, 1) := dk_42 (dk_at dksX3_staysSmall_0 13 rfl rfl)
theorem dX3_staysSmall_14 : decode cX3_staysSmall 14 = .ok (.getfield 35, 3) := dk_180 0 35 (dk_at dksX3_staysSmall_0 14 rfl rfl)
theorem dX3_staysSmall_17 : decode cX3_staysSmall 17 = .ok (.if_icmp .ge 121, 3) := dk_162 0 121 (dk_at dksX3_staysSmall_0 17 rfl rfl)
theorem dX3_staysSmall_20 : decode cX3_staysSmall 20 = .ok (.aload_n 0, 1) := dk_42 (dk_at dksX3_staysSmall_0 20 rfl rfl)
theorem dX3_staysSmall_21 : decode cX3_staysSmall 21 = .ok (.iload 5, 2) := dk_21 5 (dk_at dksX3_staysSmall_0 21 rfl rfl)
theorem dX3_staysSmall_23 : decode cX3_staysSmall 23 = .ok (.iload_n 2, 1) := dk_28 (dk_at dksX3_staysSmall_0 23 rfl rfl)
theorem dX3_staysSmall_24 : decode cX3_staysSmall 24 = .ok (.invokevirtual 88, 3) := dk_182 0 88 (dk_at dksX3_staysSmall_1 0 rfl rfl)
theorem dX3_staysSmall_27 : decode cX3_staysSmall 27 = .ok (.lstore 6, 2) := dk_55 6 (dk_at dksX3_staysSmall_1 3 rfl rfl)
theorem dX3_staysSmall_29 : decode cX3_staysSmall 29 = .ok (.iload 5, 2) := dk_21 5 (dk_at dksX3_staysSmall_1 5 rfl rfl)
theorem dX3_staysSmall_31 : decode cX3_staysSmall 31 = .ok (.iload_n 1, 1) := dk_27 (dk_at dksX3_staysSmall_1 7 rfl rfl)
theorem dX3_staysSmall_32 : decode cX3_staysSmall 32 = .ok (.if_icmp .ne 6, 3) := dk_160 0 6 (dk_at dksX3_staysSmall_1 8 rfl rfl)
theorem dX3_staysSmall_35 : decode cX3_staysSmall 35 = .ok (.goto 97, 3) := dk_167 0 97 (dk_at dksX3_staysSmall_1 11 rfl rfl)
theorem dX3_staysSmall_38 : decode cX3_staysSmall 38 = .ok (.iconst 0, 1) := dk_3 (dk_at dksX3_staysSmall_1 14 rfl rfl)
theorem dX3_staysSmall_39 : decode cX3_staysSmall 39 = .ok (.istore 8, 2) := dk_54 8 (dk_at dksX3_staysSmall_1 15 rfl rfl)
theorem dX3_staysSmall_41 : decode cX3_staysSmall 41 = .ok (.iload 8, 2) := dk_21 8 (dk_at dksX3_staysSmall_1 17 rfl rfl)
theorem dX3_staysSmall_43 : decode cX3_staysSmall 43 = .ok (.aload_n 0, 1) := dk_42 (dk_at dksX3_staysSmall_1 19 rfl rfl)
theorem dX3_staysSmall_44 : decode cX3_staysSmall 44 = .ok (.getfield 44, 3) := dk_180 0 44 (dk_at dksX3_staysSmall_1 20 rfl rfl)
theorem dX3_staysSmall_47 : decode cX3_staysSmall 47 = .ok (.if_icmp .ge 51, 3) := dk_162 0 51 (dk_at dksX3_staysSmall_2 0 rfl rfl)
theorem dX3_staysSmall_50 : decode cX3_staysSmall 50 = .ok (.iload 8, 2) := dk_21 8 (dk_at dksX3_staysSmall_2 3 rfl rfl)
theorem dX3_staysSmall_52 : decode cX3_staysSmall 52 = .ok (.iload_n 2, 1) := dk_28 (dk_at dksX3_staysSmall_2 5 rfl rfl)
theorem dX3_staysSmall_53 : decode cX3_staysSmall 53 = .ok (.if_icmp .eq 39, 3) := dk_159 0 39 (dk_at dksX3_staysSmall_2 6 rfl rfl)
theorem dX3_staysSmall_56 : decode cX3_staysSmall 56 = .ok (.aload_n 0, 1) := dk_42 (dk_at dksX3_staysSmall_2 9 rfl rfl)
theorem dX3_staysSmall_57 : decode cX3_staysSmall 57 = .ok (.lload_n 3, 1) := dk_33 (dk_at dksX3_staysSmall_2 10 rfl rfl)
theorem dX3_staysSmall_58 : decode cX3_staysSmall 58 = .ok (.aload_n 0, 1) := dk_42 (dk_at dksX3_staysSmall_2 11 rfl rfl)
theorem dX3_staysSmall_59 : decode cX3_staysSmall 59 = .ok (.iload 5, 2) := dk_21 5 (dk_at dksX3_staysSmall_2 12 rfl rfl)
theorem dX3_staysSmall_61 : decode cX3_staysSmall 61 = .ok (.iload 8, 2) := dk_21 8 (dk_at dksX3_staysSmall_2 14 rfl rfl)
theorem dX3_staysSmall_63 : decode cX3_staysSmall 63 = .ok (.invokevirtual 88, 3) := dk_182 0 88 (dk_at dksX3_staysSmall_2 16 rfl rfl)
theorem dX3_staysSmall_66 : decode cX3_staysSmall 66 = .ok (.lload 6, 2) := dk_22 6 (dk_at dksX3_staysSmall_2 19 rfl rfl)
theorem dX3_staysSmall_68 : decode cX3_staysSmall 68 = .ok (.aload_n 0, 1) := dk_42 (dk_at dksX3_staysSmall_2 21 rfl rfl)
theorem dX3_staysSmall_69 : decode cX3_staysSmall 69 = .ok (.iload_n 1, 1) := dk_27 (dk_at dksX3_staysSmall_2 22 rfl rfl)
theorem dX3_staysSmall_70 : decode cX3_staysSmall 70 = .ok (.iload 8, 2) := dk_21 8 (dk_at dksX3_staysSmall_3 0 rfl rfl)
theorem dX3_staysSmall_72 : decode cX3_staysSmall 72 = .ok (.invokevirtual 88, 3) := dk_182 0 88 (dk_at dksX3_staysSmall_3 2 rfl rfl)
theorem dX3_staysSmall_75 : decode cX3_staysSmall 75 = .ok (.invokevirtual 92, 3) := dk_182 0 92 (dk_at dksX3_staysSmall_3 5 rfl rfl)
theorem dX3_staysSmall_78 : decode cX3_staysSmall 78 = .ok (.ldc2_w 96, 3) := dk_20 0 96 (dk_at dksX3_staysSmall_3 8 rfl rfl)
theorem dX3_staysSmall_81 : decode cX3_staysSmall 81 = .ok (.ldc2_w 98, 3) := dk_20 0 98 (dk_at dksX3_staysSmall_3 11 rfl rfl)
theorem dX3_staysSmall_84 : decode cX3_staysSmall 84 = .ok (.invokestatic 100, 3) := dk_184 0 100 (dk_at dksX3_staysSmall_3 14 rfl rfl)
theorem dX3_staysSmall_87 : decode cX3_staysSmall 87 = .ok (.ifCond .ne 5, 3) := dk_154 0 5 (dk_at dksX3_staysSmall_3 17 rfl rfl)
theorem dX3_staysSmall_90 : decode cX3_staysSmall 90 = .ok (.iconst 0, 1) := dk_3 (dk_at dksX3_staysSmall_3 20 rfl rfl)
theorem dX3_staysSmall_91 : decode cX3_staysSmall 91 = .ok (.ireturn, 1) := dk_172 (dk_at dksX3_staysSmall_3 21 rfl rfl)
theorem dX3_staysSmall_92 : decode cX3_staysSmall 92 = .ok (.iinc 8 1, 3) := dk_132 8 1 (dk_at dksX3_staysSmall_4 0 rfl rfl)
theorem dX3_staysSmall_95 : decode cX3_staysSmall 95 = .ok (.goto (-54), 3) := dk_167 255 202 (dk_at dksX3_staysSmall_4 3 rfl rfl)
theorem dX3_staysSmall_98 : decode cX3_staysSmall 98 = .ok (.aload_n 0, 1) := dk_42 (dk_at dksX3_staysSmall_4 6 rfl rfl)
theorem dX3_staysSmall_99 : decode cX3_staysSmall 99 = .ok (.lload_n 3, 1) := dk_33 (dk_at dksX3_staysSmall_4 7 rfl rfl)
theorem dX3_staysSmall_100 : decode cX3_staysSmall 100 = .ok (.aload_n 0, 1) := dk_42 (dk_at dksX3_staysSmall_4 8 rfl rfl)
theorem dX3_staysSmall_101 : decode cX3_staysSmall 101 = .ok (.getfield 15, 3) := dk_180 0 15 (dk_at dksX3_staysSmall_4 9 rfl rfl)
theorem dX3_staysSmall_104 : decode cX3_staysSmall 104 = .ok (.iload 5, 2) := dk_21 5 (dk_at dksX3_staysSmall_4 12 rfl rfl)
theorem dX3_staysSmall_106 : decode cX3_staysSmall 106 = .ok (.laload, 1) := dk_47 (dk_at dksX3_staysSmall_4 14 rfl rfl)
theorem dX3_staysSmall_107 : decode cX3_staysSmall 107 = .ok (.lload 6, 2) := dk_22 6 (dk_at dksX3_staysSmall_4 15 rfl rfl)
theorem dX3_staysSmall_109 : decode cX3_staysSmall 109 = .ok (.aload_n 0, 1) := dk_42 (dk_at dksX3_staysSmall_4 17 rfl rfl)
theorem dX3_staysSmall_110 : decode cX3_staysSmall 110 = .ok (.getfield 15, 3) := dk_180 0 15 (dk_at dksX3_staysSmall_4 18 rfl rfl)
theorem dX3_staysSmall_113 : decode cX3_staysSmall 113 = .ok (.iload_n 1, 1) := dk_27 (dk_at dksX3_staysSmall_4 21 rfl rfl)
theorem dX3_staysSmall_114 : decode cX3_staysSmall 114 = .ok (.laload, 1) := dk_47 (dk_at dksX3_staysSmall_4 22 rfl rfl)
theorem dX3_staysSmall_115 : decode cX3_staysSmall 115 = .ok (.invokevirtual 92, 3) := dk_182 0 92 (dk_at dksX3_staysSmall_5 0 rfl rfl)
theorem dX3_staysSmall_118 : decode cX3_staysSmall 118 = .ok (.ldc2_w 96, 3) := dk_20 0 96 (dk_at dksX3_staysSmall_5 3 rfl rfl)
theorem dX3_staysSmall_121 : decode cX3_staysSmall 121 = .ok (.ldc2_w 98, 3) := dk_20 0 98 (dk_at dksX3_staysSmall_5 6 rfl rfl)
theorem dX3_staysSmall_124 : decode cX3_staysSmall 124 = .ok (.invokestatic 100, 3) := dk_184 0 100 (dk_at dksX3_staysSmall_5 9 rfl rfl)
theorem dX3_staysSmall_127 : decode cX3_staysSmall 127 = .ok (.ifCond .ne 5, 3) := dk_154 0 5 (dk_at dksX3_staysSmall_5 12 rfl rfl)
theorem dX3_staysSmall_130 : decode cX3_staysSmall 130 = .ok (.iconst 0, 1) := dk_3 (dk_at dksX3_staysSmall_5 15 rfl rfl)
theorem dX3_staysSmall_131 : decode cX3_staysSmall 131 = .ok (.ireturn, 1) := dk_172 (dk_at dksX3_staysSmall_5 16 rfl rfl)
theorem dX3_staysSmall_132 : decode cX3_staysSmall 132 = .ok (.iinc 5 1, 3) := dk_132 5 1 (dk_at dksX3_staysSmall_5 17 rfl rfl)
theorem dX3_staysSmall_135 : decode cX3_staysSmall 135 = .ok (.goto (-124), 3) := dk_167 255 132 (dk_at dksX3_staysSmall_5 20 rfl rfl)
theorem dX3_staysSmall_138 : decode cX3_staysSmall 138 = .ok (.aload_n 0, 1) := dk_42 (dk_at dksX3_staysSmall_5 23 rfl rfl)
theorem dX3_staysSmall_139 : decode cX3_staysSmall 139 = .ok (.getfield 18, 3) := dk_180 0 18 (dk_at dksX3_staysSmall_6 0 rfl rfl)
theorem dX3_staysSmall_142 : decode cX3_staysSmall 142 = .ok (.iload_n 2, 1) := dk_28 (dk_at dksX3_staysSmall_6 3 rfl rfl)
theorem dX3_staysSmall_143 : decode cX3_staysSmall 143 = .ok (.laload, 1) := dk_47 (dk_at dksX3_staysSmall_6 4 rfl rfl)
theorem dX3_staysSmall_144 : decode cX3_staysSmall 144 = .ok (.lstore 5, 2) := dk_55 5 (dk_at dksX3_staysSmall_6 5 rfl rfl)
theorem dX3_staysSmall_146 : decode cX3_staysSmall 146 = .ok (.iconst 0, 1) := dk_3 (dk_at dksX3_staysSmall_6 7 rfl rfl)
theorem dX3_staysSmall_147 : decode cX3_staysSmall 147 = .ok (.istore 7, 2) := dk_54 7 (dk_at dksX3_staysSmall_6 8 rfl rfl)
theorem dX3_staysSmall_149 : decode cX3_staysSmall 149 = .ok (.iload 7, 2) := dk_21 7 (dk_at dksX3_staysSmall_6 10 rfl rfl)
theorem dX3_staysSmall_151 : decode cX3_staysSmall 151 = .ok (.aload_n 0, 1) := dk_42 (dk_at dksX3_staysSmall_6 12 rfl rfl)
theorem dX3_staysSmall_152 : decode cX3_staysSmall 152 = .ok (.getfield 44, 3) := dk_180 0 44 (dk_at dksX3_staysSmall_6 13 rfl rfl)
theorem dX3_staysSmall_155 : decode cX3_staysSmall 155 = .ok (.if_icmp .ge 50, 3) := dk_162 0 50 (dk_at dksX3_staysSmall_6 16 rfl rfl)
theorem dX3_staysSmall_158 : decode cX3_staysSmall 158 = .ok (.iload 7, 2) := dk_21 7 (dk_at dksX3_staysSmall_6 19 rfl rfl)
theorem dX3_staysSmall_160 : decode cX3_staysSmall 160 = .ok (.iload_n 2, 1) := dk_28 (dk_at dksX3_staysSmall_6 21 rfl rfl)
theorem dX3_staysSmall_161 : decode cX3_staysSmall 161 = .ok (.if_icmp .eq 38, 3) := dk_159 0 38 (dk_at dksX3_staysSmall_7 0 rfl rfl)
theorem dX3_staysSmall_164 : decode cX3_staysSmall 164 = .ok (.aload_n 0, 1) := dk_42 (dk_at dksX3_staysSmall_7 3 rfl rfl)
theorem dX3_staysSmall_165 : decode cX3_staysSmall 165 = .ok (.lload_n 3, 1) := dk_33 (dk_at dksX3_staysSmall_7 4 rfl rfl)
theorem dX3_staysSmall_166 : decode cX3_staysSmall 166 = .ok (.aload_n 0, 1) := dk_42 (dk_at dksX3_staysSmall_7 5 rfl rfl)
theorem dX3_staysSmall_167 : decode cX3_staysSmall 167 = .ok (.getfield 18, 3) := dk_180 0 18 (dk_at dksX3_staysSmall_7 6 rfl rfl)
theorem dX3_staysSmall_170 : decode cX3_staysSmall 170 = .ok (.iload 7, 2) := dk_21 7 (dk_at dksX3_staysSmall_7 9 rfl rfl)
theorem dX3_staysSmall_172 : decode cX3_staysSmall 172 = .ok (.laload, 1) := dk_47 (dk_at dksX3_staysSmall_7 11 rfl rfl)
theorem dX3_staysSmall_173 : decode cX3_staysSmall 173 = .ok (.lload 5, 2) := dk_22 5 (dk_at dksX3_staysSmall_7 12 rfl rfl)
theorem dX3_staysSmall_175 : decode cX3_staysSmall 175 = .ok (.aload_n 0, 1) := dk_42 (dk_at dksX3_staysSmall_7 14 rfl rfl)
theorem dX3_staysSmall_176 : decode cX3_staysSmall 176 = .ok (.iload_n 1, 1) := dk_27 (dk_at dksX3_staysSmall_7 15 rfl rfl)
theorem dX3_staysSmall_177 : decode cX3_staysSmall 177 = .ok (.iload 7, 2) := dk_21 7 (dk_at dksX3_staysSmall_7 16 rfl rfl)
theorem dX3_staysSmall_179 : decode cX3_staysSmall 179 = .ok (.invokevirtual 88, 3) := dk_182 0 88 (dk_at dksX3_staysSmall_7 18 rfl rfl)
theorem dX3_staysSmall_182 : decode cX3_staysSmall 182 = .ok (.invokevirtual 92, 3) := dk_182 0 92 (dk_at dksX3_staysSmall_7 21 rfl rfl)
theorem dX3_staysSmall_185 : decode cX3_staysSmall 185 = .ok (.ldc2_w 96, 3) := dk_20 0 96 (dk_at dksX3_staysSmall_8 0 rfl rfl)
theorem dX3_staysSmall_188 : decode cX3_staysSmall 188 = .ok (.ldc2_w 98, 3) := dk_20 0 98 (dk_at dksX3_staysSmall_8 3 rfl rfl)
theorem dX3_staysSmall_191 : decode cX3_staysSmall 191 = .ok (.invokestatic 100, 3) := dk_184 0 100 (dk_at dksX3_staysSmall_8 6 rfl rfl)
theorem dX3_staysSmall_194 : decode cX3_staysSmall 194 = .ok (.ifCond .ne 5, 3) := dk_154 0 5 (dk_at dksX3_staysSmall_8 9 rfl rfl)
theorem dX3_staysSmall_197 : decode cX3_staysSmall 197 = .ok (.iconst 0, 1) := dk_3 (dk_at dksX3_staysSmall_8 12 rfl rfl)
theorem dX3_staysSmall_198 : decode cX3_staysSmall 198 = .ok (.ireturn, 1) := dk_172 (dk_at dksX3_staysSmall_8 13 rfl rfl)
theorem dX3_staysSmall_199 : decode cX3_staysSmall 199 = .ok (.iinc 7 1, 3) := dk_132 7 1 (dk_at dksX3_staysSmall_8 14 rfl rfl)
theorem dX3_staysSmall_202 : decode cX3_staysSmall 202 = .ok (.goto (-53), 3) := dk_167 255 203 (dk_at dksX3_staysSmall_8 17 rfl rfl)
theorem dX3_staysSmall_205 : decode cX3_staysSmall 205 = .ok (.aload_n 0, 1) := dk_42 (dk_at dksX3_staysSmall_8 20 rfl rfl)
theorem dX3_staysSmall_206 : decode cX3_staysSmall 206 = .ok (.lload_n 3, 1) := dk_33 (dk_at dksX3_staysSmall_8 21 rfl rfl)
theorem dX3_staysSmall_207 : decode cX3_staysSmall 207 = .ok (.aload_n 0, 1) := dk_42 (dk_at dksX3_staysSmall_8 22 rfl rfl)
theorem dX3_staysSmall_208 : decode cX3_staysSmall 208 = .ok (.getfield 55, 3) := dk_180 0 55 (dk_at dksX3_staysSmall_9 0 rfl rfl)
theorem dX3_staysSmall_211 : decode cX3_staysSmall 211 = .ok (.lload 5, 2) := dk_22 5 (dk_at dksX3_staysSmall_9 3 rfl rfl)
theorem dX3_staysSmall_213 : decode cX3_staysSmall 213 = .ok (.lneg, 1) := dk_117 (dk_at dksX3_staysSmall_9 5 rfl rfl)
theorem dX3_staysSmall_214 : decode cX3_staysSmall 214 = .ok (.aload_n 0, 1) := dk_42 (dk_at dksX3_staysSmall_9 6 rfl rfl)
theorem dX3_staysSmall_215 : decode cX3_staysSmall 215 = .ok (.getfield 15, 3) := dk_180 0 15 (dk_at dksX3_staysSmall_9 7 rfl rfl)
theorem dX3_staysSmall_218 : decode cX3_staysSmall 218 = .ok (.iload_n 1, 1) := dk_27 (dk_at dksX3_staysSmall_9 10 rfl rfl)
theorem dX3_staysSmall_219 : decode cX3_staysSmall 219 = .ok (.laload, 1) := dk_47 (dk_at dksX3_staysSmall_9 11 rfl rfl)
theorem dX3_staysSmall_220 : decode cX3_staysSmall 220 = .ok (.invokevirtual 92, 3) := dk_182 0 92 (dk_at dksX3_staysSmall_9 12 rfl rfl)
theorem dX3_staysSmall_223 : decode cX3_staysSmall 223 = .ok (.ldc2_w 96, 3) := dk_20 0 96 (dk_at dksX3_staysSmall_9 15 rfl rfl)
theorem dX3_staysSmall_226 : decode cX3_staysSmall 226 = .ok (.ldc2_w 98, 3) := dk_20 0 98 (dk_at dksX3_staysSmall_9 18 rfl rfl)
theorem dX3_staysSmall_229 : decode cX3_staysSmall 229 = .ok (.invokestatic 100, 3) := dk_184 0 100 (dk_at dksX3_staysSmall_9 21 rfl rfl)
theorem dX3_staysSmall_232 : decode cX3_staysSmall 232 = .ok (.ireturn, 1) := dk_172 (dk_at dksX3_staysSmall_10 0 rfl rfl)
abbrev cX3_mixed : ByteArray := prog_16_method_7_code
def yX3_mixed : MethodName := ⟨RX3, "mixed", "(JJJJ)J"⟩
def dkwX3_mixed_0 : List UInt8 := [31, 33, 105, 22, 5, 22, 7, 105, 97, 42, 180, 0, 51, 109, 173]
abbrev dktX3_mixed_0 : List UInt8 := dkwX3_mixed_0 ++ []
theorem dksX3_mixed_0 : cX3_mixed.data.toList.drop 0 = dktX3_mixed_0 := by decide +kernel
theorem dX3_mixed_0 : decode cX3_mixed 0 = .ok (.lload_n 1, 1) := dk_31 (dk_at dksX3_mixed_0 0 rfl rfl)
theorem dX3_mixed_1 : decode cX3_mixed 1 = .ok (.lload_n 3, 1) := dk_33 (dk_at dksX3_mixed_0 1 rfl rfl)
theorem dX3_mixed_2 : decode cX3_mixed 2 = .ok (.lmul, 1) := dk_105 (dk_at dksX3_mixed_0 2 rfl rfl)
theorem dX3_mixed_3 : decode cX3_mixed 3 = .ok (.lload 5, 2) := dk_22 5 (dk_at dksX3_mixed_0 3 rfl rfl)
theorem dX3_mixed_5 : decode cX3_mixed 5 = .ok (.lload 7, 2) := dk_22 7 (dk_at dksX3_mixed_0 5 rfl rfl)
theorem dX3_mixed_7 : decode cX3_mixed 7 = .ok (.lmul, 1) := dk_105 (dk_at dksX3_mixed_0 7 rfl rfl)
theorem dX3_mixed_8 : decode cX3_mixed 8 = .ok (.ladd, 1) := dk_97 (dk_at dksX3_mixed_0 8 rfl rfl)
theorem dX3_mixed_9 : decode cX3_mixed 9 = .ok (.aload_n 0, 1) := dk_42 (dk_at dksX3_mixed_0 9 rfl rfl)
theorem dX3_mixed_10 : decode cX3_mixed 10 = .ok (.getfield 51, 3) := dk_180 0 51 (dk_at dksX3_mixed_0 10 rfl rfl)
theorem dX3_mixed_13 : decode cX3_mixed 13 = .ok (.ldiv, 1) := dk_109 (dk_at dksX3_mixed_0 13 rfl rfl)
theorem dX3_mixed_14 : decode cX3_mixed 14 = .ok (.lreturn, 1) := dk_173 (dk_at dksX3_mixed_0 14 rfl rfl)
abbrev cX3_brokenRow : ByteArray := prog_16_method_15_code
def yX3_brokenRow : MethodName := ⟨RX3, "brokenRow", "()I"⟩
def dkwX3_brokenRow_2 : List UInt8 := [172]
abbrev dktX3_brokenRow_2 : List UInt8 := dkwX3_brokenRow_2 ++ []
def dkwX3_brokenRow_1 : List UInt8 := [180, 0, 15, 27, 47, 42, 180, 0, 51, 113, 9, 148, 153, 0, 5, 27, 172, 132, 1, 1, 167, 255, 214, 2]
abbrev dktX3_brokenRow_1 : List UInt8 := dkwX3_brokenRow_1 ++ dktX3_brokenRow_2
def dkwX3_brokenRow_0 : List UInt8 := [3, 60, 27, 42, 180, 0, 35, 162, 0, 40, 42, 42, 180, 0, 21, 27, 46, 182, 0, 129, 153, 0, 21, 42]
abbrev dktX3_brokenRow_0 : List UInt8 := dkwX3_brokenRow_0 ++ dktX3_brokenRow_1
theorem dksX3_brokenRow_0 : cX3_brokenRow.data.toList.drop 0 = dktX3_brokenRow_0 := by decide +kernel
theorem dksX3_brokenRow_1 : cX3_brokenRow.data.toList.drop 24 = dktX3_brokenRow_1 := dk_seg dksX3_brokenRow_0 24 rfl rfl
theorem dksX3_brokenRow_2 : cX3_brokenRow.data.toList.drop 48 = dktX3_brokenRow_2 := dk_seg dksX3_brokenRow_1 24 rfl rfl
theorem dX3_brokenRow_0 : decode cX3_brokenRow 0 = .ok (.iconst 0, 1) := dk_3 (dk_at dksX3_brokenRow_0 0 rfl rfl)
theorem dX3_brokenRow_1 : decode cX3_brokenRow 1 = .ok (.istore_n 1, 1) := dk_60 (dk_at dksX3_brokenRow_0 1 rfl rfl)
theorem dX3_brokenRow_2 : decode cX3_brokenRow 2 = .ok (.iload_n 1, 1) := dk_27 (dk_at dksX3_brokenRow_0 2 rfl rfl)
theorem dX3_brokenRow_3 : decode cX3_brokenRow 3 = .ok (.aload_n 0, 1) := dk_42 (dk_at dksX3_brokenRow_0 3 rfl rfl)
theorem dX3_brokenRow_4 : decode cX3_brokenRow 4 = .ok (.getfield 35, 3) := dk_180 0 35 (dk_at dksX3_brokenRow_0 4 rfl rfl)
theorem dX3_brokenRow_7 : decode cX3_brokenRow 7 = .ok (.if_icmp .ge 40, 3) := dk_162 0 40 (dk_at dksX3_brokenRow_0 7 rfl rfl)
theorem dX3_brokenRow_10 : decode cX3_brokenRow 10 = .ok (.aload_n 0, 1) := dk_42 (dk_at dksX3_brokenRow_0 10 rfl rfl)
theorem dX3_brokenRow_11 : decode cX3_brokenRow 11 = .ok (.aload_n 0, 1) := dk_42 (dk_at dksX3_brokenRow_0 11 rfl rfl)
theorem dX3_brokenRow_12 : decode cX3_brokenRow 12 = .ok (.getfield 21, 3) := dk_180 0 21 (dk_at dksX3_brokenRow_0 12 rfl rfl)
theorem dX3_brokenRow_15 : decode cX3_brokenRow 15 = .ok (.iload_n 1, 1) := dk_27 (dk_at dksX3_brokenRow_0 15 rfl rfl)
theorem dX3_brokenRow_16 : decode cX3_brokenRow 16 = .ok (.iaload, 1) := dk_46 (dk_at dksX3_brokenRow_0 16 rfl rfl)
theorem dX3_brokenRow_17 : decode cX3_brokenRow 17 = .ok (.invokevirtual 129, 3) := dk_182 0 129 (dk_at dksX3_brokenRow_0 17 rfl rfl)
theorem dX3_brokenRow_20 : decode cX3_brokenRow 20 = .ok (.ifCond .eq 21, 3) := dk_153 0 21 (dk_at dksX3_brokenRow_0 20 rfl rfl)
theorem dX3_brokenRow_23 : decode cX3_brokenRow 23 = .ok (.aload_n 0, 1) := dk_42 (dk_at dksX3_brokenRow_0 23 rfl rfl)
theorem dX3_brokenRow_24 : decode cX3_brokenRow 24 = .ok (.getfield 15, 3) := dk_180 0 15 (dk_at dksX3_brokenRow_1 0 rfl rfl)
theorem dX3_brokenRow_27 : decode cX3_brokenRow 27 = .ok (.iload_n 1, 1) := dk_27 (dk_at dksX3_brokenRow_1 3 rfl rfl)
theorem dX3_brokenRow_28 : decode cX3_brokenRow 28 = .ok (.laload, 1) := dk_47 (dk_at dksX3_brokenRow_1 4 rfl rfl)
theorem dX3_brokenRow_29 : decode cX3_brokenRow 29 = .ok (.aload_n 0, 1) := dk_42 (dk_at dksX3_brokenRow_1 5 rfl rfl)
theorem dX3_brokenRow_30 : decode cX3_brokenRow 30 = .ok (.getfield 51, 3) := dk_180 0 51 (dk_at dksX3_brokenRow_1 6 rfl rfl)
theorem dX3_brokenRow_33 : decode cX3_brokenRow 33 = .ok (.lrem, 1) := dk_113 (dk_at dksX3_brokenRow_1 9 rfl rfl)
theorem dX3_brokenRow_34 : decode cX3_brokenRow 34 = .ok (.lconst 0, 1) := dk_9 (dk_at dksX3_brokenRow_1 10 rfl rfl)
theorem dX3_brokenRow_35 : decode cX3_brokenRow 35 = .ok (.lcmp, 1) := dk_148 (dk_at dksX3_brokenRow_1 11 rfl rfl)
theorem dX3_brokenRow_36 : decode cX3_brokenRow 36 = .ok (.ifCond .eq 5, 3) := dk_153 0 5 (dk_at dksX3_brokenRow_1 12 rfl rfl)
theorem dX3_brokenRow_39 : decode cX3_brokenRow 39 = .ok (.iload_n 1, 1) := dk_27 (dk_at dksX3_brokenRow_1 15 rfl rfl)
theorem dX3_brokenRow_40 : decode cX3_brokenRow 40 = .ok (.ireturn, 1) := dk_172 (dk_at dksX3_brokenRow_1 16 rfl rfl)
theorem dX3_brokenRow_41 : decode cX3_brokenRow 41 = .ok (.iinc 1 1, 3) := dk_132 1 1 (dk_at dksX3_brokenRow_1 17 rfl rfl)
theorem dX3_brokenRow_44 : decode cX3_brokenRow 44 = .ok (.goto (-42), 3) := dk_167 255 214 (dk_at dksX3_brokenRow_1 20 rfl rfl)
theorem dX3_brokenRow_47 : decode cX3_brokenRow 47 = .ok (.iconst (-1), 1) := dk_2 (dk_at dksX3_brokenRow_1 23 rfl rfl)
theorem dX3_brokenRow_48 : decode cX3_brokenRow 48 = .ok (.ireturn, 1) := dk_172 (dk_at dksX3_brokenRow_2 0 rfl rfl)
abbrev cX3_isPack : ByteArray := prog_16_method_14_code
def yX3_isPack : MethodName := ⟨RX3, "isPack", "(I)Z"⟩
def dkwX3_isPack_0 : List UInt8 := [27, 16, 10, 162, 0, 7, 4, 167, 0, 4, 3, 172]
abbrev dktX3_isPack_0 : List UInt8 := dkwX3_isPack_0 ++ []
theorem dksX3_isPack_0 : cX3_isPack.data.toList.drop 0 = dktX3_isPack_0 := by decide +kernel
theorem dX3_isPack_0 : decode cX3_isPack 0 = .ok (.iload_n 1, 1) := dk_27 (dk_at dksX3_isPack_0 0 rfl rfl)
theorem dX3_isPack_1 : decode cX3_isPack 1 = .ok (.bipush 10, 2) := dk_16 10 (dk_at dksX3_isPack_0 1 rfl rfl)
theorem dX3_isPack_3 : decode cX3_isPack 3 = .ok (.if_icmp .ge 7, 3) := dk_162 0 7 (dk_at dksX3_isPack_0 3 rfl rfl)
theorem dX3_isPack_6 : decode cX3_isPack 6 = .ok (.iconst 1, 1) := dk_4 (dk_at dksX3_isPack_0 6 rfl rfl)
theorem dX3_isPack_7 : decode cX3_isPack 7 = .ok (.goto 4, 3) := dk_167 0 4 (dk_at dksX3_isPack_0 7 rfl rfl)
theorem dX3_isPack_10 : decode cX3_isPack 10 = .ok (.iconst 0, 1) := dk_3 (dk_at dksX3_isPack_0 10 rfl rfl)
theorem dX3_isPack_11 : decode cX3_isPack 11 = .ok (.ireturn, 1) := dk_172 (dk_at dksX3_isPack_0 11 rfl rfl)
abbrev cX3_cuts : ByteArray := prog_16_method_17_code
def yX3_cuts : MethodName := ⟨RX3, "cuts", "(ILWholePacks$Desk;)V"⟩
def dkwX3_cuts_10 : List UInt8 := [167, 255, 221, 42, 89, 180, 0, 48, 4, 96, 181, 0, 48, 177]
abbrev dktX3_cuts_10 : List UInt8 := dkwX3_cuts_10 ++ []
def dkwX3_cuts_9 : List UInt8 := [21, 5, 42, 27, 21, 5, 182, 0, 88, 42, 180, 0, 51, 184, 0, 158, 117, 182, 0, 82, 132, 5, 1]
abbrev dktX3_cuts_9 : List UInt8 := dkwX3_cuts_9 ++ dktX3_cuts_10
def dkwX3_cuts_8 : List UInt8 := [184, 0, 158, 117, 182, 0, 74, 54, 4, 3, 54, 5, 21, 5, 42, 180, 0, 44, 162, 0, 32, 42, 21, 4]
abbrev dktX3_cuts_8 : List UInt8 := dkwX3_cuts_8 ++ dktX3_cuts_9
def dkwX3_cuts_7 : List UInt8 := [183, 0, 110, 191, 42, 16, 20, 42, 180, 0, 48, 96, 42, 180, 0, 15, 27, 47, 42, 180, 0, 51]
abbrev dktX3_cuts_7 : List UInt8 := dkwX3_cuts_7 ++ dktX3_cuts_8
def dkwX3_cuts_6 : List UInt8 := [184, 0, 158, 80, 132, 4, 1, 167, 255, 162, 45, 182, 0, 161, 154, 0, 13, 187, 0, 108, 89, 16, 250]
abbrev dktX3_cuts_6 : List UInt8 := dkwX3_cuts_6 ++ dktX3_cuts_7
def dkwX3_cuts_5 : List UInt8 := [167, 0, 11, 16, 8, 21, 5, 96, 16, 20, 100, 42, 27, 21, 4, 182, 0, 88, 42, 180, 0, 51]
abbrev dktX3_cuts_5 : List UInt8 := dkwX3_cuts_5 ++ dktX3_cuts_6
def dkwX3_cuts_4 : List UInt8 := [21, 5, 182, 0, 129, 154, 0, 45, 45, 180, 0, 155, 21, 5, 16, 20, 162, 0, 11, 21, 5, 16, 10, 100]
abbrev dktX3_cuts_4 : List UInt8 := dkwX3_cuts_4 ++ dktX3_cuts_5
def dkwX3_cuts_3 : List UInt8 := [42, 45, 21, 5, 42, 27, 21, 4, 182, 0, 88, 42, 180, 0, 51, 184, 0, 145, 44, 182, 0, 151, 42]
abbrev dktX3_cuts_3 : List UInt8 := dkwX3_cuts_3 ++ dktX3_cuts_4
def dkwX3_cuts_2 : List UInt8 := [181, 0, 139, 3, 54, 4, 21, 4, 42, 180, 0, 44, 162, 0, 91, 42, 180, 0, 25, 21, 4, 46, 54, 5]
abbrev dktX3_cuts_2 : List UInt8 := dkwX3_cuts_2 ++ dktX3_cuts_3
def dkwX3_cuts_1 : List UInt8 := [42, 180, 0, 21, 27, 46, 10, 182, 0, 133, 45, 42, 180, 0, 15, 27, 47, 42, 180, 0, 51, 184, 0, 145]
abbrev dktX3_cuts_1 : List UInt8 := dkwX3_cuts_1 ++ dktX3_cuts_2
def dkwX3_cuts_0 : List UInt8 := [42, 180, 0, 30, 42, 180, 0, 48, 50, 78, 45, 182, 0, 141, 45, 42, 180, 0, 51, 181, 0, 144, 45, 10]
abbrev dktX3_cuts_0 : List UInt8 := dkwX3_cuts_0 ++ dktX3_cuts_1
theorem dksX3_cuts_0 : cX3_cuts.data.toList.drop 0 = dktX3_cuts_0 := by decide +kernel
theorem dksX3_cuts_1 : cX3_cuts.data.toList.drop 24 = dktX3_cuts_1 := dk_seg dksX3_cuts_0 24 rfl rfl
theorem dksX3_cuts_2 : cX3_cuts.data.toList.drop 48 = dktX3_cuts_2 := dk_seg dksX3_cuts_1 24 rfl rfl
theorem dksX3_cuts_3 : cX3_cuts.data.toList.drop 72 = dktX3_cuts_3 := dk_seg dksX3_cuts_2 24 rfl rfl
theorem dksX3_cuts_4 : cX3_cuts.data.toList.drop 95 = dktX3_cuts_4 := dk_seg dksX3_cuts_3 23 rfl rfl
theorem dksX3_cuts_5 : cX3_cuts.data.toList.drop 119 = dktX3_cuts_5 := dk_seg dksX3_cuts_4 24 rfl rfl
theorem dksX3_cuts_6 : cX3_cuts.data.toList.drop 141 = dktX3_cuts_6 := dk_seg dksX3_cuts_5 22 rfl rfl
theorem dksX3_cuts_7 : cX3_cuts.data.toList.drop 164 = dktX3_cuts_7 := dk_seg dksX3_cuts_6 23 rfl rfl
theorem dksX3_cuts_8 : cX3_cuts.data.toList.drop 186 = dktX3_cuts_8 := dk_seg dksX3_cuts_7 22 rfl rfl
theorem dksX3_cuts_9 : cX3_cuts.data.toList.drop 210 = dktX3_cuts_9 := dk_seg dksX3_cuts_8 24 rfl rfl
theorem dksX3_cuts_10 : cX3_cuts.data.toList.drop 233 = dktX3_cuts_10 := dk_seg dksX3_cuts_9 23 rfl rfl
theorem dX3_cuts_0 : decode cX3_cuts 0 = .ok (.aload_n 0, 1) := dk_42 (dk_at dksX3_cuts_0 0 rfl rfl)
theorem dX3_cuts_1 : decode cX3_cuts 1 = .ok (.getfield 30, 3) := dk_180 0 30 (dk_at dksX3_cuts_0 1 rfl rfl)
theorem dX3_cuts_4 : decode cX3_cuts 4 = .ok (.aload_n 0, 1) := dk_42 (dk_at dksX3_cuts_0 4 rfl rfl)
theorem dX3_cuts_5 : decode cX3_cuts 5 = .ok (.getfield 48, 3) := dk_180 0 48 (dk_at dksX3_cuts_0 5 rfl rfl)
theorem dX3_cuts_8 : decode cX3_cuts 8 = .ok (.aaload, 1) := dk_50 (dk_at dksX3_cuts_0 8 rfl rfl)
theorem dX3_cuts_9 : decode cX3_cuts 9 = .ok (.astore_n 3, 1) := dk_78 (dk_at dksX3_cuts_0 9 rfl rfl)
theorem dX3_cuts_10 : decode cX3_cuts 10 = .ok (.aload_n 3, 1) := dk_45 (dk_at dksX3_cuts_0 10 rfl rfl)
theorem dX3_cuts_11 : decode cX3_cuts 11 = .ok (.invokevirtual 141, 3) := dk_182 0 141 (dk_at dksX3_cuts_0 11 rfl rfl)
theorem dX3_cuts_14 : decode cX3_cuts 14 = .ok (.aload_n 3, 1) := dk_45 (dk_at dksX3_cuts_0 14 rfl rfl)
theorem dX3_cuts_15 : decode cX3_cuts 15 = .ok (.aload_n 0, 1) := dk_42 (dk_at dksX3_cuts_0 15 rfl rfl)
theorem dX3_cuts_16 : decode cX3_cuts 16 = .ok (.getfield 51, 3) := dk_180 0 51 (dk_at dksX3_cuts_0 16 rfl rfl)
theorem dX3_cuts_19 : decode cX3_cuts 19 = .ok (.putfield 144, 3) := dk_181 0 144 (dk_at dksX3_cuts_0 19 rfl rfl)
theorem dX3_cuts_22 : decode cX3_cuts 22 = .ok (.aload_n 3, 1) := dk_45 (dk_at dksX3_cuts_0 22 rfl rfl)
theorem dX3_cuts_23 : decode cX3_cuts 23 = .ok (.lconst 1, 1) := dk_10 (dk_at dksX3_cuts_0 23 rfl rfl)
theorem dX3_cuts_24 : decode cX3_cuts 24 = .ok (.aload_n 0, 1) := dk_42 (dk_at dksX3_cuts_1 0 rfl rfl)
theorem dX3_cuts_25 : decode cX3_cuts 25 = .ok (.getfield 21, 3) := dk_180 0 21 (dk_at dksX3_cuts_1 1 rfl rfl)
theorem dX3_cuts_28 : decode cX3_cuts 28 = .ok (.iload_n 1, 1) := dk_27 (dk_at dksX3_cuts_1 4 rfl rfl)
theorem dX3_cuts_29 : decode cX3_cuts 29 = .ok (.iaload, 1) := dk_46 (dk_at dksX3_cuts_1 5 rfl rfl)
theorem dX3_cuts_30 : decode cX3_cuts 30 = .ok (.lconst 1, 1) := dk_10 (dk_at dksX3_cuts_1 6 rfl rfl)
theorem dX3_cuts_31 : decode cX3_cuts 31 = .ok (.invokevirtual 133, 3) := dk_182 0 133 (dk_at dksX3_cuts_1 7 rfl rfl)
theorem dX3_cuts_34 : decode cX3_cuts 34 = .ok (.aload_n 3, 1) := dk_45 (dk_at dksX3_cuts_1 10 rfl rfl)
theorem dX3_cuts_35 : decode cX3_cuts 35 = .ok (.aload_n 0, 1) := dk_42 (dk_at dksX3_cuts_1 11 rfl rfl)
theorem dX3_cuts_36 : decode cX3_cuts 36 = .ok (.getfield 15, 3) := dk_180 0 15 (dk_at dksX3_cuts_1 12 rfl rfl)
theorem dX3_cuts_39 : decode cX3_cuts 39 = .ok (.iload_n 1, 1) := dk_27 (dk_at dksX3_cuts_1 15 rfl rfl)
theorem dX3_cuts_40 : decode cX3_cuts 40 = .ok (.laload, 1) := dk_47 (dk_at dksX3_cuts_1 16 rfl rfl)
theorem dX3_cuts_41 : decode cX3_cuts 41 = .ok (.aload_n 0, 1) := dk_42 (dk_at dksX3_cuts_1 17 rfl rfl)
theorem dX3_cuts_42 : decode cX3_cuts 42 = .ok (.getfield 51, 3) := dk_180 0 51 (dk_at dksX3_cuts_1 18 rfl rfl)
theorem dX3_cuts_45 : decode cX3_cuts 45 = .ok (.invokestatic 145, 3) := dk_184 0 145 (dk_at dksX3_cuts_1 21 rfl rfl)
theorem dX3_cuts_48 : decode cX3_cuts 48 = .ok (.putfield 139, 3) := dk_181 0 139 (dk_at dksX3_cuts_2 0 rfl rfl)
theorem dX3_cuts_51 : decode cX3_cuts 51 = .ok (.iconst 0, 1) := dk_3 (dk_at dksX3_cuts_2 3 rfl rfl)
theorem dX3_cuts_52 : decode cX3_cuts 52 = .ok (.istore 4, 2) := dk_54 4 (dk_at dksX3_cuts_2 4 rfl rfl)
theorem dX3_cuts_54 : decode cX3_cuts 54 = .ok (.iload 4, 2) := dk_21 4 (dk_at dksX3_cuts_2 6 rfl rfl)
theorem dX3_cuts_56 : decode cX3_cuts 56 = .ok (.aload_n 0, 1) := dk_42 (dk_at dksX3_cuts_2 8 rfl rfl)
theorem dX3_cuts_57 : decode cX3_cuts 57 = .ok (.getfield 44, 3) := dk_180 0 44 (dk_at dksX3_cuts_2 9 rfl rfl)
theorem dX3_cuts_60 : decode cX3_cuts 60 = .ok (.if_icmp .ge 91, 3) := dk_162 0 91 (dk_at dksX3_cuts_2 12 rfl rfl)
theorem dX3_cuts_63 : decode cX3_cuts 63 = .ok (.aload_n 0, 1) := dk_42 (dk_at dksX3_cuts_2 15 rfl rfl)
theorem dX3_cuts_64 : decode cX3_cuts 64 = .ok (.getfield 25, 3) := dk_180 0 25 (dk_at dksX3_cuts_2 16 rfl rfl)
theorem dX3_cuts_67 : decode cX3_cuts 67 = .ok (.iload 4, 2) := dk_21 4 (dk_at dksX3_cuts_2 19 rfl rfl)
theorem dX3_cuts_69 : decode cX3_cuts 69 = .ok (.iaload, 1) := dk_46 (dk_at dksX3_cuts_2 21 rfl rfl)
theorem dX3_cuts_70 : decode cX3_cuts 70 = .ok (.istore 5, 2) := dk_54 5 (dk_at dksX3_cuts_2 22 rfl rfl)
theorem dX3_cuts_72 : decode cX3_cuts 72 = .ok (.aload_n 0, 1) := dk_42 (dk_at dksX3_cuts_3 0 rfl rfl)
theorem dX3_cuts_73 : decode cX3_cuts 73 = .ok (.aload_n 3, 1) := dk_45 (dk_at dksX3_cuts_3 1 rfl rfl)
theorem dX3_cuts_74 : decode cX3_cuts 74 = .ok (.iload 5, 2) := dk_21 5 (dk_at dksX3_cuts_3 2 rfl rfl)
theorem dX3_cuts_76 : decode cX3_cuts 76 = .ok (.aload_n 0, 1) := dk_42 (dk_at dksX3_cuts_3 4 rfl rfl)
theorem dX3_cuts_77 : decode cX3_cuts 77 = .ok (.iload_n 1, 1) := dk_27 (dk_at dksX3_cuts_3 5 rfl rfl)
theorem dX3_cuts_78 : decode cX3_cuts 78 = .ok (.iload 4, 2) := dk_21 4 (dk_at dksX3_cuts_3 6 rfl rfl)
theorem dX3_cuts_80 : decode cX3_cuts 80 = .ok (.invokevirtual 88, 3) := dk_182 0 88 (dk_at dksX3_cuts_3 8 rfl rfl)
theorem dX3_cuts_83 : decode cX3_cuts 83 = .ok (.aload_n 0, 1) := dk_42 (dk_at dksX3_cuts_3 11 rfl rfl)
theorem dX3_cuts_84 : decode cX3_cuts 84 = .ok (.getfield 51, 3) := dk_180 0 51 (dk_at dksX3_cuts_3 12 rfl rfl)
theorem dX3_cuts_87 : decode cX3_cuts 87 = .ok (.invokestatic 145, 3) := dk_184 0 145 (dk_at dksX3_cuts_3 15 rfl rfl)
theorem dX3_cuts_90 : decode cX3_cuts 90 = .ok (.aload_n 2, 1) := dk_44 (dk_at dksX3_cuts_3 18 rfl rfl)
theorem dX3_cuts_91 : decode cX3_cuts 91 = .ok (.invokevirtual 151, 3) := dk_182 0 151 (dk_at dksX3_cuts_3 19 rfl rfl)
theorem dX3_cuts_94 : decode cX3_cuts 94 = .ok (.aload_n 0, 1) := dk_42 (dk_at dksX3_cuts_3 22 rfl rfl)
theorem dX3_cuts_95 : decode cX3_cuts 95 = .ok (.iload 5, 2) := dk_21 5 (dk_at dksX3_cuts_4 0 rfl rfl)
theorem dX3_cuts_97 : decode cX3_cuts 97 = .ok (.invokevirtual 129, 3) := dk_182 0 129 (dk_at dksX3_cuts_4 2 rfl rfl)
theorem dX3_cuts_100 : decode cX3_cuts 100 = .ok (.ifCond .ne 45, 3) := dk_154 0 45 (dk_at dksX3_cuts_4 5 rfl rfl)
theorem dX3_cuts_103 : decode cX3_cuts 103 = .ok (.aload_n 3, 1) := dk_45 (dk_at dksX3_cuts_4 8 rfl rfl)
theorem dX3_cuts_104 : decode cX3_cuts 104 = .ok (.getfield 155, 3) := dk_180 0 155 (dk_at dksX3_cuts_4 9 rfl rfl)
theorem dX3_cuts_107 : decode cX3_cuts 107 = .ok (.iload 5, 2) := dk_21 5 (dk_at dksX3_cuts_4 12 rfl rfl)
theorem dX3_cuts_109 : decode cX3_cuts 109 = .ok (.bipush 20, 2) := dk_16 20 (dk_at dksX3_cuts_4 14 rfl rfl)
theorem dX3_cuts_111 : decode cX3_cuts 111 = .ok (.if_icmp .ge 11, 3) := dk_162 0 11 (dk_at dksX3_cuts_4 16 rfl rfl)
theorem dX3_cuts_114 : decode cX3_cuts 114 = .ok (.iload 5, 2) := dk_21 5 (dk_at dksX3_cuts_4 19 rfl rfl)
theorem dX3_cuts_116 : decode cX3_cuts 116 = .ok (.bipush 10, 2) := dk_16 10 (dk_at dksX3_cuts_4 21 rfl rfl)
theorem dX3_cuts_118 : decode cX3_cuts 118 = .ok (.isub, 1) := dk_100 (dk_at dksX3_cuts_4 23 rfl rfl)
theorem dX3_cuts_119 : decode cX3_cuts 119 = .ok (.goto 11, 3) := dk_167 0 11 (dk_at dksX3_cuts_5 0 rfl rfl)
theorem dX3_cuts_122 : decode cX3_cuts 122 = .ok (.bipush 8, 2) := dk_16 8 (dk_at dksX3_cuts_5 3 rfl rfl)
theorem dX3_cuts_124 : decode cX3_cuts 124 = .ok (.iload 5, 2) := dk_21 5 (dk_at dksX3_cuts_5 5 rfl rfl)
theorem dX3_cuts_126 : decode cX3_cuts 126 = .ok (.iadd, 1) := dk_96 (dk_at dksX3_cuts_5 7 rfl rfl)
theorem dX3_cuts_127 : decode cX3_cuts 127 = .ok (.bipush 20, 2) := dk_16 20 (dk_at dksX3_cuts_5 8 rfl rfl)
theorem dX3_cuts_129 : decode cX3_cuts 129 = .ok (.isub, 1) := dk_100 (dk_at dksX3_cuts_5 10 rfl rfl)
theorem dX3_cuts_130 : decode cX3_cuts 130 = .ok (.aload_n 0, 1) := dk_42 (dk_at dksX3_cuts_5 11 rfl rfl)
theorem dX3_cuts_131 : decode cX3_cuts 131 = .ok (.iload_n 1, 1) := dk_27 (dk_at dksX3_cuts_5 12 rfl rfl)
theorem dX3_cuts_132 : decode cX3_cuts 132 = .ok (.iload 4, 2) := dk_21 4 (dk_at dksX3_cuts_5 13 rfl rfl)
theorem dX3_cuts_134 : decode cX3_cuts 134 = .ok (.invokevirtual 88, 3) := dk_182 0 88 (dk_at dksX3_cuts_5 15 rfl rfl)
theorem dX3_cuts_137 : decode cX3_cuts 137 = .ok (.aload_n 0, 1) := dk_42 (dk_at dksX3_cuts_5 18 rfl rfl)
theorem dX3_cuts_138 : decode cX3_cuts 138 = .ok (.getfield 51, 3) := dk_180 0 51 (dk_at dksX3_cuts_5 19 rfl rfl)
theorem dX3_cuts_141 : decode cX3_cuts 141 = .ok (.invokestatic 158, 3) := dk_184 0 158 (dk_at dksX3_cuts_6 0 rfl rfl)
theorem dX3_cuts_144 : decode cX3_cuts 144 = .ok (.lastore, 1) := dk_80 (dk_at dksX3_cuts_6 3 rfl rfl)
theorem dX3_cuts_145 : decode cX3_cuts 145 = .ok (.iinc 4 1, 3) := dk_132 4 1 (dk_at dksX3_cuts_6 4 rfl rfl)
theorem dX3_cuts_148 : decode cX3_cuts 148 = .ok (.goto (-94), 3) := dk_167 255 162 (dk_at dksX3_cuts_6 7 rfl rfl)
theorem dX3_cuts_151 : decode cX3_cuts 151 = .ok (.aload_n 3, 1) := dk_45 (dk_at dksX3_cuts_6 10 rfl rfl)
theorem dX3_cuts_152 : decode cX3_cuts 152 = .ok (.invokevirtual 161, 3) := dk_182 0 161 (dk_at dksX3_cuts_6 11 rfl rfl)
theorem dX3_cuts_155 : decode cX3_cuts 155 = .ok (.ifCond .ne 13, 3) := dk_154 0 13 (dk_at dksX3_cuts_6 14 rfl rfl)
theorem dX3_cuts_158 : decode cX3_cuts 158 = .ok (.new 108, 3) := dk_187 0 108 (dk_at dksX3_cuts_6 17 rfl rfl)
theorem dX3_cuts_161 : decode cX3_cuts 161 = .ok (.dup, 1) := dk_89 (dk_at dksX3_cuts_6 20 rfl rfl)
theorem dX3_cuts_162 : decode cX3_cuts 162 = .ok (.bipush (-6), 2) := dk_16 250 (dk_at dksX3_cuts_6 21 rfl rfl)
theorem dX3_cuts_164 : decode cX3_cuts 164 = .ok (.invokespecial 110, 3) := dk_183 0 110 (dk_at dksX3_cuts_7 0 rfl rfl)
theorem dX3_cuts_167 : decode cX3_cuts 167 = .ok (.athrow, 1) := dk_191 (dk_at dksX3_cuts_7 3 rfl rfl)
theorem dX3_cuts_168 : decode cX3_cuts 168 = .ok (.aload_n 0, 1) := dk_42 (dk_at dksX3_cuts_7 4 rfl rfl)
theorem dX3_cuts_169 : decode cX3_cuts 169 = .ok (.bipush 20, 2) := dk_16 20 (dk_at dksX3_cuts_7 5 rfl rfl)
theorem dX3_cuts_171 : decode cX3_cuts 171 = .ok (.aload_n 0, 1) := dk_42 (dk_at dksX3_cuts_7 7 rfl rfl)
theorem dX3_cuts_172 : decode cX3_cuts 172 = .ok (.getfield 48, 3) := dk_180 0 48 (dk_at dksX3_cuts_7 8 rfl rfl)
theorem dX3_cuts_175 : decode cX3_cuts 175 = .ok (.iadd, 1) := dk_96 (dk_at dksX3_cuts_7 11 rfl rfl)
theorem dX3_cuts_176 : decode cX3_cuts 176 = .ok (.aload_n 0, 1) := dk_42 (dk_at dksX3_cuts_7 12 rfl rfl)
theorem dX3_cuts_177 : decode cX3_cuts 177 = .ok (.getfield 15, 3) := dk_180 0 15 (dk_at dksX3_cuts_7 13 rfl rfl)
theorem dX3_cuts_180 : decode cX3_cuts 180 = .ok (.iload_n 1, 1) := dk_27 (dk_at dksX3_cuts_7 16 rfl rfl)
theorem dX3_cuts_181 : decode cX3_cuts 181 = .ok (.laload, 1) := dk_47 (dk_at dksX3_cuts_7 17 rfl rfl)
theorem dX3_cuts_182 : decode cX3_cuts 182 = .ok (.aload_n 0, 1) := dk_42 (dk_at dksX3_cuts_7 18 rfl rfl)
theorem dX3_cuts_183 : decode cX3_cuts 183 = .ok (.getfield 51, 3) := dk_180 0 51 (dk_at dksX3_cuts_7 19 rfl rfl)
theorem dX3_cuts_186 : decode cX3_cuts 186 = .ok (.invokestatic 158, 3) := dk_184 0 158 (dk_at dksX3_cuts_8 0 rfl rfl)
theorem dX3_cuts_189 : decode cX3_cuts 189 = .ok (.lneg, 1) := dk_117 (dk_at dksX3_cuts_8 3 rfl rfl)
theorem dX3_cuts_190 : decode cX3_cuts 190 = .ok (.invokevirtual 74, 3) := dk_182 0 74 (dk_at dksX3_cuts_8 4 rfl rfl)
theorem dX3_cuts_193 : decode cX3_cuts 193 = .ok (.istore 4, 2) := dk_54 4 (dk_at dksX3_cuts_8 7 rfl rfl)
theorem dX3_cuts_195 : decode cX3_cuts 195 = .ok (.iconst 0, 1) := dk_3 (dk_at dksX3_cuts_8 9 rfl rfl)
theorem dX3_cuts_196 : decode cX3_cuts 196 = .ok (.istore 5, 2) := dk_54 5 (dk_at dksX3_cuts_8 10 rfl rfl)
theorem dX3_cuts_198 : decode cX3_cuts 198 = .ok (.iload 5, 2) := dk_21 5 (dk_at dksX3_cuts_8 12 rfl rfl)
theorem dX3_cuts_200 : decode cX3_cuts 200 = .ok (.aload_n 0, 1) := dk_42 (dk_at dksX3_cuts_8 14 rfl rfl)
theorem dX3_cuts_201 : decode cX3_cuts 201 = .ok (.getfield 44, 3) := dk_180 0 44 (dk_at dksX3_cuts_8 15 rfl rfl)
theorem dX3_cuts_204 : decode cX3_cuts 204 = .ok (.if_icmp .ge 32, 3) := dk_162 0 32 (dk_at dksX3_cuts_8 18 rfl rfl)
theorem dX3_cuts_207 : decode cX3_cuts 207 = .ok (.aload_n 0, 1) := dk_42 (dk_at dksX3_cuts_8 21 rfl rfl)
theorem dX3_cuts_208 : decode cX3_cuts 208 = .ok (.iload 4, 2) := dk_21 4 (dk_at dksX3_cuts_8 22 rfl rfl)
theorem dX3_cuts_210 : decode cX3_cuts 210 = .ok (.iload 5, 2) := dk_21 5 (dk_at dksX3_cuts_9 0 rfl rfl)
theorem dX3_cuts_212 : decode cX3_cuts 212 = .ok (.aload_n 0, 1) := dk_42 (dk_at dksX3_cuts_9 2 rfl rfl)
theorem dX3_cuts_213 : decode cX3_cuts 213 = .ok (.iload_n 1, 1) := dk_27 (dk_at dksX3_cuts_9 3 rfl rfl)
theorem dX3_cuts_214 : decode cX3_cuts 214 = .ok (.iload 5, 2) := dk_21 5 (dk_at dksX3_cuts_9 4 rfl rfl)
theorem dX3_cuts_216 : decode cX3_cuts 216 = .ok (.invokevirtual 88, 3) := dk_182 0 88 (dk_at dksX3_cuts_9 6 rfl rfl)
theorem dX3_cuts_219 : decode cX3_cuts 219 = .ok (.aload_n 0, 1) := dk_42 (dk_at dksX3_cuts_9 9 rfl rfl)
theorem dX3_cuts_220 : decode cX3_cuts 220 = .ok (.getfield 51, 3) := dk_180 0 51 (dk_at dksX3_cuts_9 10 rfl rfl)
theorem dX3_cuts_223 : decode cX3_cuts 223 = .ok (.invokestatic 158, 3) := dk_184 0 158 (dk_at dksX3_cuts_9 13 rfl rfl)
theorem dX3_cuts_226 : decode cX3_cuts 226 = .ok (.lneg, 1) := dk_117 (dk_at dksX3_cuts_9 16 rfl rfl)
theorem dX3_cuts_227 : decode cX3_cuts 227 = .ok (.invokevirtual 82, 3) := dk_182 0 82 (dk_at dksX3_cuts_9 17 rfl rfl)
theorem dX3_cuts_230 : decode cX3_cuts 230 = .ok (.iinc 5 1, 3) := dk_132 5 1 (dk_at dksX3_cuts_9 20 rfl rfl)
theorem dX3_cuts_233 : decode cX3_cuts 233 = .ok (.goto (-35), 3) := dk_167 255 221 (dk_at dksX3_cuts_10 0 rfl rfl)
theorem dX3_cuts_236 : decode cX3_cuts 236 = .ok (.aload_n 0, 1) := dk_42 (dk_at dksX3_cuts_10 3 rfl rfl)
theorem dX3_cuts_237 : decode cX3_cuts 237 = .ok (.dup, 1) := dk_89 (dk_at dksX3_cuts_10 4 rfl rfl)
theorem dX3_cuts_238 : decode cX3_cuts 238 = .ok (.getfield 48, 3) := dk_180 0 48 (dk_at dksX3_cuts_10 5 rfl rfl)
theorem dX3_cuts_241 : decode cX3_cuts 241 = .ok (.iconst 1, 1) := dk_4 (dk_at dksX3_cuts_10 8 rfl rfl)
theorem dX3_cuts_242 : decode cX3_cuts 242 = .ok (.iadd, 1) := dk_96 (dk_at dksX3_cuts_10 9 rfl rfl)
theorem dX3_cuts_243 : decode cX3_cuts 243 = .ok (.putfield 48, 3) := dk_181 0 48 (dk_at dksX3_cuts_10 10 rfl rfl)
theorem dX3_cuts_246 : decode cX3_cuts 246 = .ok (.return_, 1) := dk_177 (dk_at dksX3_cuts_10 13 rfl rfl)
abbrev cX3_tells : ByteArray := prog_16_method_16_code
def yX3_tells : MethodName := ⟨RX3, "tells", "(LWholePacks$Cut;IJLWholePacks$Desk;)V"⟩
def dkwX3_tells_6 : List UInt8 := [180, 0, 139, 105, 101, 181, 0, 139, 177]
abbrev dktX3_tells_6 : List UInt8 := dkwX3_tells_6 ++ []
def dkwX3_tells_5 : List UInt8 := [167, 255, 213, 43, 89, 180, 0, 139, 33, 21, 6, 153, 0, 11, 25, 7, 182, 0, 68, 167, 0, 8, 25, 8]
abbrev dktX3_tells_5 : List UInt8 := dkwX3_tells_5 ++ dktX3_tells_6
def dkwX3_tells_4 : List UInt8 := [21, 9, 182, 0, 78, 167, 0, 11, 25, 8, 180, 0, 137, 21, 9, 47, 182, 0, 133, 132, 9, 1]
abbrev dktX3_tells_4 : List UInt8 := dkwX3_tells_4 ++ dktX3_tells_5
def dkwX3_tells_3 : List UInt8 := [54, 9, 21, 9, 42, 180, 0, 44, 162, 0, 40, 43, 33, 117, 21, 9, 21, 6, 153, 0, 13, 25, 7]
abbrev dktX3_tells_3 : List UInt8 := dkwX3_tells_3 ++ dktX3_tells_4
def dkwX3_tells_2 : List UInt8 := [1, 58, 7, 21, 6, 153, 0, 7, 1, 167, 0, 12, 42, 180, 0, 30, 28, 16, 20, 100, 50, 58, 8, 3]
abbrev dktX3_tells_2 : List UInt8 := dkwX3_tells_2 ++ dktX3_tells_3
def dkwX3_tells_1 : List UInt8 := [167, 0, 4, 3, 54, 6, 21, 6, 153, 0, 16, 25, 5, 180, 0, 64, 28, 16, 10, 100, 50, 167, 0, 4]
abbrev dktX3_tells_1 : List UInt8 := dkwX3_tells_1 ++ dktX3_tells_2
def dkwX3_tells_0 : List UInt8 := [42, 28, 182, 0, 129, 153, 0, 11, 43, 33, 28, 10, 182, 0, 133, 177, 28, 16, 20, 162, 0, 7, 4]
abbrev dktX3_tells_0 : List UInt8 := dkwX3_tells_0 ++ dktX3_tells_1
theorem dksX3_tells_0 : cX3_tells.data.toList.drop 0 = dktX3_tells_0 := by decide +kernel
theorem dksX3_tells_1 : cX3_tells.data.toList.drop 23 = dktX3_tells_1 := dk_seg dksX3_tells_0 23 rfl rfl
theorem dksX3_tells_2 : cX3_tells.data.toList.drop 47 = dktX3_tells_2 := dk_seg dksX3_tells_1 24 rfl rfl
theorem dksX3_tells_3 : cX3_tells.data.toList.drop 71 = dktX3_tells_3 := dk_seg dksX3_tells_2 24 rfl rfl
theorem dksX3_tells_4 : cX3_tells.data.toList.drop 94 = dktX3_tells_4 := dk_seg dksX3_tells_3 23 rfl rfl
theorem dksX3_tells_5 : cX3_tells.data.toList.drop 116 = dktX3_tells_5 := dk_seg dksX3_tells_4 22 rfl rfl
theorem dksX3_tells_6 : cX3_tells.data.toList.drop 140 = dktX3_tells_6 := dk_seg dksX3_tells_5 24 rfl rfl
theorem dX3_tells_0 : decode cX3_tells 0 = .ok (.aload_n 0, 1) := dk_42 (dk_at dksX3_tells_0 0 rfl rfl)
theorem dX3_tells_1 : decode cX3_tells 1 = .ok (.iload_n 2, 1) := dk_28 (dk_at dksX3_tells_0 1 rfl rfl)
theorem dX3_tells_2 : decode cX3_tells 2 = .ok (.invokevirtual 129, 3) := dk_182 0 129 (dk_at dksX3_tells_0 2 rfl rfl)
theorem dX3_tells_5 : decode cX3_tells 5 = .ok (.ifCond .eq 11, 3) := dk_153 0 11 (dk_at dksX3_tells_0 5 rfl rfl)
theorem dX3_tells_8 : decode cX3_tells 8 = .ok (.aload_n 1, 1) := dk_43 (dk_at dksX3_tells_0 8 rfl rfl)
theorem dX3_tells_9 : decode cX3_tells 9 = .ok (.lload_n 3, 1) := dk_33 (dk_at dksX3_tells_0 9 rfl rfl)
theorem dX3_tells_10 : decode cX3_tells 10 = .ok (.iload_n 2, 1) := dk_28 (dk_at dksX3_tells_0 10 rfl rfl)
theorem dX3_tells_11 : decode cX3_tells 11 = .ok (.lconst 1, 1) := dk_10 (dk_at dksX3_tells_0 11 rfl rfl)
theorem dX3_tells_12 : decode cX3_tells 12 = .ok (.invokevirtual 133, 3) := dk_182 0 133 (dk_at dksX3_tells_0 12 rfl rfl)
theorem dX3_tells_15 : decode cX3_tells 15 = .ok (.return_, 1) := dk_177 (dk_at dksX3_tells_0 15 rfl rfl)
theorem dX3_tells_16 : decode cX3_tells 16 = .ok (.iload_n 2, 1) := dk_28 (dk_at dksX3_tells_0 16 rfl rfl)
theorem dX3_tells_17 : decode cX3_tells 17 = .ok (.bipush 20, 2) := dk_16 20 (dk_at dksX3_tells_0 17 rfl rfl)
theorem dX3_tells_19 : decode cX3_tells 19 = .ok (.if_icmp .ge 7, 3) := dk_162 0 7 (dk_at dksX3_tells_0 19 rfl rfl)
theorem dX3_tells_22 : decode cX3_tells 22 = .ok (.iconst 1, 1) := dk_4 (dk_at dksX3_tells_0 22 rfl rfl)
theorem dX3_tells_23 : decode cX3_tells 23 = .ok (.goto 4, 3) := dk_167 0 4 (dk_at dksX3_tells_1 0 rfl rfl)
theorem dX3_tells_26 : decode cX3_tells 26 = .ok (.iconst 0, 1) := dk_3 (dk_at dksX3_tells_1 3 rfl rfl)
theorem dX3_tells_27 : decode cX3_tells 27 = .ok (.istore 6, 2) := dk_54 6 (dk_at dksX3_tells_1 4 rfl rfl)
theorem dX3_tells_29 : decode cX3_tells 29 = .ok (.iload 6, 2) := dk_21 6 (dk_at dksX3_tells_1 6 rfl rfl)
theorem dX3_tells_31 : decode cX3_tells 31 = .ok (.ifCond .eq 16, 3) := dk_153 0 16 (dk_at dksX3_tells_1 8 rfl rfl)
theorem dX3_tells_34 : decode cX3_tells 34 = .ok (.aload 5, 2) := dk_25 5 (dk_at dksX3_tells_1 11 rfl rfl)
theorem dX3_tells_36 : decode cX3_tells 36 = .ok (.getfield 64, 3) := dk_180 0 64 (dk_at dksX3_tells_1 13 rfl rfl)
theorem dX3_tells_39 : decode cX3_tells 39 = .ok (.iload_n 2, 1) := dk_28 (dk_at dksX3_tells_1 16 rfl rfl)
theorem dX3_tells_40 : decode cX3_tells 40 = .ok (.bipush 10, 2) := dk_16 10 (dk_at dksX3_tells_1 17 rfl rfl)
theorem dX3_tells_42 : decode cX3_tells 42 = .ok (.isub, 1) := dk_100 (dk_at dksX3_tells_1 19 rfl rfl)
theorem dX3_tells_43 : decode cX3_tells 43 = .ok (.aaload, 1) := dk_50 (dk_at dksX3_tells_1 20 rfl rfl)
theorem dX3_tells_44 : decode cX3_tells 44 = .ok (.goto 4, 3) := dk_167 0 4 (dk_at dksX3_tells_1 21 rfl rfl)
theorem dX3_tells_47 : decode cX3_tells 47 = .ok (.aconst_null, 1) := dk_1 (dk_at dksX3_tells_2 0 rfl rfl)
theorem dX3_tells_48 : decode cX3_tells 48 = .ok (.astore 7, 2) := dk_58 7 (dk_at dksX3_tells_2 1 rfl rfl)
theorem dX3_tells_50 : decode cX3_tells 50 = .ok (.iload 6, 2) := dk_21 6 (dk_at dksX3_tells_2 3 rfl rfl)
theorem dX3_tells_52 : decode cX3_tells 52 = .ok (.ifCond .eq 7, 3) := dk_153 0 7 (dk_at dksX3_tells_2 5 rfl rfl)
theorem dX3_tells_55 : decode cX3_tells 55 = .ok (.aconst_null, 1) := dk_1 (dk_at dksX3_tells_2 8 rfl rfl)
theorem dX3_tells_56 : decode cX3_tells 56 = .ok (.goto 12, 3) := dk_167 0 12 (dk_at dksX3_tells_2 9 rfl rfl)
theorem dX3_tells_59 : decode cX3_tells 59 = .ok (.aload_n 0, 1) := dk_42 (dk_at dksX3_tells_2 12 rfl rfl)
theorem dX3_tells_60 : decode cX3_tells 60 = .ok (.getfield 30, 3) := dk_180 0 30 (dk_at dksX3_tells_2 13 rfl rfl)
theorem dX3_tells_63 : decode cX3_tells 63 = .ok (.iload_n 2, 1) := dk_28 (dk_at dksX3_tells_2 16 rfl rfl)
theorem dX3_tells_64 : decode cX3_tells 64 = .ok (.bipush 20, 2) := dk_16 20 (dk_at dksX3_tells_2 17 rfl rfl)
theorem dX3_tells_66 : decode cX3_tells 66 = .ok (.isub, 1) := dk_100 (dk_at dksX3_tells_2 19 rfl rfl)
theorem dX3_tells_67 : decode cX3_tells 67 = .ok (.aaload, 1) := dk_50 (dk_at dksX3_tells_2 20 rfl rfl)
theorem dX3_tells_68 : decode cX3_tells 68 = .ok (.astore 8, 2) := dk_58 8 (dk_at dksX3_tells_2 21 rfl rfl)
theorem dX3_tells_70 : decode cX3_tells 70 = .ok (.iconst 0, 1) := dk_3 (dk_at dksX3_tells_2 23 rfl rfl)
theorem dX3_tells_71 : decode cX3_tells 71 = .ok (.istore 9, 2) := dk_54 9 (dk_at dksX3_tells_3 0 rfl rfl)
theorem dX3_tells_73 : decode cX3_tells 73 = .ok (.iload 9, 2) := dk_21 9 (dk_at dksX3_tells_3 2 rfl rfl)
theorem dX3_tells_75 : decode cX3_tells 75 = .ok (.aload_n 0, 1) := dk_42 (dk_at dksX3_tells_3 4 rfl rfl)
theorem dX3_tells_76 : decode cX3_tells 76 = .ok (.getfield 44, 3) := dk_180 0 44 (dk_at dksX3_tells_3 5 rfl rfl)
theorem dX3_tells_79 : decode cX3_tells 79 = .ok (.if_icmp .ge 40, 3) := dk_162 0 40 (dk_at dksX3_tells_3 8 rfl rfl)
theorem dX3_tells_82 : decode cX3_tells 82 = .ok (.aload_n 1, 1) := dk_43 (dk_at dksX3_tells_3 11 rfl rfl)
theorem dX3_tells_83 : decode cX3_tells 83 = .ok (.lload_n 3, 1) := dk_33 (dk_at dksX3_tells_3 12 rfl rfl)
theorem dX3_tells_84 : decode cX3_tells 84 = .ok (.lneg, 1) := dk_117 (dk_at dksX3_tells_3 13 rfl rfl)
theorem dX3_tells_85 : decode cX3_tells 85 = .ok (.iload 9, 2) := dk_21 9 (dk_at dksX3_tells_3 14 rfl rfl)
theorem dX3_tells_87 : decode cX3_tells 87 = .ok (.iload 6, 2) := dk_21 6 (dk_at dksX3_tells_3 16 rfl rfl)
theorem dX3_tells_89 : decode cX3_tells 89 = .ok (.ifCond .eq 13, 3) := dk_153 0 13 (dk_at dksX3_tells_3 18 rfl rfl)
theorem dX3_tells_92 : decode cX3_tells 92 = .ok (.aload 7, 2) := dk_25 7 (dk_at dksX3_tells_3 21 rfl rfl)
theorem dX3_tells_94 : decode cX3_tells 94 = .ok (.iload 9, 2) := dk_21 9 (dk_at dksX3_tells_4 0 rfl rfl)
theorem dX3_tells_96 : decode cX3_tells 96 = .ok (.invokevirtual 78, 3) := dk_182 0 78 (dk_at dksX3_tells_4 2 rfl rfl)
theorem dX3_tells_99 : decode cX3_tells 99 = .ok (.goto 11, 3) := dk_167 0 11 (dk_at dksX3_tells_4 5 rfl rfl)
theorem dX3_tells_102 : decode cX3_tells 102 = .ok (.aload 8, 2) := dk_25 8 (dk_at dksX3_tells_4 8 rfl rfl)
theorem dX3_tells_104 : decode cX3_tells 104 = .ok (.getfield 137, 3) := dk_180 0 137 (dk_at dksX3_tells_4 10 rfl rfl)
theorem dX3_tells_107 : decode cX3_tells 107 = .ok (.iload 9, 2) := dk_21 9 (dk_at dksX3_tells_4 13 rfl rfl)
theorem dX3_tells_109 : decode cX3_tells 109 = .ok (.laload, 1) := dk_47 (dk_at dksX3_tells_4 15 rfl rfl)
theorem dX3_tells_110 : decode cX3_tells 110 = .ok (.invokevirtual 133, 3) := dk_182 0 133 (dk_at dksX3_tells_4 16 rfl rfl)
theorem dX3_tells_113 : decode cX3_tells 113 = .ok (.iinc 9 1, 3) := dk_132 9 1 (dk_at dksX3_tells_4 19 rfl rfl)
theorem dX3_tells_116 : decode cX3_tells 116 = .ok (.goto (-43), 3) := dk_167 255 213 (dk_at dksX3_tells_5 0 rfl rfl)
theorem dX3_tells_119 : decode cX3_tells 119 = .ok (.aload_n 1, 1) := dk_43 (dk_at dksX3_tells_5 3 rfl rfl)
theorem dX3_tells_120 : decode cX3_tells 120 = .ok (.dup, 1) := dk_89 (dk_at dksX3_tells_5 4 rfl rfl)
theorem dX3_tells_121 : decode cX3_tells 121 = .ok (.getfield 139, 3) := dk_180 0 139 (dk_at dksX3_tells_5 5 rfl rfl)
theorem dX3_tells_124 : decode cX3_tells 124 = .ok (.lload_n 3, 1) := dk_33 (dk_at dksX3_tells_5 8 rfl rfl)
theorem dX3_tells_125 : decode cX3_tells 125 = .ok (.iload 6, 2) := dk_21 6 (dk_at dksX3_tells_5 9 rfl rfl)
theorem dX3_tells_127 : decode cX3_tells 127 = .ok (.ifCond .eq 11, 3) := dk_153 0 11 (dk_at dksX3_tells_5 11 rfl rfl)
theorem dX3_tells_130 : decode cX3_tells 130 = .ok (.aload 7, 2) := dk_25 7 (dk_at dksX3_tells_5 14 rfl rfl)
theorem dX3_tells_132 : decode cX3_tells 132 = .ok (.invokevirtual 68, 3) := dk_182 0 68 (dk_at dksX3_tells_5 16 rfl rfl)
theorem dX3_tells_135 : decode cX3_tells 135 = .ok (.goto 8, 3) := dk_167 0 8 (dk_at dksX3_tells_5 19 rfl rfl)
theorem dX3_tells_138 : decode cX3_tells 138 = .ok (.aload 8, 2) := dk_25 8 (dk_at dksX3_tells_5 22 rfl rfl)
theorem dX3_tells_140 : decode cX3_tells 140 = .ok (.getfield 139, 3) := dk_180 0 139 (dk_at dksX3_tells_6 0 rfl rfl)
theorem dX3_tells_143 : decode cX3_tells 143 = .ok (.lmul, 1) := dk_105 (dk_at dksX3_tells_6 3 rfl rfl)
theorem dX3_tells_144 : decode cX3_tells 144 = .ok (.lsub, 1) := dk_101 (dk_at dksX3_tells_6 4 rfl rfl)
theorem dX3_tells_145 : decode cX3_tells 145 = .ok (.putfield 139, 3) := dk_181 0 139 (dk_at dksX3_tells_6 5 rfl rfl)
theorem dX3_tells_148 : decode cX3_tells 148 = .ok (.return_, 1) := dk_177 (dk_at dksX3_tells_6 8 rfl rfl)
abbrev cX3_right : ByteArray := prog_16_method_20_code
def yX3_right : MethodName := ⟨RX3, "right", "(I)J"⟩
def dkwX3_right_0 : List UInt8 := [42, 27, 182, 0, 180, 61, 28, 2, 160, 0, 7, 9, 167, 0, 9, 42, 180, 0, 15, 28, 47, 173]
abbrev dktX3_right_0 : List UInt8 := dkwX3_right_0 ++ []
theorem dksX3_right_0 : cX3_right.data.toList.drop 0 = dktX3_right_0 := by decide +kernel
theorem dX3_right_0 : decode cX3_right 0 = .ok (.aload_n 0, 1) := dk_42 (dk_at dksX3_right_0 0 rfl rfl)
theorem dX3_right_1 : decode cX3_right 1 = .ok (.iload_n 1, 1) := dk_27 (dk_at dksX3_right_0 1 rfl rfl)
theorem dX3_right_2 : decode cX3_right 2 = .ok (.invokevirtual 180, 3) := dk_182 0 180 (dk_at dksX3_right_0 2 rfl rfl)
theorem dX3_right_5 : decode cX3_right 5 = .ok (.istore_n 2, 1) := dk_61 (dk_at dksX3_right_0 5 rfl rfl)
theorem dX3_right_6 : decode cX3_right 6 = .ok (.iload_n 2, 1) := dk_28 (dk_at dksX3_right_0 6 rfl rfl)
theorem dX3_right_7 : decode cX3_right 7 = .ok (.iconst (-1), 1) := dk_2 (dk_at dksX3_right_0 7 rfl rfl)
theorem dX3_right_8 : decode cX3_right 8 = .ok (.if_icmp .ne 7, 3) := dk_160 0 7 (dk_at dksX3_right_0 8 rfl rfl)
theorem dX3_right_11 : decode cX3_right 11 = .ok (.lconst 0, 1) := dk_9 (dk_at dksX3_right_0 11 rfl rfl)
theorem dX3_right_12 : decode cX3_right 12 = .ok (.goto 9, 3) := dk_167 0 9 (dk_at dksX3_right_0 12 rfl rfl)
theorem dX3_right_15 : decode cX3_right 15 = .ok (.aload_n 0, 1) := dk_42 (dk_at dksX3_right_0 15 rfl rfl)
theorem dX3_right_16 : decode cX3_right 16 = .ok (.getfield 15, 3) := dk_180 0 15 (dk_at dksX3_right_0 16 rfl rfl)
theorem dX3_right_19 : decode cX3_right 19 = .ok (.iload_n 2, 1) := dk_28 (dk_at dksX3_right_0 19 rfl rfl)
theorem dX3_right_20 : decode cX3_right 20 = .ok (.laload, 1) := dk_47 (dk_at dksX3_right_0 20 rfl rfl)
theorem dX3_right_21 : decode cX3_right 21 = .ok (.lreturn, 1) := dk_173 (dk_at dksX3_right_0 21 rfl rfl)
abbrev cX3_rowOf : ByteArray := prog_16_method_19_code
def yX3_rowOf : MethodName := ⟨RX3, "rowOf", "(I)I"⟩
def dkwX3_rowOf_1 : List UInt8 := [132, 2, 1, 167, 255, 233, 2, 172]
abbrev dktX3_rowOf_1 : List UInt8 := dkwX3_rowOf_1 ++ []
def dkwX3_rowOf_0 : List UInt8 := [3, 61, 28, 42, 180, 0, 35, 162, 0, 21, 42, 180, 0, 21, 28, 46, 27, 160, 0, 5, 28, 172]
abbrev dktX3_rowOf_0 : List UInt8 := dkwX3_rowOf_0 ++ dktX3_rowOf_1
theorem dksX3_rowOf_0 : cX3_rowOf.data.toList.drop 0 = dktX3_rowOf_0 := by decide +kernel
theorem dksX3_rowOf_1 : cX3_rowOf.data.toList.drop 22 = dktX3_rowOf_1 := dk_seg dksX3_rowOf_0 22 rfl rfl
theorem dX3_rowOf_0 : decode cX3_rowOf 0 = .ok (.iconst 0, 1) := dk_3 (dk_at dksX3_rowOf_0 0 rfl rfl)
theorem dX3_rowOf_1 : decode cX3_rowOf 1 = .ok (.istore_n 2, 1) := dk_61 (dk_at dksX3_rowOf_0 1 rfl rfl)
theorem dX3_rowOf_2 : decode cX3_rowOf 2 = .ok (.iload_n 2, 1) := dk_28 (dk_at dksX3_rowOf_0 2 rfl rfl)
theorem dX3_rowOf_3 : decode cX3_rowOf 3 = .ok (.aload_n 0, 1) := dk_42 (dk_at dksX3_rowOf_0 3 rfl rfl)
theorem dX3_rowOf_4 : decode cX3_rowOf 4 = .ok (.getfield 35, 3) := dk_180 0 35 (dk_at dksX3_rowOf_0 4 rfl rfl)
theorem dX3_rowOf_7 : decode cX3_rowOf 7 = .ok (.if_icmp .ge 21, 3) := dk_162 0 21 (dk_at dksX3_rowOf_0 7 rfl rfl)
theorem dX3_rowOf_10 : decode cX3_rowOf 10 = .ok (.aload_n 0, 1) := dk_42 (dk_at dksX3_rowOf_0 10 rfl rfl)
theorem dX3_rowOf_11 : decode cX3_rowOf 11 = .ok (.getfield 21, 3) := dk_180 0 21 (dk_at dksX3_rowOf_0 11 rfl rfl)
theorem dX3_rowOf_14 : decode cX3_rowOf 14 = .ok (.iload_n 2, 1) := dk_28 (dk_at dksX3_rowOf_0 14 rfl rfl)
theorem dX3_rowOf_15 : decode cX3_rowOf 15 = .ok (.iaload, 1) := dk_46 (dk_at dksX3_rowOf_0 15 rfl rfl)
theorem dX3_rowOf_16 : decode cX3_rowOf 16 = .ok (.iload_n 1, 1) := dk_27 (dk_at dksX3_rowOf_0 16 rfl rfl)
theorem dX3_rowOf_17 : decode cX3_rowOf 17 = .ok (.if_icmp .ne 5, 3) := dk_160 0 5 (dk_at dksX3_rowOf_0 17 rfl rfl)
theorem dX3_rowOf_20 : decode cX3_rowOf 20 = .ok (.iload_n 2, 1) := dk_28 (dk_at dksX3_rowOf_0 20 rfl rfl)
theorem dX3_rowOf_21 : decode cX3_rowOf 21 = .ok (.ireturn, 1) := dk_172 (dk_at dksX3_rowOf_0 21 rfl rfl)
theorem dX3_rowOf_22 : decode cX3_rowOf 22 = .ok (.iinc 2 1, 3) := dk_132 2 1 (dk_at dksX3_rowOf_1 0 rfl rfl)
theorem dX3_rowOf_25 : decode cX3_rowOf 25 = .ok (.goto (-23), 3) := dk_167 255 233 (dk_at dksX3_rowOf_1 3 rfl rfl)
theorem dX3_rowOf_28 : decode cX3_rowOf 28 = .ok (.iconst (-1), 1) := dk_2 (dk_at dksX3_rowOf_1 6 rfl rfl)
theorem dX3_rowOf_29 : decode cX3_rowOf 29 = .ok (.ireturn, 1) := dk_172 (dk_at dksX3_rowOf_1 7 rfl rfl)
abbrev cX3_rise : ByteArray := prog_16_method_21_code
def yX3_rise : MethodName := ⟨RX3, "rise", "(I)J"⟩
def dkwX3_rise_1 : List UInt8 := [28, 47, 173, 132, 2, 1, 167, 255, 228, 9, 173]
abbrev dktX3_rise_1 : List UInt8 := dkwX3_rise_1 ++ []
def dkwX3_rise_0 : List UInt8 := [3, 61, 28, 42, 180, 0, 44, 162, 0, 26, 42, 180, 0, 25, 28, 46, 27, 160, 0, 10, 42, 180, 0, 18]
abbrev dktX3_rise_0 : List UInt8 := dkwX3_rise_0 ++ dktX3_rise_1
theorem dksX3_rise_0 : cX3_rise.data.toList.drop 0 = dktX3_rise_0 := by decide +kernel
theorem dksX3_rise_1 : cX3_rise.data.toList.drop 24 = dktX3_rise_1 := dk_seg dksX3_rise_0 24 rfl rfl
theorem dX3_rise_0 : decode cX3_rise 0 = .ok (.iconst 0, 1) := dk_3 (dk_at dksX3_rise_0 0 rfl rfl)
theorem dX3_rise_1 : decode cX3_rise 1 = .ok (.istore_n 2, 1) := dk_61 (dk_at dksX3_rise_0 1 rfl rfl)
theorem dX3_rise_2 : decode cX3_rise 2 = .ok (.iload_n 2, 1) := dk_28 (dk_at dksX3_rise_0 2 rfl rfl)
theorem dX3_rise_3 : decode cX3_rise 3 = .ok (.aload_n 0, 1) := dk_42 (dk_at dksX3_rise_0 3 rfl rfl)
theorem dX3_rise_4 : decode cX3_rise 4 = .ok (.getfield 44, 3) := dk_180 0 44 (dk_at dksX3_rise_0 4 rfl rfl)
theorem dX3_rise_7 : decode cX3_rise 7 = .ok (.if_icmp .ge 26, 3) := dk_162 0 26 (dk_at dksX3_rise_0 7 rfl rfl)
theorem dX3_rise_10 : decode cX3_rise 10 = .ok (.aload_n 0, 1) := dk_42 (dk_at dksX3_rise_0 10 rfl rfl)
theorem dX3_rise_11 : decode cX3_rise 11 = .ok (.getfield 25, 3) := dk_180 0 25 (dk_at dksX3_rise_0 11 rfl rfl)
theorem dX3_rise_14 : decode cX3_rise 14 = .ok (.iload_n 2, 1) := dk_28 (dk_at dksX3_rise_0 14 rfl rfl)
theorem dX3_rise_15 : decode cX3_rise 15 = .ok (.iaload, 1) := dk_46 (dk_at dksX3_rise_0 15 rfl rfl)
theorem dX3_rise_16 : decode cX3_rise 16 = .ok (.iload_n 1, 1) := dk_27 (dk_at dksX3_rise_0 16 rfl rfl)
theorem dX3_rise_17 : decode cX3_rise 17 = .ok (.if_icmp .ne 10, 3) := dk_160 0 10 (dk_at dksX3_rise_0 17 rfl rfl)
theorem dX3_rise_20 : decode cX3_rise 20 = .ok (.aload_n 0, 1) := dk_42 (dk_at dksX3_rise_0 20 rfl rfl)
theorem dX3_rise_21 : decode cX3_rise 21 = .ok (.getfield 18, 3) := dk_180 0 18 (dk_at dksX3_rise_0 21 rfl rfl)
theorem dX3_rise_24 : decode cX3_rise 24 = .ok (.iload_n 2, 1) := dk_28 (dk_at dksX3_rise_1 0 rfl rfl)
theorem dX3_rise_25 : decode cX3_rise 25 = .ok (.laload, 1) := dk_47 (dk_at dksX3_rise_1 1 rfl rfl)
theorem dX3_rise_26 : decode cX3_rise 26 = .ok (.lreturn, 1) := dk_173 (dk_at dksX3_rise_1 2 rfl rfl)
theorem dX3_rise_27 : decode cX3_rise 27 = .ok (.iinc 2 1, 3) := dk_132 2 1 (dk_at dksX3_rise_1 3 rfl rfl)
theorem dX3_rise_30 : decode cX3_rise 30 = .ok (.goto (-28), 3) := dk_167 255 228 (dk_at dksX3_rise_1 6 rfl rfl)
theorem dX3_rise_33 : decode cX3_rise 33 = .ok (.lconst 0, 1) := dk_9 (dk_at dksX3_rise_1 9 rfl rfl)
theorem dX3_rise_34 : decode cX3_rise 34 = .ok (.lreturn, 1) := dk_173 (dk_at dksX3_rise_1 10 rfl rfl)
abbrev cX3_holds : ByteArray := prog_16_method_6_code
def yX3_holds : MethodName := ⟨RX3, "holds", "(IIZ)V"⟩
def dkwX3_holds_3 : List UInt8 := [132, 5, 1, 167, 255, 215, 177]
abbrev dktX3_holds_3 : List UInt8 := dkwX3_holds_3 ++ []
def dkwX3_holds_2 : List UInt8 := [21, 5, 27, 159, 0, 7, 9, 167, 0, 14, 29, 153, 0, 9, 20, 0, 86, 167, 0, 4, 10, 182, 0, 82]
abbrev dktX3_holds_2 : List UInt8 := dkwX3_holds_2 ++ dktX3_holds_3
def dkwX3_holds_1 : List UInt8 := [28, 133, 182, 0, 74, 54, 4, 3, 54, 5, 21, 5, 42, 180, 0, 44, 162, 0, 38, 42, 21, 4, 21, 5]
abbrev dktX3_holds_1 : List UInt8 := dkwX3_holds_1 ++ dktX3_holds_2
def dkwX3_holds_0 : List UInt8 := [42, 29, 153, 0, 8, 16, 40, 167, 0, 5, 16, 50, 27, 96, 29, 153, 0, 9, 28, 116, 133, 167, 0, 5]
abbrev dktX3_holds_0 : List UInt8 := dkwX3_holds_0 ++ dktX3_holds_1
theorem dksX3_holds_0 : cX3_holds.data.toList.drop 0 = dktX3_holds_0 := by decide +kernel
theorem dksX3_holds_1 : cX3_holds.data.toList.drop 24 = dktX3_holds_1 := dk_seg dksX3_holds_0 24 rfl rfl
theorem dksX3_holds_2 : cX3_holds.data.toList.drop 48 = dktX3_holds_2 := dk_seg dksX3_holds_1 24 rfl rfl
theorem dksX3_holds_3 : cX3_holds.data.toList.drop 72 = dktX3_holds_3 := dk_seg dksX3_holds_2 24 rfl rfl
theorem dX3_holds_0 : decode cX3_holds 0 = .ok (.aload_n 0, 1) := dk_42 (dk_at dksX3_holds_0 0 rfl rfl)
theorem dX3_holds_1 : decode cX3_holds 1 = .ok (.iload_n 3, 1) := dk_29 (dk_at dksX3_holds_0 1 rfl rfl)
theorem dX3_holds_2 : decode cX3_holds 2 = .ok (.ifCond .eq 8, 3) := dk_153 0 8 (dk_at dksX3_holds_0 2 rfl rfl)
theorem dX3_holds_5 : decode cX3_holds 5 = .ok (.bipush 40, 2) := dk_16 40 (dk_at dksX3_holds_0 5 rfl rfl)
theorem dX3_holds_7 : decode cX3_holds 7 = .ok (.goto 5, 3) := dk_167 0 5 (dk_at dksX3_holds_0 7 rfl rfl)
theorem dX3_holds_10 : decode cX3_holds 10 = .ok (.bipush 50, 2) := dk_16 50 (dk_at dksX3_holds_0 10 rfl rfl)
theorem dX3_holds_12 : decode cX3_holds 12 = .ok (.iload_n 1, 1) := dk_27 (dk_at dksX3_holds_0 12 rfl rfl)
theorem dX3_holds_13 : decode cX3_holds 13 = .ok (.iadd, 1) := dk_96 (dk_at dksX3_holds_0 13 rfl rfl)
theorem dX3_holds_14 : decode cX3_holds 14 = .ok (.iload_n 3, 1) := dk_29 (dk_at dksX3_holds_0 14 rfl rfl)
theorem dX3_holds_15 : decode cX3_holds 15 = .ok (.ifCond .eq 9, 3) := dk_153 0 9 (dk_at dksX3_holds_0 15 rfl rfl)
theorem dX3_holds_18 : decode cX3_holds 18 = .ok (.iload_n 2, 1) := dk_28 (dk_at dksX3_holds_0 18 rfl rfl)
theorem dX3_holds_19 : decode cX3_holds 19 = .ok (.ineg, 1) := dk_116 (dk_at dksX3_holds_0 19 rfl rfl)
theorem dX3_holds_20 : decode cX3_holds 20 = .ok (.i2l, 1) := dk_133 (dk_at dksX3_holds_0 20 rfl rfl)
theorem dX3_holds_21 : decode cX3_holds 21 = .ok (.goto 5, 3) := dk_167 0 5 (dk_at dksX3_holds_0 21 rfl rfl)
theorem dX3_holds_24 : decode cX3_holds 24 = .ok (.iload_n 2, 1) := dk_28 (dk_at dksX3_holds_1 0 rfl rfl)
theorem dX3_holds_25 : decode cX3_holds 25 = .ok (.i2l, 1) := dk_133 (dk_at dksX3_holds_1 1 rfl rfl)
theorem dX3_holds_26 : decode cX3_holds 26 = .ok (.invokevirtual 74, 3) := dk_182 0 74 (dk_at dksX3_holds_1 2 rfl rfl)
theorem dX3_holds_29 : decode cX3_holds 29 = .ok (.istore 4, 2) := dk_54 4 (dk_at dksX3_holds_1 5 rfl rfl)
theorem dX3_holds_31 : decode cX3_holds 31 = .ok (.iconst 0, 1) := dk_3 (dk_at dksX3_holds_1 7 rfl rfl)
theorem dX3_holds_32 : decode cX3_holds 32 = .ok (.istore 5, 2) := dk_54 5 (dk_at dksX3_holds_1 8 rfl rfl)
theorem dX3_holds_34 : decode cX3_holds 34 = .ok (.iload 5, 2) := dk_21 5 (dk_at dksX3_holds_1 10 rfl rfl)
theorem dX3_holds_36 : decode cX3_holds 36 = .ok (.aload_n 0, 1) := dk_42 (dk_at dksX3_holds_1 12 rfl rfl)
theorem dX3_holds_37 : decode cX3_holds 37 = .ok (.getfield 44, 3) := dk_180 0 44 (dk_at dksX3_holds_1 13 rfl rfl)
theorem dX3_holds_40 : decode cX3_holds 40 = .ok (.if_icmp .ge 38, 3) := dk_162 0 38 (dk_at dksX3_holds_1 16 rfl rfl)
theorem dX3_holds_43 : decode cX3_holds 43 = .ok (.aload_n 0, 1) := dk_42 (dk_at dksX3_holds_1 19 rfl rfl)
theorem dX3_holds_44 : decode cX3_holds 44 = .ok (.iload 4, 2) := dk_21 4 (dk_at dksX3_holds_1 20 rfl rfl)
theorem dX3_holds_46 : decode cX3_holds 46 = .ok (.iload 5, 2) := dk_21 5 (dk_at dksX3_holds_1 22 rfl rfl)
theorem dX3_holds_48 : decode cX3_holds 48 = .ok (.iload 5, 2) := dk_21 5 (dk_at dksX3_holds_2 0 rfl rfl)
theorem dX3_holds_50 : decode cX3_holds 50 = .ok (.iload_n 1, 1) := dk_27 (dk_at dksX3_holds_2 2 rfl rfl)
theorem dX3_holds_51 : decode cX3_holds 51 = .ok (.if_icmp .eq 7, 3) := dk_159 0 7 (dk_at dksX3_holds_2 3 rfl rfl)
theorem dX3_holds_54 : decode cX3_holds 54 = .ok (.lconst 0, 1) := dk_9 (dk_at dksX3_holds_2 6 rfl rfl)
theorem dX3_holds_55 : decode cX3_holds 55 = .ok (.goto 14, 3) := dk_167 0 14 (dk_at dksX3_holds_2 7 rfl rfl)
theorem dX3_holds_58 : decode cX3_holds 58 = .ok (.iload_n 3, 1) := dk_29 (dk_at dksX3_holds_2 10 rfl rfl)
theorem dX3_holds_59 : decode cX3_holds 59 = .ok (.ifCond .eq 9, 3) := dk_153 0 9 (dk_at dksX3_holds_2 11 rfl rfl)
theorem dX3_holds_62 : decode cX3_holds 62 = .ok (.ldc2_w 86, 3) := dk_20 0 86 (dk_at dksX3_holds_2 14 rfl rfl)
theorem dX3_holds_65 : decode cX3_holds 65 = .ok (.goto 4, 3) := dk_167 0 4 (dk_at dksX3_holds_2 17 rfl rfl)
theorem dX3_holds_68 : decode cX3_holds 68 = .ok (.lconst 1, 1) := dk_10 (dk_at dksX3_holds_2 20 rfl rfl)
theorem dX3_holds_69 : decode cX3_holds 69 = .ok (.invokevirtual 82, 3) := dk_182 0 82 (dk_at dksX3_holds_2 21 rfl rfl)
theorem dX3_holds_72 : decode cX3_holds 72 = .ok (.iinc 5 1, 3) := dk_132 5 1 (dk_at dksX3_holds_3 0 rfl rfl)
theorem dX3_holds_75 : decode cX3_holds 75 = .ok (.goto (-41), 3) := dk_167 255 215 (dk_at dksX3_holds_3 3 rfl rfl)
theorem dX3_holds_78 : decode cX3_holds 78 = .ok (.return_, 1) := dk_177 (dk_at dksX3_holds_3 6 rfl rfl)
abbrev cX3_brokenPack : ByteArray := prog_16_method_22_code
def yX3_brokenPack : MethodName := ⟨RX3, "brokenPack", "()I"⟩
def dkwX3_brokenPack_1 : List UInt8 := [153, 0, 5, 27, 172, 132, 1, 1, 167, 255, 228, 2, 172]
abbrev dktX3_brokenPack_1 : List UInt8 := dkwX3_brokenPack_1 ++ []
def dkwX3_brokenPack_0 : List UInt8 := [3, 60, 27, 42, 180, 0, 44, 162, 0, 26, 42, 27, 182, 0, 183, 42, 180, 0, 51, 113, 9, 148]
abbrev dktX3_brokenPack_0 : List UInt8 := dkwX3_brokenPack_0 ++ dktX3_brokenPack_1
theorem dksX3_brokenPack_0 : cX3_brokenPack.data.toList.drop 0 = dktX3_brokenPack_0 := by decide +kernel
theorem dksX3_brokenPack_1 : cX3_brokenPack.data.toList.drop 22 = dktX3_brokenPack_1 := dk_seg dksX3_brokenPack_0 22 rfl rfl
theorem dX3_brokenPack_0 : decode cX3_brokenPack 0 = .ok (.iconst 0, 1) := dk_3 (dk_at dksX3_brokenPack_0 0 rfl rfl)
theorem dX3_brokenPack_1 : decode cX3_brokenPack 1 = .ok (.istore_n 1, 1) := dk_60 (dk_at dksX3_brokenPack_0 1 rfl rfl)
theorem dX3_brokenPack_2 : decode cX3_brokenPack 2 = .ok (.iload_n 1, 1) := dk_27 (dk_at dksX3_brokenPack_0 2 rfl rfl)
theorem dX3_brokenPack_3 : decode cX3_brokenPack 3 = .ok (.aload_n 0, 1) := dk_42 (dk_at dksX3_brokenPack_0 3 rfl rfl)
theorem dX3_brokenPack_4 : decode cX3_brokenPack 4 = .ok (.getfield 44, 3) := dk_180 0 44 (dk_at dksX3_brokenPack_0 4 rfl rfl)
theorem dX3_brokenPack_7 : decode cX3_brokenPack 7 = .ok (.if_icmp .ge 26, 3) := dk_162 0 26 (dk_at dksX3_brokenPack_0 7 rfl rfl)
theorem dX3_brokenPack_10 : decode cX3_brokenPack 10 = .ok (.aload_n 0, 1) := dk_42 (dk_at dksX3_brokenPack_0 10 rfl rfl)
theorem dX3_brokenPack_11 : decode cX3_brokenPack 11 = .ok (.iload_n 1, 1) := dk_27 (dk_at dksX3_brokenPack_0 11 rfl rfl)
theorem dX3_brokenPack_12 : decode cX3_brokenPack 12 = .ok (.invokevirtual 183, 3) := dk_182 0 183 (dk_at dksX3_brokenPack_0 12 rfl rfl)
theorem dX3_brokenPack_15 : decode cX3_brokenPack 15 = .ok (.aload_n 0, 1) := dk_42 (dk_at dksX3_brokenPack_0 15 rfl rfl)
theorem dX3_brokenPack_16 : decode cX3_brokenPack 16 = .ok (.getfield 51, 3) := dk_180 0 51 (dk_at dksX3_brokenPack_0 16 rfl rfl)
theorem dX3_brokenPack_19 : decode cX3_brokenPack 19 = .ok (.lrem, 1) := dk_113 (dk_at dksX3_brokenPack_0 19 rfl rfl)
theorem dX3_brokenPack_20 : decode cX3_brokenPack 20 = .ok (.lconst 0, 1) := dk_9 (dk_at dksX3_brokenPack_0 20 rfl rfl)
theorem dX3_brokenPack_21 : decode cX3_brokenPack 21 = .ok (.lcmp, 1) := dk_148 (dk_at dksX3_brokenPack_0 21 rfl rfl)
theorem dX3_brokenPack_22 : decode cX3_brokenPack 22 = .ok (.ifCond .eq 5, 3) := dk_153 0 5 (dk_at dksX3_brokenPack_1 0 rfl rfl)
theorem dX3_brokenPack_25 : decode cX3_brokenPack 25 = .ok (.iload_n 1, 1) := dk_27 (dk_at dksX3_brokenPack_1 3 rfl rfl)
theorem dX3_brokenPack_26 : decode cX3_brokenPack 26 = .ok (.ireturn, 1) := dk_172 (dk_at dksX3_brokenPack_1 4 rfl rfl)
theorem dX3_brokenPack_27 : decode cX3_brokenPack 27 = .ok (.iinc 1 1, 3) := dk_132 1 1 (dk_at dksX3_brokenPack_1 5 rfl rfl)
theorem dX3_brokenPack_30 : decode cX3_brokenPack 30 = .ok (.goto (-28), 3) := dk_167 255 228 (dk_at dksX3_brokenPack_1 8 rfl rfl)
theorem dX3_brokenPack_33 : decode cX3_brokenPack 33 = .ok (.iconst (-1), 1) := dk_2 (dk_at dksX3_brokenPack_1 11 rfl rfl)
theorem dX3_brokenPack_34 : decode cX3_brokenPack 34 = .ok (.ireturn, 1) := dk_172 (dk_at dksX3_brokenPack_1 12 rfl rfl)
abbrev cX3_worth : ByteArray := prog_16_method_23_code
def yX3_worth : MethodName := ⟨RX3, "worth", "(LWholePacks$Desk;)I"⟩
def dkwX3_worth_1 : List UInt8 := [167, 0, 14, 28, 154, 0, 8, 16, 251, 167, 0, 5, 16, 250, 172]
abbrev dktX3_worth_1 : List UInt8 := dkwX3_worth_1 ++ []
def dkwX3_worth_0 : List UInt8 := [42, 43, 16, 12, 182, 0, 186, 61, 28, 4, 160, 0, 16, 42, 180, 0, 55, 42, 180, 0, 51, 109, 136]
abbrev dktX3_worth_0 : List UInt8 := dkwX3_worth_0 ++ dktX3_worth_1
theorem dksX3_worth_0 : cX3_worth.data.toList.drop 0 = dktX3_worth_0 := by decide +kernel
theorem dksX3_worth_1 : cX3_worth.data.toList.drop 23 = dktX3_worth_1 := dk_seg dksX3_worth_0 23 rfl rfl
theorem dX3_worth_0 : decode cX3_worth 0 = .ok (.aload_n 0, 1) := dk_42 (dk_at dksX3_worth_0 0 rfl rfl)
theorem dX3_worth_1 : decode cX3_worth 1 = .ok (.aload_n 1, 1) := dk_43 (dk_at dksX3_worth_0 1 rfl rfl)
theorem dX3_worth_2 : decode cX3_worth 2 = .ok (.bipush 12, 2) := dk_16 12 (dk_at dksX3_worth_0 2 rfl rfl)
theorem dX3_worth_4 : decode cX3_worth 4 = .ok (.invokevirtual 186, 3) := dk_182 0 186 (dk_at dksX3_worth_0 4 rfl rfl)
theorem dX3_worth_7 : decode cX3_worth 7 = .ok (.istore_n 2, 1) := dk_61 (dk_at dksX3_worth_0 7 rfl rfl)
theorem dX3_worth_8 : decode cX3_worth 8 = .ok (.iload_n 2, 1) := dk_28 (dk_at dksX3_worth_0 8 rfl rfl)
theorem dX3_worth_9 : decode cX3_worth 9 = .ok (.iconst 1, 1) := dk_4 (dk_at dksX3_worth_0 9 rfl rfl)
theorem dX3_worth_10 : decode cX3_worth 10 = .ok (.if_icmp .ne 16, 3) := dk_160 0 16 (dk_at dksX3_worth_0 10 rfl rfl)
theorem dX3_worth_13 : decode cX3_worth 13 = .ok (.aload_n 0, 1) := dk_42 (dk_at dksX3_worth_0 13 rfl rfl)
theorem dX3_worth_14 : decode cX3_worth 14 = .ok (.getfield 55, 3) := dk_180 0 55 (dk_at dksX3_worth_0 14 rfl rfl)
theorem dX3_worth_17 : decode cX3_worth 17 = .ok (.aload_n 0, 1) := dk_42 (dk_at dksX3_worth_0 17 rfl rfl)
theorem dX3_worth_18 : decode cX3_worth 18 = .ok (.getfield 51, 3) := dk_180 0 51 (dk_at dksX3_worth_0 18 rfl rfl)
theorem dX3_worth_21 : decode cX3_worth 21 = .ok (.ldiv, 1) := dk_109 (dk_at dksX3_worth_0 21 rfl rfl)
theorem dX3_worth_22 : decode cX3_worth 22 = .ok (.l2i, 1) := dk_136 (dk_at dksX3_worth_0 22 rfl rfl)
theorem dX3_worth_23 : decode cX3_worth 23 = .ok (.goto 14, 3) := dk_167 0 14 (dk_at dksX3_worth_1 0 rfl rfl)
theorem dX3_worth_26 : decode cX3_worth 26 = .ok (.iload_n 2, 1) := dk_28 (dk_at dksX3_worth_1 3 rfl rfl)
theorem dX3_worth_27 : decode cX3_worth 27 = .ok (.ifCond .ne 8, 3) := dk_154 0 8 (dk_at dksX3_worth_1 4 rfl rfl)
theorem dX3_worth_30 : decode cX3_worth 30 = .ok (.bipush (-5), 2) := dk_16 251 (dk_at dksX3_worth_1 7 rfl rfl)
theorem dX3_worth_32 : decode cX3_worth 32 = .ok (.goto 5, 3) := dk_167 0 5 (dk_at dksX3_worth_1 9 rfl rfl)
theorem dX3_worth_35 : decode cX3_worth 35 = .ok (.bipush (-6), 2) := dk_16 250 (dk_at dksX3_worth_1 12 rfl rfl)
theorem dX3_worth_37 : decode cX3_worth 37 = .ok (.ireturn, 1) := dk_172 (dk_at dksX3_worth_1 14 rfl rfl)
theorem q117 : (Jvm.Cond.initialized "WholePacks$Table") ∈ lw_all := lw_g (lw_at lw_m1 4 rfl) rfl
theorem q192 : (Jvm.Cond.fieldLinkNest "WholePacks$Table" (39 : Nat) "WholePacks$Desk" "n" "I" "WholePacks") ∈ lw_tbl := lw_at lw_m1 79 rfl
theorem q195 : (Jvm.Cond.fieldLinkNest "WholePacks$Table" (61 : Nat) "WholePacks$Desk" "ruleMany" "I" "WholePacks") ∈ lw_tbl := lw_at lw_m1 82 rfl
theorem q206 : (Jvm.Cond.fieldLinkNest "WholePacks$Table" (58 : Nat) "WholePacks$Desk" "costs" "[I" "WholePacks") ∈ lw_tbl := lw_at lw_m1 93 rfl
theorem q209 : (Jvm.Cond.fieldLinkNest "WholePacks$Table" (64 : Nat) "WholePacks$Desk" "rules" "[LWholePacks$Rule;" "WholePacks") ∈ lw_tbl := lw_at lw_m1 96 rfl
theorem q241 : (Jvm.Cond.instantiable "WholePacks$Table" (12 : Nat)) ∈ lw_all := lw_g (lw_at lw_m1 128 rfl) rfl
theorem q243 : (Jvm.Cond.instanceMethod ({ cls := "WholePacks$Table", name := "<init>", desc := "()V" } : Jvm.MethodName)) ∈ lw_all := lw_g (lw_at lw_m1 130 rfl) rfl
theorem q244 : (Jvm.Cond.code ({ cls := "WholePacks$Table", name := "<init>", desc := "()V" } : Jvm.MethodName) prog_16_method_1_code (2 : Nat) (Option.none : Option Jvm.ClassFile.FieldType)) ∈ lw_all := lw_g (lw_at lw_m1 131 rfl) rfl
theorem q245 : (Jvm.Cond.methodLink "WholePacks$Table" (3 : Nat) ({ cls := "java/lang/Object", name := "<init>", desc := "()V" } : Jvm.MethodName)) ∈ lw_all := lw_g (lw_at lw_m1 132 rfl) rfl
theorem q246 : (Jvm.Cond.classLink "WholePacks$Table" (28 : Nat) "WholePacks$Cut") ∈ lw_all := lw_g (lw_at lw_m1 133 rfl) rfl
theorem q249 : (Jvm.Cond.methodLinkNest "WholePacks$Table" (34 : Nat) ({ cls := "WholePacks$Cut", name := "<init>", desc := "()V" } : Jvm.MethodName) "WholePacks") ∈ lw_tbl := lw_at lw_m1 136 rfl
theorem q254 : (Jvm.Cond.fieldLinkNest "WholePacks$Table" (137 : Nat) "WholePacks$Cut" "points" "[J" "WholePacks") ∈ lw_tbl := lw_at lw_m1 141 rfl
theorem q257 : (Jvm.Cond.fieldLinkNest "WholePacks$Table" (139 : Nat) "WholePacks$Cut" "limit" "J" "WholePacks") ∈ lw_tbl := lw_at lw_m1 144 rfl
theorem q259 : (Jvm.Cond.fieldLinkNest "WholePacks$Table" (144 : Nat) "WholePacks$Cut" "below" "J" "WholePacks") ∈ lw_tbl := lw_at lw_m1 146 rfl
theorem q262 : (Jvm.Cond.fieldLinkNest "WholePacks$Table" (155 : Nat) "WholePacks$Cut" "weights" "[J" "WholePacks") ∈ lw_tbl := lw_at lw_m1 149 rfl
theorem q275 : (Jvm.Cond.fieldLink "WholePacks$Table" (44 : Nat) "WholePacks$Table" "n" "I") ∈ lw_all := lw_g (lw_at lw_m1 162 rfl) rfl
theorem q276 : (Jvm.Cond.fieldLink "WholePacks$Table" (35 : Nat) "WholePacks$Table" "rows" "I") ∈ lw_all := lw_g (lw_at lw_m1 163 rfl) rfl
theorem q278 : (Jvm.Cond.fieldLink "WholePacks$Table" (45 : Nat) "WholePacks$Table" "pivots" "I") ∈ lw_all := lw_g (lw_at lw_m1 165 rfl) rfl
theorem q280 : (Jvm.Cond.fieldLink "WholePacks$Table" (48 : Nat) "WholePacks$Table" "cutMany" "I") ∈ lw_all := lw_g (lw_at lw_m1 167 rfl) rfl
theorem q283 : (Jvm.Cond.fieldLink "WholePacks$Table" (51 : Nat) "WholePacks$Table" "below" "J") ∈ lw_all := lw_g (lw_at lw_m1 170 rfl) rfl
theorem q286 : (Jvm.Cond.fieldLink "WholePacks$Table" (55 : Nat) "WholePacks$Table" "base" "J") ∈ lw_all := lw_g (lw_at lw_m1 173 rfl) rfl
theorem q288 : (Jvm.Cond.fieldLink "WholePacks$Table" (9 : Nat) "WholePacks$Table" "entries" "[J") ∈ lw_all := lw_g (lw_at lw_m1 175 rfl) rfl
theorem q289 : (Jvm.Cond.fieldLink "WholePacks$Table" (15 : Nat) "WholePacks$Table" "rights" "[J") ∈ lw_all := lw_g (lw_at lw_m1 176 rfl) rfl
theorem q291 : (Jvm.Cond.fieldLink "WholePacks$Table" (18 : Nat) "WholePacks$Table" "rises" "[J") ∈ lw_all := lw_g (lw_at lw_m1 178 rfl) rfl
theorem q293 : (Jvm.Cond.fieldLink "WholePacks$Table" (21 : Nat) "WholePacks$Table" "rowOwners" "[I") ∈ lw_all := lw_g (lw_at lw_m1 180 rfl) rfl
theorem q295 : (Jvm.Cond.fieldLink "WholePacks$Table" (25 : Nat) "WholePacks$Table" "columnOwners" "[I") ∈ lw_all := lw_g (lw_at lw_m1 182 rfl) rfl
theorem q297 : (Jvm.Cond.fieldLink "WholePacks$Table" (30 : Nat) "WholePacks$Table" "cuts" "[LWholePacks$Cut;") ∈ lw_all := lw_g (lw_at lw_m1 184 rfl) rfl
theorem q299 : (Jvm.Cond.lays "WholePacks$Table" "WholePacks$Table" "n" "I") ∈ lw_all := lw_g (lw_at lw_m1 186 rfl) rfl
theorem q300 : (Jvm.Cond.soleField "WholePacks$Table" "n") ∈ lw_all := lw_g (lw_at lw_m1 187 rfl) rfl
theorem q301 : (Jvm.Cond.lays "WholePacks$Table" "WholePacks$Table" "rows" "I") ∈ lw_all := lw_g (lw_at lw_m1 188 rfl) rfl
theorem q302 : (Jvm.Cond.soleField "WholePacks$Table" "rows") ∈ lw_all := lw_g (lw_at lw_m1 189 rfl) rfl
theorem q303 : (Jvm.Cond.lays "WholePacks$Table" "WholePacks$Table" "pivots" "I") ∈ lw_all := lw_g (lw_at lw_m1 190 rfl) rfl
theorem q304 : (Jvm.Cond.soleField "WholePacks$Table" "pivots") ∈ lw_all := lw_g (lw_at lw_m1 191 rfl) rfl
theorem q305 : (Jvm.Cond.lays "WholePacks$Table" "WholePacks$Table" "cutMany" "I") ∈ lw_all := lw_g (lw_at lw_m1 192 rfl) rfl
theorem q306 : (Jvm.Cond.soleField "WholePacks$Table" "cutMany") ∈ lw_all := lw_g (lw_at lw_m1 193 rfl) rfl
theorem q307 : (Jvm.Cond.lays "WholePacks$Table" "WholePacks$Table" "below" "J") ∈ lw_all := lw_g (lw_at lw_m1 194 rfl) rfl
theorem q308 : (Jvm.Cond.soleField "WholePacks$Table" "below") ∈ lw_all := lw_g (lw_at lw_m1 195 rfl) rfl
theorem q309 : (Jvm.Cond.lays "WholePacks$Table" "WholePacks$Table" "base" "J") ∈ lw_all := lw_g (lw_at lw_m1 196 rfl) rfl
theorem q310 : (Jvm.Cond.soleField "WholePacks$Table" "base") ∈ lw_all := lw_g (lw_at lw_m1 197 rfl) rfl
theorem q311 : (Jvm.Cond.laysFinal "WholePacks$Table" "WholePacks$Table" "entries" "[J") ∈ lw_all := lw_g (lw_at lw_m1 198 rfl) rfl
theorem q312 : (Jvm.Cond.soleField "WholePacks$Table" "entries") ∈ lw_all := lw_g (lw_at lw_m1 199 rfl) rfl
theorem q313 : (Jvm.Cond.laysFinal "WholePacks$Table" "WholePacks$Table" "rights" "[J") ∈ lw_all := lw_g (lw_at lw_m1 200 rfl) rfl
theorem q314 : (Jvm.Cond.soleField "WholePacks$Table" "rights") ∈ lw_all := lw_g (lw_at lw_m1 201 rfl) rfl
theorem q315 : (Jvm.Cond.laysFinal "WholePacks$Table" "WholePacks$Table" "rises" "[J") ∈ lw_all := lw_g (lw_at lw_m1 202 rfl) rfl
theorem q316 : (Jvm.Cond.soleField "WholePacks$Table" "rises") ∈ lw_all := lw_g (lw_at lw_m1 203 rfl) rfl
theorem q317 : (Jvm.Cond.laysFinal "WholePacks$Table" "WholePacks$Table" "rowOwners" "[I") ∈ lw_all := lw_g (lw_at lw_m1 204 rfl) rfl
theorem q318 : (Jvm.Cond.soleField "WholePacks$Table" "rowOwners") ∈ lw_all := lw_g (lw_at lw_m1 205 rfl) rfl
theorem q319 : (Jvm.Cond.laysFinal "WholePacks$Table" "WholePacks$Table" "columnOwners" "[I") ∈ lw_all := lw_g (lw_at lw_m1 206 rfl) rfl
theorem q320 : (Jvm.Cond.soleField "WholePacks$Table" "columnOwners") ∈ lw_all := lw_g (lw_at lw_m1 207 rfl) rfl
theorem q321 : (Jvm.Cond.laysFinal "WholePacks$Table" "WholePacks$Table" "cuts" "[LWholePacks$Cut;") ∈ lw_all := lw_g (lw_at lw_m1 208 rfl) rfl
theorem q322 : (Jvm.Cond.soleField "WholePacks$Table" "cuts") ∈ lw_all := lw_g (lw_at lw_m1 209 rfl) rfl
theorem q323 : (Jvm.Cond.superclass "WholePacks$Table" "java/lang/Object") ∈ lw_all := lw_g (lw_at lw_m1 210 rfl) rfl
theorem q773 : (Jvm.Cond.instanceMethod ({ cls := "WholePacks$Table", name := "solves", desc := "(LWholePacks$Desk;I)I" } : Jvm.MethodName)) ∈ lw_all := lw_g (lw_at lw_m3 180 rfl) rfl
theorem q774 : (Jvm.Cond.selects "WholePacks$Table" ({ cls := "WholePacks$Table", name := "solves", desc := "(LWholePacks$Desk;I)I" } : Jvm.MethodName) ({ cls := "WholePacks$Table", name := "solves", desc := "(LWholePacks$Desk;I)I" } : Jvm.MethodName)) ∈ lw_all := lw_g (lw_at lw_m3 181 rfl) rfl
theorem q775 : (Jvm.Cond.codeWith ({ cls := "WholePacks$Table", name := "solves", desc := "(LWholePacks$Desk;I)I" } : Jvm.MethodName) prog_16_method_18_code (4 : Nat) (Option.some Jvm.ClassFile.FieldType.int) [((5 : Nat), (28 : Nat), (49 : Nat), (108 : Nat)), ((29 : Nat), (48 : Nat), (49 : Nat), (108 : Nat))]) ∈ lw_all := lw_g (lw_at lw_m3 182 rfl) rfl
theorem q776 : (Jvm.Cond.classLink "WholePacks$Table" (108 : Nat) "WholePacks$Stuck") ∈ lw_all := lw_g (lw_at lw_m3 183 rfl) rfl
theorem q777 : (Jvm.Cond.methodLink "WholePacks$Table" (165 : Nat) ({ cls := "WholePacks$Table", name := "begins", desc := "(LWholePacks$Desk;)V" } : Jvm.MethodName)) ∈ lw_all := lw_g (lw_at lw_m3 184 rfl) rfl
theorem q778 : (Jvm.Cond.instanceMethod ({ cls := "WholePacks$Table", name := "begins", desc := "(LWholePacks$Desk;)V" } : Jvm.MethodName)) ∈ lw_all := lw_g (lw_at lw_m3 185 rfl) rfl
theorem q779 : (Jvm.Cond.selects "WholePacks$Table" ({ cls := "WholePacks$Table", name := "begins", desc := "(LWholePacks$Desk;)V" } : Jvm.MethodName) ({ cls := "WholePacks$Table", name := "begins", desc := "(LWholePacks$Desk;)V" } : Jvm.MethodName)) ∈ lw_all := lw_g (lw_at lw_m3 186 rfl) rfl
theorem q780 : (Jvm.Cond.code ({ cls := "WholePacks$Table", name := "begins", desc := "(LWholePacks$Desk;)V" } : Jvm.MethodName) prog_16_method_5_code (5 : Nat) (Option.none : Option Jvm.ClassFile.FieldType)) ∈ lw_all := lw_g (lw_at lw_m3 187 rfl) rfl
theorem q781 : (Jvm.Cond.methodLink "WholePacks$Table" (68 : Nat) ({ cls := "WholePacks$Rule", name := "limit", desc := "()J" } : Jvm.MethodName)) ∈ lw_all := lw_g (lw_at lw_m3 188 rfl) rfl
theorem q785 : (Jvm.Cond.methodLink "WholePacks$Table" (74 : Nat) ({ cls := "WholePacks$Table", name := "rowComes", desc := "(IJ)I" } : Jvm.MethodName)) ∈ lw_all := lw_g (lw_at lw_m3 192 rfl) rfl
theorem q786 : (Jvm.Cond.privateMethod ({ cls := "WholePacks$Table", name := "rowComes", desc := "(IJ)I" } : Jvm.MethodName)) ∈ lw_tbl := lw_at lw_m3 193 rfl
theorem q787 : (Jvm.Cond.instanceMethod ({ cls := "WholePacks$Table", name := "rowComes", desc := "(IJ)I" } : Jvm.MethodName)) ∈ lw_all := lw_g (lw_at lw_m3 194 rfl) rfl
theorem q788 : (Jvm.Cond.code ({ cls := "WholePacks$Table", name := "rowComes", desc := "(IJ)I" } : Jvm.MethodName) prog_16_method_4_code (4 : Nat) (Option.some Jvm.ClassFile.FieldType.int)) ∈ lw_all := lw_g (lw_at lw_m3 195 rfl) rfl
theorem q789 : (Jvm.Cond.methodLink "WholePacks$Table" (78 : Nat) ({ cls := "WholePacks$Rule", name := "points", desc := "(I)J" } : Jvm.MethodName)) ∈ lw_all := lw_g (lw_at lw_m3 196 rfl) rfl
theorem q793 : (Jvm.Cond.methodLink "WholePacks$Table" (82 : Nat) ({ cls := "WholePacks$Table", name := "puts", desc := "(IIJ)V" } : Jvm.MethodName)) ∈ lw_all := lw_g (lw_at lw_m3 200 rfl) rfl
theorem q794 : (Jvm.Cond.privateMethod ({ cls := "WholePacks$Table", name := "puts", desc := "(IIJ)V" } : Jvm.MethodName)) ∈ lw_tbl := lw_at lw_m3 201 rfl
theorem q795 : (Jvm.Cond.instanceMethod ({ cls := "WholePacks$Table", name := "puts", desc := "(IIJ)V" } : Jvm.MethodName)) ∈ lw_all := lw_g (lw_at lw_m3 202 rfl) rfl
theorem q796 : (Jvm.Cond.code ({ cls := "WholePacks$Table", name := "puts", desc := "(IIJ)V" } : Jvm.MethodName) prog_16_method_3_code (5 : Nat) (Option.none : Option Jvm.ClassFile.FieldType)) ∈ lw_all := lw_g (lw_at lw_m3 203 rfl) rfl
theorem q797 : (Jvm.Cond.methodLink "WholePacks$Table" (168 : Nat) ({ cls := "WholePacks$Table", name := "repairs", desc := "()V" } : Jvm.MethodName)) ∈ lw_all := lw_g (lw_at lw_m3 204 rfl) rfl
theorem q798 : (Jvm.Cond.instanceMethod ({ cls := "WholePacks$Table", name := "repairs", desc := "()V" } : Jvm.MethodName)) ∈ lw_all := lw_g (lw_at lw_m3 205 rfl) rfl
theorem q799 : (Jvm.Cond.selects "WholePacks$Table" ({ cls := "WholePacks$Table", name := "repairs", desc := "()V" } : Jvm.MethodName) ({ cls := "WholePacks$Table", name := "repairs", desc := "()V" } : Jvm.MethodName)) ∈ lw_all := lw_g (lw_at lw_m3 206 rfl) rfl
theorem q800 : (Jvm.Cond.code ({ cls := "WholePacks$Table", name := "repairs", desc := "()V" } : Jvm.MethodName) prog_16_method_13_code (3 : Nat) (Option.none : Option Jvm.ClassFile.FieldType)) ∈ lw_all := lw_g (lw_at lw_m3 207 rfl) rfl
theorem q801 : (Jvm.Cond.methodLink "WholePacks$Table" (117 : Nat) ({ cls := "WholePacks$Table", name := "lowRow", desc := "()I" } : Jvm.MethodName)) ∈ lw_all := lw_g (lw_at lw_m3 208 rfl) rfl
theorem q802 : (Jvm.Cond.privateMethod ({ cls := "WholePacks$Table", name := "lowRow", desc := "()I" } : Jvm.MethodName)) ∈ lw_tbl := lw_at lw_m3 209 rfl
theorem q803 : (Jvm.Cond.instanceMethod ({ cls := "WholePacks$Table", name := "lowRow", desc := "()I" } : Jvm.MethodName)) ∈ lw_all := lw_g (lw_at lw_m3 210 rfl) rfl
theorem q804 : (Jvm.Cond.code ({ cls := "WholePacks$Table", name := "lowRow", desc := "()I" } : Jvm.MethodName) prog_16_method_10_code (3 : Nat) (Option.some Jvm.ClassFile.FieldType.int)) ∈ lw_all := lw_g (lw_at lw_m3 211 rfl) rfl
theorem q805 : (Jvm.Cond.methodLink "WholePacks$Table" (121 : Nat) ({ cls := "WholePacks$Table", name := "columnFor", desc := "(I)I" } : Jvm.MethodName)) ∈ lw_all := lw_g (lw_at lw_m3 212 rfl) rfl
theorem q806 : (Jvm.Cond.privateMethod ({ cls := "WholePacks$Table", name := "columnFor", desc := "(I)I" } : Jvm.MethodName)) ∈ lw_tbl := lw_at lw_m3 213 rfl
theorem q807 : (Jvm.Cond.instanceMethod ({ cls := "WholePacks$Table", name := "columnFor", desc := "(I)I" } : Jvm.MethodName)) ∈ lw_all := lw_g (lw_at lw_m3 214 rfl) rfl
theorem q808 : (Jvm.Cond.code ({ cls := "WholePacks$Table", name := "columnFor", desc := "(I)I" } : Jvm.MethodName) prog_16_method_12_code (4 : Nat) (Option.some Jvm.ClassFile.FieldType.int)) ∈ lw_all := lw_g (lw_at lw_m3 215 rfl) rfl
theorem q809 : (Jvm.Cond.methodLink "WholePacks$Table" (88 : Nat) ({ cls := "WholePacks$Table", name := "entry", desc := "(II)J" } : Jvm.MethodName)) ∈ lw_all := lw_g (lw_at lw_m3 216 rfl) rfl
theorem q810 : (Jvm.Cond.instanceMethod ({ cls := "WholePacks$Table", name := "entry", desc := "(II)J" } : Jvm.MethodName)) ∈ lw_all := lw_g (lw_at lw_m3 217 rfl) rfl
theorem q811 : (Jvm.Cond.selects "WholePacks$Table" ({ cls := "WholePacks$Table", name := "entry", desc := "(II)J" } : Jvm.MethodName) ({ cls := "WholePacks$Table", name := "entry", desc := "(II)J" } : Jvm.MethodName)) ∈ lw_all := lw_g (lw_at lw_m3 218 rfl) rfl
theorem q812 : (Jvm.Cond.code ({ cls := "WholePacks$Table", name := "entry", desc := "(II)J" } : Jvm.MethodName) prog_16_method_2_code (3 : Nat) (Option.some Jvm.ClassFile.FieldType.long)) ∈ lw_all := lw_g (lw_at lw_m3 219 rfl) rfl
theorem q813 : (Jvm.Cond.methodLink "WholePacks$Table" (113 : Nat) ({ cls := "WholePacks$Table", name := "isBetter", desc := "(III)Z" } : Jvm.MethodName)) ∈ lw_all := lw_g (lw_at lw_m3 220 rfl) rfl
theorem q814 : (Jvm.Cond.privateMethod ({ cls := "WholePacks$Table", name := "isBetter", desc := "(III)Z" } : Jvm.MethodName)) ∈ lw_tbl := lw_at lw_m3 221 rfl
theorem q815 : (Jvm.Cond.instanceMethod ({ cls := "WholePacks$Table", name := "isBetter", desc := "(III)Z" } : Jvm.MethodName)) ∈ lw_all := lw_g (lw_at lw_m3 222 rfl) rfl
theorem q816 : (Jvm.Cond.code ({ cls := "WholePacks$Table", name := "isBetter", desc := "(III)Z" } : Jvm.MethodName) prog_16_method_11_code (8 : Nat) (Option.some Jvm.ClassFile.FieldType.boolean)) ∈ lw_all := lw_g (lw_at lw_m3 223 rfl) rfl
theorem q825 : (Jvm.Cond.methodLink "WholePacks$Table" (110 : Nat) ({ cls := "WholePacks$Stuck", name := "<init>", desc := "(I)V" } : Jvm.MethodName)) ∈ lw_all := lw_g (lw_at lw_m3 232 rfl) rfl
theorem q830 : (Jvm.Cond.fieldLinkNest "WholePacks$Table" (177 : Nat) "WholePacks$Stuck" "answer" "I" "WholePacks") ∈ lw_tbl := lw_at lw_m3 237 rfl
theorem q836 : (Jvm.Cond.methodLink "WholePacks$Table" (125 : Nat) ({ cls := "WholePacks$Table", name := "pivot", desc := "(II)V" } : Jvm.MethodName)) ∈ lw_all := lw_g (lw_at lw_m4 3 rfl) rfl
theorem q837 : (Jvm.Cond.privateMethod ({ cls := "WholePacks$Table", name := "pivot", desc := "(II)V" } : Jvm.MethodName)) ∈ lw_tbl := lw_at lw_m4 4 rfl
theorem q838 : (Jvm.Cond.instanceMethod ({ cls := "WholePacks$Table", name := "pivot", desc := "(II)V" } : Jvm.MethodName)) ∈ lw_all := lw_g (lw_at lw_m4 5 rfl) rfl
theorem q839 : (Jvm.Cond.code ({ cls := "WholePacks$Table", name := "pivot", desc := "(II)V" } : Jvm.MethodName) prog_16_method_9_code (9 : Nat) (Option.none : Option Jvm.ClassFile.FieldType)) ∈ lw_all := lw_g (lw_at lw_m4 6 rfl) rfl
theorem q840 : (Jvm.Cond.methodLink "WholePacks$Table" (104 : Nat) ({ cls := "WholePacks$Table", name := "staysSmall", desc := "(II)Z" } : Jvm.MethodName)) ∈ lw_all := lw_g (lw_at lw_m4 7 rfl) rfl
theorem q841 : (Jvm.Cond.privateMethod ({ cls := "WholePacks$Table", name := "staysSmall", desc := "(II)Z" } : Jvm.MethodName)) ∈ lw_tbl := lw_at lw_m4 8 rfl
theorem q842 : (Jvm.Cond.instanceMethod ({ cls := "WholePacks$Table", name := "staysSmall", desc := "(II)Z" } : Jvm.MethodName)) ∈ lw_all := lw_g (lw_at lw_m4 9 rfl) rfl
theorem q843 : (Jvm.Cond.code ({ cls := "WholePacks$Table", name := "staysSmall", desc := "(II)Z" } : Jvm.MethodName) prog_16_method_8_code (9 : Nat) (Option.some Jvm.ClassFile.FieldType.boolean)) ∈ lw_all := lw_g (lw_at lw_m4 10 rfl) rfl
theorem q844 : (Jvm.Cond.methodLink "WholePacks$Table" (92 : Nat) ({ cls := "WholePacks$Table", name := "mixed", desc := "(JJJJ)J" } : Jvm.MethodName)) ∈ lw_all := lw_g (lw_at lw_m4 11 rfl) rfl
theorem q845 : (Jvm.Cond.privateMethod ({ cls := "WholePacks$Table", name := "mixed", desc := "(JJJJ)J" } : Jvm.MethodName)) ∈ lw_tbl := lw_at lw_m4 12 rfl
theorem q846 : (Jvm.Cond.instanceMethod ({ cls := "WholePacks$Table", name := "mixed", desc := "(JJJJ)J" } : Jvm.MethodName)) ∈ lw_all := lw_g (lw_at lw_m4 13 rfl) rfl
theorem q847 : (Jvm.Cond.code ({ cls := "WholePacks$Table", name := "mixed", desc := "(JJJJ)J" } : Jvm.MethodName) prog_16_method_7_code (9 : Nat) (Option.some Jvm.ClassFile.FieldType.long)) ∈ lw_all := lw_g (lw_at lw_m4 14 rfl) rfl
theorem q848 : (Jvm.Cond.constantLong "WholePacks$Table" (96 : Nat) (-1000000000 : Int64)) ∈ lw_all := lw_g (lw_at lw_m4 15 rfl) rfl
theorem q849 : (Jvm.Cond.constantLong "WholePacks$Table" (98 : Nat) (1000000000 : Int64)) ∈ lw_all := lw_g (lw_at lw_m4 16 rfl) rfl
theorem q850 : (Jvm.Cond.methodLinkNest "WholePacks$Table" (100 : Nat) ({ cls := "WholePacks", name := "in", desc := "(JJJ)Z" } : Jvm.MethodName) "WholePacks") ∈ lw_tbl := lw_at lw_m4 17 rfl
theorem q851 : (Jvm.Cond.methodLink "WholePacks$Table" (171 : Nat) ({ cls := "WholePacks$Table", name := "brokenRow", desc := "()I" } : Jvm.MethodName)) ∈ lw_all := lw_g (lw_at lw_m4 18 rfl) rfl
theorem q852 : (Jvm.Cond.privateMethod ({ cls := "WholePacks$Table", name := "brokenRow", desc := "()I" } : Jvm.MethodName)) ∈ lw_tbl := lw_at lw_m4 19 rfl
theorem q853 : (Jvm.Cond.instanceMethod ({ cls := "WholePacks$Table", name := "brokenRow", desc := "()I" } : Jvm.MethodName)) ∈ lw_all := lw_g (lw_at lw_m4 20 rfl) rfl
theorem q854 : (Jvm.Cond.code ({ cls := "WholePacks$Table", name := "brokenRow", desc := "()I" } : Jvm.MethodName) prog_16_method_15_code (2 : Nat) (Option.some Jvm.ClassFile.FieldType.int)) ∈ lw_all := lw_g (lw_at lw_m4 21 rfl) rfl
theorem q855 : (Jvm.Cond.methodLink "WholePacks$Table" (129 : Nat) ({ cls := "WholePacks$Table", name := "isPack", desc := "(I)Z" } : Jvm.MethodName)) ∈ lw_all := lw_g (lw_at lw_m4 22 rfl) rfl
theorem q856 : (Jvm.Cond.privateMethod ({ cls := "WholePacks$Table", name := "isPack", desc := "(I)Z" } : Jvm.MethodName)) ∈ lw_tbl := lw_at lw_m4 23 rfl
theorem q857 : (Jvm.Cond.instanceMethod ({ cls := "WholePacks$Table", name := "isPack", desc := "(I)Z" } : Jvm.MethodName)) ∈ lw_all := lw_g (lw_at lw_m4 24 rfl) rfl
theorem q858 : (Jvm.Cond.code ({ cls := "WholePacks$Table", name := "isPack", desc := "(I)Z" } : Jvm.MethodName) prog_16_method_14_code (2 : Nat) (Option.some Jvm.ClassFile.FieldType.boolean)) ∈ lw_all := lw_g (lw_at lw_m4 25 rfl) rfl
theorem q859 : (Jvm.Cond.methodLink "WholePacks$Table" (174 : Nat) ({ cls := "WholePacks$Table", name := "cuts", desc := "(ILWholePacks$Desk;)V" } : Jvm.MethodName)) ∈ lw_all := lw_g (lw_at lw_m4 26 rfl) rfl
theorem q860 : (Jvm.Cond.privateMethod ({ cls := "WholePacks$Table", name := "cuts", desc := "(ILWholePacks$Desk;)V" } : Jvm.MethodName)) ∈ lw_tbl := lw_at lw_m4 27 rfl
theorem q861 : (Jvm.Cond.instanceMethod ({ cls := "WholePacks$Table", name := "cuts", desc := "(ILWholePacks$Desk;)V" } : Jvm.MethodName)) ∈ lw_all := lw_g (lw_at lw_m4 28 rfl) rfl
theorem q862 : (Jvm.Cond.code ({ cls := "WholePacks$Table", name := "cuts", desc := "(ILWholePacks$Desk;)V" } : Jvm.MethodName) prog_16_method_17_code (6 : Nat) (Option.none : Option Jvm.ClassFile.FieldType)) ∈ lw_all := lw_g (lw_at lw_m4 29 rfl) rfl
theorem q863 : (Jvm.Cond.methodLink "WholePacks$Table" (141 : Nat) ({ cls := "WholePacks$Cut", name := "begins", desc := "()V" } : Jvm.MethodName)) ∈ lw_all := lw_g (lw_at lw_m4 30 rfl) rfl
theorem q867 : (Jvm.Cond.methodLink "WholePacks$Table" (133 : Nat) ({ cls := "WholePacks$Cut", name := "gets", desc := "(JIJ)V" } : Jvm.MethodName)) ∈ lw_all := lw_g (lw_at lw_m4 34 rfl) rfl
theorem q871 : (Jvm.Cond.methodLink "WholePacks$Table" (145 : Nat) ({ cls := "java/lang/Math", name := "floorDiv", desc := "(JJ)J" } : Jvm.MethodName)) ∈ lw_all := lw_g (lw_at lw_m4 38 rfl) rfl
theorem q874 : (Jvm.Cond.methodLink "WholePacks$Table" (151 : Nat) ({ cls := "WholePacks$Table", name := "tells", desc := "(LWholePacks$Cut;IJLWholePacks$Desk;)V" } : Jvm.MethodName)) ∈ lw_all := lw_g (lw_at lw_m4 41 rfl) rfl
theorem q875 : (Jvm.Cond.privateMethod ({ cls := "WholePacks$Table", name := "tells", desc := "(LWholePacks$Cut;IJLWholePacks$Desk;)V" } : Jvm.MethodName)) ∈ lw_tbl := lw_at lw_m4 42 rfl
theorem q876 : (Jvm.Cond.instanceMethod ({ cls := "WholePacks$Table", name := "tells", desc := "(LWholePacks$Cut;IJLWholePacks$Desk;)V" } : Jvm.MethodName)) ∈ lw_all := lw_g (lw_at lw_m4 43 rfl) rfl
theorem q877 : (Jvm.Cond.code ({ cls := "WholePacks$Table", name := "tells", desc := "(LWholePacks$Cut;IJLWholePacks$Desk;)V" } : Jvm.MethodName) prog_16_method_16_code (10 : Nat) (Option.none : Option Jvm.ClassFile.FieldType)) ∈ lw_all := lw_g (lw_at lw_m4 44 rfl) rfl
theorem q878 : (Jvm.Cond.methodLink "WholePacks$Table" (158 : Nat) ({ cls := "java/lang/Math", name := "floorMod", desc := "(JJ)J" } : Jvm.MethodName)) ∈ lw_all := lw_g (lw_at lw_m4 45 rfl) rfl
theorem q881 : (Jvm.Cond.methodLink "WholePacks$Table" (161 : Nat) ({ cls := "WholePacks$Cut", name := "isSmall", desc := "()Z" } : Jvm.MethodName)) ∈ lw_all := lw_g (lw_at lw_m4 48 rfl) rfl
theorem q903 : (Jvm.Cond.instanceMethod ({ cls := "WholePacks$Table", name := "right", desc := "(I)J" } : Jvm.MethodName)) ∈ lw_all := lw_g (lw_at lw_m4 70 rfl) rfl
theorem q904 : (Jvm.Cond.selects "WholePacks$Table" ({ cls := "WholePacks$Table", name := "right", desc := "(I)J" } : Jvm.MethodName) ({ cls := "WholePacks$Table", name := "right", desc := "(I)J" } : Jvm.MethodName)) ∈ lw_all := lw_g (lw_at lw_m4 71 rfl) rfl
theorem q905 : (Jvm.Cond.code ({ cls := "WholePacks$Table", name := "right", desc := "(I)J" } : Jvm.MethodName) prog_16_method_20_code (3 : Nat) (Option.some Jvm.ClassFile.FieldType.long)) ∈ lw_all := lw_g (lw_at lw_m4 72 rfl) rfl
theorem q906 : (Jvm.Cond.methodLink "WholePacks$Table" (180 : Nat) ({ cls := "WholePacks$Table", name := "rowOf", desc := "(I)I" } : Jvm.MethodName)) ∈ lw_all := lw_g (lw_at lw_m4 73 rfl) rfl
theorem q907 : (Jvm.Cond.privateMethod ({ cls := "WholePacks$Table", name := "rowOf", desc := "(I)I" } : Jvm.MethodName)) ∈ lw_tbl := lw_at lw_m4 74 rfl
theorem q908 : (Jvm.Cond.instanceMethod ({ cls := "WholePacks$Table", name := "rowOf", desc := "(I)I" } : Jvm.MethodName)) ∈ lw_all := lw_g (lw_at lw_m4 75 rfl) rfl
theorem q909 : (Jvm.Cond.code ({ cls := "WholePacks$Table", name := "rowOf", desc := "(I)I" } : Jvm.MethodName) prog_16_method_19_code (3 : Nat) (Option.some Jvm.ClassFile.FieldType.int)) ∈ lw_all := lw_g (lw_at lw_m4 76 rfl) rfl
theorem q928 : (Jvm.Cond.instanceMethod ({ cls := "WholePacks$Table", name := "rise", desc := "(I)J" } : Jvm.MethodName)) ∈ lw_all := lw_g (lw_at lw_m4 95 rfl) rfl
theorem q929 : (Jvm.Cond.selects "WholePacks$Table" ({ cls := "WholePacks$Table", name := "rise", desc := "(I)J" } : Jvm.MethodName) ({ cls := "WholePacks$Table", name := "rise", desc := "(I)J" } : Jvm.MethodName)) ∈ lw_all := lw_g (lw_at lw_m4 96 rfl) rfl
theorem q930 : (Jvm.Cond.code ({ cls := "WholePacks$Table", name := "rise", desc := "(I)J" } : Jvm.MethodName) prog_16_method_21_code (3 : Nat) (Option.some Jvm.ClassFile.FieldType.long)) ∈ lw_all := lw_g (lw_at lw_m4 97 rfl) rfl
theorem q1048 : (Jvm.Cond.selects "WholePacks$Table" ({ cls := "java/lang/Object", name := "getClass", desc := "()Ljava/lang/Class;" } : Jvm.MethodName) ({ cls := "java/lang/Object", name := "getClass", desc := "()Ljava/lang/Class;" } : Jvm.MethodName)) ∈ lw_all := lw_g (lw_at lw_m4 215 rfl) rfl
theorem q1231 : (Jvm.Cond.instanceMethod ({ cls := "WholePacks$Table", name := "holds", desc := "(IIZ)V" } : Jvm.MethodName)) ∈ lw_all := lw_g (lw_at lw_m5 158 rfl) rfl
theorem q1232 : (Jvm.Cond.selects "WholePacks$Table" ({ cls := "WholePacks$Table", name := "holds", desc := "(IIZ)V" } : Jvm.MethodName) ({ cls := "WholePacks$Table", name := "holds", desc := "(IIZ)V" } : Jvm.MethodName)) ∈ lw_all := lw_g (lw_at lw_m5 159 rfl) rfl
theorem q1233 : (Jvm.Cond.code ({ cls := "WholePacks$Table", name := "holds", desc := "(IIZ)V" } : Jvm.MethodName) prog_16_method_6_code (6 : Nat) (Option.none : Option Jvm.ClassFile.FieldType)) ∈ lw_all := lw_g (lw_at lw_m5 160 rfl) rfl
theorem q1234 : (Jvm.Cond.constantLong "WholePacks$Table" (86 : Nat) (-1 : Int64)) ∈ lw_all := lw_g (lw_at lw_m5 161 rfl) rfl
theorem q1241 : (Jvm.Cond.instanceMethod ({ cls := "WholePacks$Table", name := "brokenPack", desc := "()I" } : Jvm.MethodName)) ∈ lw_all := lw_g (lw_at lw_m5 168 rfl) rfl
theorem q1242 : (Jvm.Cond.selects "WholePacks$Table" ({ cls := "WholePacks$Table", name := "brokenPack", desc := "()I" } : Jvm.MethodName) ({ cls := "WholePacks$Table", name := "brokenPack", desc := "()I" } : Jvm.MethodName)) ∈ lw_all := lw_g (lw_at lw_m5 169 rfl) rfl
theorem q1243 : (Jvm.Cond.code ({ cls := "WholePacks$Table", name := "brokenPack", desc := "()I" } : Jvm.MethodName) prog_16_method_22_code (2 : Nat) (Option.some Jvm.ClassFile.FieldType.int)) ∈ lw_all := lw_g (lw_at lw_m5 170 rfl) rfl
theorem q1244 : (Jvm.Cond.methodLink "WholePacks$Table" (183 : Nat) ({ cls := "WholePacks$Table", name := "right", desc := "(I)J" } : Jvm.MethodName)) ∈ lw_all := lw_g (lw_at lw_m5 171 rfl) rfl
theorem q1292 : (Jvm.Cond.instanceMethod ({ cls := "WholePacks$Table", name := "worth", desc := "(LWholePacks$Desk;)I" } : Jvm.MethodName)) ∈ lw_all := lw_g (lw_at lw_m5 219 rfl) rfl
theorem q1293 : (Jvm.Cond.selects "WholePacks$Table" ({ cls := "WholePacks$Table", name := "worth", desc := "(LWholePacks$Desk;)I" } : Jvm.MethodName) ({ cls := "WholePacks$Table", name := "worth", desc := "(LWholePacks$Desk;)I" } : Jvm.MethodName)) ∈ lw_all := lw_g (lw_at lw_m5 220 rfl) rfl
theorem q1294 : (Jvm.Cond.code ({ cls := "WholePacks$Table", name := "worth", desc := "(LWholePacks$Desk;)I" } : Jvm.MethodName) prog_16_method_23_code (3 : Nat) (Option.some Jvm.ClassFile.FieldType.int)) ∈ lw_all := lw_g (lw_at lw_m5 221 rfl) rfl
theorem q1295 : (Jvm.Cond.methodLink "WholePacks$Table" (186 : Nat) ({ cls := "WholePacks$Table", name := "solves", desc := "(LWholePacks$Desk;I)I" } : Jvm.MethodName)) ∈ lw_all := lw_g (lw_at lw_m5 222 rfl) rfl
theorem q2407 : (Jvm.Cond.castable "WholePacks$Table" "java/lang/Object") ∈ lw_tbl := lw_at lw_m10 134 rfl
theorem in_X3 : ∀ w ∈ wsX30, w ∈ lw_all := lw_in wsX30 [299, 301, 303, 305, 307, 309, 311, 313, 315, 317, 319, 321] (by decide +kernel) (by decide +kernel)
