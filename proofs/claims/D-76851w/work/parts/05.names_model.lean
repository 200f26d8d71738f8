/-! WholePacksModel -/
set_option maxRecDepth 100000
def RX9 : String := "WholePacksModel"
def TX9 : u_T := fun k => match k with
  | 0 => ("WholePacksModel", "g", "[I", true)
  | 1 => ("WholePacksModel", "kept", "[I", true)
  | 2 => ("WholePacksModel", "lent", "[I", true)
  | 3 => ("WholePacksModel", "isKept", "Z", false)
  | 4 => ("WholePacksModel", "text", "[I", true)
  | 5 => ("WholePacksModel", "clause", "[I", true)
  | 6 => ("WholePacksModel", "fed", "I", false)
  | 7 => ("WholePacksModel", "at", "I", false)
  | 8 => ("WholePacksModel", "fault", "I", false)
  | 9 => ("WholePacksModel", "stays", "LWholePacksModel$Table;", true)
  | 10 => ("WholePacksModel", "thought", "LWholePacksModel$Table;", true)
  | 11 => ("WholePacksModel", "mix", "[I", true)
  | 12 => ("WholePacksModel", "bestCode", "[I", true)
  | 13 => ("WholePacksModel", "bestCost", "[I", true)
  | 14 => ("WholePacksModel", "leastOf", "[I", true)
  | 15 => ("WholePacksModel", "mostOf", "[I", true)
  | 16 => ("WholePacksModel", "depth", "[I", true)
  | 17 => ("WholePacksModel", "amounts", "[J", true)
  | 18 => ("WholePacksModel", "bases", "[J", true)
  | 19 => ("WholePacksModel", "divisors", "[J", true)
  | 20 => ("WholePacksModel", "waits", "[Z", true)
  | 21 => ("WholePacksModel", "nodes", "I", false)
  | 22 => ("WholePacksModel", "allPivots", "I", false)
  | 23 => ("WholePacksModel", "answer", "I", false)
  | 24 => ("WholePacksModel", "seed", "I", false)
  | 25 => ("WholePacksModel", "sort", "[I", true)
  | 26 => ("WholePacksModel", "count", "[I", true)
  | 27 => ("WholePacksModel", "item", "[J", true)
  | _ => ("WholePacksModel", "lifted", "[J", true)
def tyX9 : Nat → FieldType := fun k => match k with
  | 0 => .array .int
  | 1 => .array .int
  | 2 => .array .int
  | 3 => .boolean
  | 4 => .array .int
  | 5 => .array .int
  | 6 => .int
  | 7 => .int
  | 8 => .int
  | 9 => .object "WholePacksModel$Table"
  | 10 => .object "WholePacksModel$Table"
  | 11 => .array .int
  | 12 => .array .int
  | 13 => .array .int
  | 14 => .array .int
  | 15 => .array .int
  | 16 => .array .int
  | 17 => .array .long
  | 18 => .array .long
  | 19 => .array .long
  | 20 => .array .boolean
  | 21 => .int
  | 22 => .int
  | 23 => .int
  | 24 => .int
  | 25 => .array .int
  | 26 => .array .int
  | 27 => .array .long
  | _ => .array .long
abbrev wsX90 : List Cond := u_ws RX9 TX9 29
set_option maxRecDepth 100000 in
theorem nmX9 : ∀ a, a < 29 → ∀ b, b < 29 → a ≠ b → (TX9 a).2.1 ≠ (TX9 b).2.1 := by decide +kernel
set_option maxRecDepth 100000 in
theorem tyX9_ok : ∀ k, k < 29 → parseFieldDescriptor (TX9 k).2.2.1 = some (tyX9 k) := by decide +kernel
abbrev cX9_init : ByteArray := prog_19_method_1_code
def yX9_init : MethodName := ⟨RX9, "<init>", "()V"⟩
def dkwX9_init_9 : List UInt8 := [2, 79, 132, 1, 1, 167, 255, 240, 177]
abbrev dktX9_init_9 : List UInt8 := dkwX9_init_9 ++ []
def dkwX9_init_8 : List UInt8 := [180, 0, 11, 6, 7, 79, 42, 5, 182, 0, 81, 3, 60, 27, 16, 6, 162, 0, 16, 42, 180, 0, 69, 27]
abbrev dktX9_init_8 : List UInt8 := dkwX9_init_8 ++ dktX9_init_9
def dkwX9_init_7 : List UInt8 := [188, 10, 181, 0, 72, 42, 17, 1, 104, 188, 11, 181, 0, 75, 42, 16, 60, 188, 11, 181, 0, 78, 42]
abbrev dktX9_init_7 : List UInt8 := dkwX9_init_7 ++ dktX9_init_8
def dkwX9_init_6 : List UInt8 := [188, 11, 181, 0, 62, 42, 16, 40, 188, 4, 181, 0, 65, 42, 16, 6, 188, 10, 181, 0, 69, 42, 16, 6]
abbrev dktX9_init_6 : List UInt8 := dkwX9_init_6 ++ dktX9_init_7
def dkwX9_init_5 : List UInt8 := [181, 0, 52, 42, 17, 0, 200, 188, 11, 181, 0, 55, 42, 16, 40, 188, 11, 181, 0, 59, 42, 16, 40]
abbrev dktX9_init_5 : List UInt8 := dkwX9_init_5 ++ dktX9_init_6
def dkwX9_init_4 : List UInt8 := [17, 0, 200, 188, 10, 181, 0, 46, 42, 17, 0, 200, 188, 10, 181, 0, 49, 42, 16, 40, 188, 10]
abbrev dktX9_init_4 : List UInt8 := dkwX9_init_4 ++ dktX9_init_5
def dkwX9_init_3 : List UInt8 := [188, 10, 181, 0, 37, 42, 16, 21, 188, 10, 181, 0, 40, 42, 16, 21, 188, 10, 181, 0, 43, 42]
abbrev dktX9_init_3 : List UInt8 := dkwX9_init_3 ++ dktX9_init_4
def dkwX9_init_2 : List UInt8 := [42, 187, 0, 27, 89, 183, 0, 29, 181, 0, 30, 42, 187, 0, 27, 89, 183, 0, 29, 181, 0, 34, 42, 8]
abbrev dktX9_init_2 : List UInt8 := dkwX9_init_2 ++ dktX9_init_3
def dkwX9_init_1 : List UInt8 := [17, 0, 150, 188, 10, 181, 0, 18, 42, 16, 80, 188, 10, 181, 0, 21, 42, 16, 28, 188, 10, 181, 0, 24]
abbrev dktX9_init_1 : List UInt8 := dkwX9_init_1 ++ dktX9_init_2
def dkwX9_init_0 : List UInt8 := [42, 183, 0, 5, 42, 17, 0, 150, 188, 10, 181, 0, 11, 42, 17, 0, 150, 188, 10, 181, 0, 15, 42]
abbrev dktX9_init_0 : List UInt8 := dkwX9_init_0 ++ dktX9_init_1
theorem dksX9_init_0 : cX9_init.data.toList.drop 0 = dktX9_init_0 := by decide +kernel
theorem dksX9_init_1 : cX9_init.data.toList.drop 23 = dktX9_init_1 := dk_seg dksX9_init_0 23 rfl rfl
theorem dksX9_init_2 : cX9_init.data.toList.drop 47 = dktX9_init_2 := dk_seg dksX9_init_1 24 rfl rfl
theorem dksX9_init_3 : cX9_init.data.toList.drop 71 = dktX9_init_3 := dk_seg dksX9_init_2 24 rfl rfl
theorem dksX9_init_4 : cX9_init.data.toList.drop 93 = dktX9_init_4 := dk_seg dksX9_init_3 22 rfl rfl
theorem dksX9_init_5 : cX9_init.data.toList.drop 115 = dktX9_init_5 := dk_seg dksX9_init_4 22 rfl rfl
theorem dksX9_init_6 : cX9_init.data.toList.drop 138 = dktX9_init_6 := dk_seg dksX9_init_5 23 rfl rfl
theorem dksX9_init_7 : cX9_init.data.toList.drop 162 = dktX9_init_7 := dk_seg dksX9_init_6 24 rfl rfl
theorem dksX9_init_8 : cX9_init.data.toList.drop 185 = dktX9_init_8 := dk_seg dksX9_init_7 23 rfl rfl
theorem dksX9_init_9 : cX9_init.data.toList.drop 209 = dktX9_init_9 := dk_seg dksX9_init_8 24 rfl rfl
theorem dX9_init_0 : decode cX9_init 0 = .ok (.aload_n 0, 1) := dk_42 (dk_at dksX9_init_0 0 rfl rfl)
theorem dX9_init_1 : decode cX9_init 1 = .ok (.invokespecial 5, 3) := dk_183 0 5 (dk_at dksX9_init_0 1 rfl rfl)
theorem dX9_init_4 : decode cX9_init 4 = .ok (.aload_n 0, 1) := dk_42 (dk_at dksX9_init_0 4 rfl rfl)
theorem dX9_init_5 : decode cX9_init 5 = .ok (.sipush 150, 3) := dk_17 0 150 (dk_at dksX9_init_0 5 rfl rfl)
theorem dX9_init_8 : decode cX9_init 8 = .ok (.newarray .int, 2) := dk_188_10 (dk_at dksX9_init_0 8 rfl rfl)
theorem dX9_init_10 : decode cX9_init 10 = .ok (.putfield 11, 3) := dk_181 0 11 (dk_at dksX9_init_0 10 rfl rfl)
theorem dX9_init_13 : decode cX9_init 13 = .ok (.aload_n 0, 1) := dk_42 (dk_at dksX9_init_0 13 rfl rfl)
theorem dX9_init_14 : decode cX9_init 14 = .ok (.sipush 150, 3) := dk_17 0 150 (dk_at dksX9_init_0 14 rfl rfl)
theorem dX9_init_17 : decode cX9_init 17 = .ok (.newarray .int, 2) := dk_188_10 (dk_at dksX9_init_0 17 rfl rfl)
theorem dX9_init_19 : decode cX9_init 19 = .ok (.putfield 15, 3) := dk_181 0 15 (dk_at dksX9_init_0 19 rfl rfl)
theorem dX9_init_22 : decode cX9_init 22 = .ok (.aload_n 0, 1) := dk_42 (dk_at dksX9_init_0 22 rfl rfl)
theorem dX9_init_23 : decode cX9_init 23 = .ok (.sipush 150, 3) := dk_17 0 150 (dk_at dksX9_init_1 0 rfl rfl)
theorem dX9_init_26 : decode cX9_init 26 = .ok (.newarray .int, 2) := dk_188_10 (dk_at dksX9_init_1 3 rfl rfl)
theorem dX9_init_28 : decode cX9_init 28 = .ok (.putfield 18, 3) := dk_181 0 18 (dk_at dksX9_init_1 5 rfl rfl)
theorem dX9_init_31 : decode cX9_init 31 = .ok (.aload_n 0, 1) := dk_42 (dk_at dksX9_init_1 8 rfl rfl)
theorem dX9_init_32 : decode cX9_init 32 = .ok (.bipush 80, 2) := dk_16 80 (dk_at dksX9_init_1 9 rfl rfl)
theorem dX9_init_34 : decode cX9_init 34 = .ok (.newarray .int, 2) := dk_188_10 (dk_at dksX9_init_1 11 rfl rfl)
theorem dX9_init_36 : decode cX9_init 36 = .ok (.putfield 21, 3) := dk_181 0 21 (dk_at dksX9_init_1 13 rfl rfl)
theorem dX9_init_39 : decode cX9_init 39 = .ok (.aload_n 0, 1) := dk_42 (dk_at dksX9_init_1 16 rfl rfl)
theorem dX9_init_40 : decode cX9_init 40 = .ok (.bipush 28, 2) := dk_16 28 (dk_at dksX9_init_1 17 rfl rfl)
theorem dX9_init_42 : decode cX9_init 42 = .ok (.newarray .int, 2) := dk_188_10 (dk_at dksX9_init_1 19 rfl rfl)
theorem dX9_init_44 : decode cX9_init 44 = .ok (.putfield 24, 3) := dk_181 0 24 (dk_at dksX9_init_1 21 rfl rfl)
theorem dX9_init_47 : decode cX9_init 47 = .ok (.aload_n 0, 1) := dk_42 (dk_at dksX9_init_2 0 rfl rfl)
theorem dX9_init_48 : decode cX9_init 48 = .ok (.new 27, 3) := dk_187 0 27 (dk_at dksX9_init_2 1 rfl rfl)
theorem dX9_init_51 : decode cX9_init 51 = .ok (.dup, 1) := dk_89 (dk_at dksX9_init_2 4 rfl rfl)
theorem dX9_init_52 : decode cX9_init 52 = .ok (.invokespecial 29, 3) := dk_183 0 29 (dk_at dksX9_init_2 5 rfl rfl)
theorem dX9_init_55 : decode cX9_init 55 = .ok (.putfield 30, 3) := dk_181 0 30 (dk_at dksX9_init_2 8 rfl rfl)
theorem dX9_init_58 : decode cX9_init 58 = .ok (.aload_n 0, 1) := dk_42 (dk_at dksX9_init_2 11 rfl rfl)
theorem dX9_init_59 : decode cX9_init 59 = .ok (.new 27, 3) := dk_187 0 27 (dk_at dksX9_init_2 12 rfl rfl)
theorem dX9_init_62 : decode cX9_init 62 = .ok (.dup, 1) := dk_89 (dk_at dksX9_init_2 15 rfl rfl)
theorem dX9_init_63 : decode cX9_init 63 = .ok (.invokespecial 29, 3) := dk_183 0 29 (dk_at dksX9_init_2 16 rfl rfl)
theorem dX9_init_66 : decode cX9_init 66 = .ok (.putfield 34, 3) := dk_181 0 34 (dk_at dksX9_init_2 19 rfl rfl)
theorem dX9_init_69 : decode cX9_init 69 = .ok (.aload_n 0, 1) := dk_42 (dk_at dksX9_init_2 22 rfl rfl)
theorem dX9_init_70 : decode cX9_init 70 = .ok (.iconst 5, 1) := dk_8 (dk_at dksX9_init_2 23 rfl rfl)
theorem dX9_init_71 : decode cX9_init 71 = .ok (.newarray .int, 2) := dk_188_10 (dk_at dksX9_init_3 0 rfl rfl)
theorem dX9_init_73 : decode cX9_init 73 = .ok (.putfield 37, 3) := dk_181 0 37 (dk_at dksX9_init_3 2 rfl rfl)
theorem dX9_init_76 : decode cX9_init 76 = .ok (.aload_n 0, 1) := dk_42 (dk_at dksX9_init_3 5 rfl rfl)
theorem dX9_init_77 : decode cX9_init 77 = .ok (.bipush 21, 2) := dk_16 21 (dk_at dksX9_init_3 6 rfl rfl)
theorem dX9_init_79 : decode cX9_init 79 = .ok (.newarray .int, 2) := dk_188_10 (dk_at dksX9_init_3 8 rfl rfl)
theorem dX9_init_81 : decode cX9_init 81 = .ok (.putfield 40, 3) := dk_181 0 40 (dk_at dksX9_init_3 10 rfl rfl)
theorem dX9_init_84 : decode cX9_init 84 = .ok (.aload_n 0, 1) := dk_42 (dk_at dksX9_init_3 13 rfl rfl)
theorem dX9_init_85 : decode cX9_init 85 = .ok (.bipush 21, 2) := dk_16 21 (dk_at dksX9_init_3 14 rfl rfl)
theorem dX9_init_87 : decode cX9_init 87 = .ok (.newarray .int, 2) := dk_188_10 (dk_at dksX9_init_3 16 rfl rfl)
theorem dX9_init_89 : decode cX9_init 89 = .ok (.putfield 43, 3) := dk_181 0 43 (dk_at dksX9_init_3 18 rfl rfl)
theorem dX9_init_92 : decode cX9_init 92 = .ok (.aload_n 0, 1) := dk_42 (dk_at dksX9_init_3 21 rfl rfl)
theorem dX9_init_93 : decode cX9_init 93 = .ok (.sipush 200, 3) := dk_17 0 200 (dk_at dksX9_init_4 0 rfl rfl)
theorem dX9_init_96 : decode cX9_init 96 = .ok (.newarray .int, 2) := dk_188_10 (dk_at dksX9_init_4 3 rfl rfl)
theorem dX9_init_98 : decode cX9_init 98 = .ok (.putfield 46, 3) := dk_181 0 46 (dk_at dksX9_init_4 5 rfl rfl)
theorem dX9_init_101 : decode cX9_init 101 = .ok (.aload_n 0, 1) := dk_42 (dk_at dksX9_init_4 8 rfl rfl)
theorem dX9_init_102 : decode cX9_init 102 = .ok (.sipush 200, 3) := dk_17 0 200 (dk_at dksX9_init_4 9 rfl rfl)
theorem dX9_init_105 : decode cX9_init 105 = .ok (.newarray .int, 2) := dk_188_10 (dk_at dksX9_init_4 12 rfl rfl)
theorem dX9_init_107 : decode cX9_init 107 = .ok (.putfield 49, 3) := dk_181 0 49 (dk_at dksX9_init_4 14 rfl rfl)
theorem dX9_init_110 : decode cX9_init 110 = .ok (.aload_n 0, 1) := dk_42 (dk_at dksX9_init_4 17 rfl rfl)
theorem dX9_init_111 : decode cX9_init 111 = .ok (.bipush 40, 2) := dk_16 40 (dk_at dksX9_init_4 18 rfl rfl)
theorem dX9_init_113 : decode cX9_init 113 = .ok (.newarray .int, 2) := dk_188_10 (dk_at dksX9_init_4 20 rfl rfl)
theorem dX9_init_115 : decode cX9_init 115 = .ok (.putfield 52, 3) := dk_181 0 52 (dk_at dksX9_init_5 0 rfl rfl)
theorem dX9_init_118 : decode cX9_init 118 = .ok (.aload_n 0, 1) := dk_42 (dk_at dksX9_init_5 3 rfl rfl)
theorem dX9_init_119 : decode cX9_init 119 = .ok (.sipush 200, 3) := dk_17 0 200 (dk_at dksX9_init_5 4 rfl rfl)
theorem dX9_init_122 : decode cX9_init 122 = .ok (.newarray .long, 2) := dk_188_11 (dk_at dksX9_init_5 7 rfl rfl)
theorem dX9_init_124 : decode cX9_init 124 = .ok (.putfield 55, 3) := dk_181 0 55 (dk_at dksX9_init_5 9 rfl rfl)
theorem dX9_init_127 : decode cX9_init 127 = .ok (.aload_n 0, 1) := dk_42 (dk_at dksX9_init_5 12 rfl rfl)
theorem dX9_init_128 : decode cX9_init 128 = .ok (.bipush 40, 2) := dk_16 40 (dk_at dksX9_init_5 13 rfl rfl)
theorem dX9_init_130 : decode cX9_init 130 = .ok (.newarray .long, 2) := dk_188_11 (dk_at dksX9_init_5 15 rfl rfl)
theorem dX9_init_132 : decode cX9_init 132 = .ok (.putfield 59, 3) := dk_181 0 59 (dk_at dksX9_init_5 17 rfl rfl)
theorem dX9_init_135 : decode cX9_init 135 = .ok (.aload_n 0, 1) := dk_42 (dk_at dksX9_init_5 20 rfl rfl)
theorem dX9_init_136 : decode cX9_init 136 = .ok (.bipush 40, 2) := dk_16 40 (dk_at dksX9_init_5 21 rfl rfl)
theorem dX9_init_138 : decode cX9_init 138 = .ok (.newarray .long, 2) := dk_188_11 (dk_at dksX9_init_6 0 rfl rfl)
theorem dX9_init_140 : decode cX9_init 140 = .ok (.putfield 62, 3) := dk_181 0 62 (dk_at dksX9_init_6 2 rfl rfl)
theorem dX9_init_143 : decode cX9_init 143 = .ok (.aload_n 0, 1) := dk_42 (dk_at dksX9_init_6 5 rfl rfl)
theorem dX9_init_144 : decode cX9_init 144 = .ok (.bipush 40, 2) := dk_16 40 (dk_at dksX9_init_6 6 rfl rfl)
theorem dX9_init_146 : decode cX9_init 146 = .ok (.newarray .boolean, 2) := dk_188_4 (dk_at dksX9_init_6 8 rfl rfl)
theorem dX9_init_148 : decode cX9_init 148 = .ok (.putfield 65, 3) := dk_181 0 65 (dk_at dksX9_init_6 10 rfl rfl)
theorem dX9_init_151 : decode cX9_init 151 = .ok (.aload_n 0, 1) := dk_42 (dk_at dksX9_init_6 13 rfl rfl)
theorem dX9_init_152 : decode cX9_init 152 = .ok (.bipush 6, 2) := dk_16 6 (dk_at dksX9_init_6 14 rfl rfl)
theorem dX9_init_154 : decode cX9_init 154 = .ok (.newarray .int, 2) := dk_188_10 (dk_at dksX9_init_6 16 rfl rfl)
theorem dX9_init_156 : decode cX9_init 156 = .ok (.putfield 69, 3) := dk_181 0 69 (dk_at dksX9_init_6 18 rfl rfl)
theorem dX9_init_159 : decode cX9_init 159 = .ok (.aload_n 0, 1) := dk_42 (dk_at dksX9_init_6 21 rfl rfl)
theorem dX9_init_160 : decode cX9_init 160 = .ok (.bipush 6, 2) := dk_16 6 (dk_at dksX9_init_6 22 rfl rfl)
theorem dX9_init_162 : decode cX9_init 162 = .ok (.newarray .int, 2) := dk_188_10 (dk_at dksX9_init_7 0 rfl rfl)
theorem dX9_init_164 : decode cX9_init 164 = .ok (.putfield 72, 3) := dk_181 0 72 (dk_at dksX9_init_7 2 rfl rfl)
theorem dX9_init_167 : decode cX9_init 167 = .ok (.aload_n 0, 1) := dk_42 (dk_at dksX9_init_7 5 rfl rfl)
theorem dX9_init_168 : decode cX9_init 168 = .ok (.sipush 360, 3) := dk_17 1 104 (dk_at dksX9_init_7 6 rfl rfl)
theorem dX9_init_171 : decode cX9_init 171 = .ok (.newarray .long, 2) := dk_188_11 (dk_at dksX9_init_7 9 rfl rfl)
theorem dX9_init_173 : decode cX9_init 173 = .ok (.putfield 75, 3) := dk_181 0 75 (dk_at dksX9_init_7 11 rfl rfl)
theorem dX9_init_176 : decode cX9_init 176 = .ok (.aload_n 0, 1) := dk_42 (dk_at dksX9_init_7 14 rfl rfl)
theorem dX9_init_177 : decode cX9_init 177 = .ok (.bipush 60, 2) := dk_16 60 (dk_at dksX9_init_7 15 rfl rfl)
theorem dX9_init_179 : decode cX9_init 179 = .ok (.newarray .long, 2) := dk_188_11 (dk_at dksX9_init_7 17 rfl rfl)
theorem dX9_init_181 : decode cX9_init 181 = .ok (.putfield 78, 3) := dk_181 0 78 (dk_at dksX9_init_7 19 rfl rfl)
theorem dX9_init_184 : decode cX9_init 184 = .ok (.aload_n 0, 1) := dk_42 (dk_at dksX9_init_7 22 rfl rfl)
theorem dX9_init_185 : decode cX9_init 185 = .ok (.getfield 11, 3) := dk_180 0 11 (dk_at dksX9_init_8 0 rfl rfl)
theorem dX9_init_188 : decode cX9_init 188 = .ok (.iconst 3, 1) := dk_6 (dk_at dksX9_init_8 3 rfl rfl)
theorem dX9_init_189 : decode cX9_init 189 = .ok (.iconst 4, 1) := dk_7 (dk_at dksX9_init_8 4 rfl rfl)
theorem dX9_init_190 : decode cX9_init 190 = .ok (.iastore, 1) := dk_79 (dk_at dksX9_init_8 5 rfl rfl)
theorem dX9_init_191 : decode cX9_init 191 = .ok (.aload_n 0, 1) := dk_42 (dk_at dksX9_init_8 6 rfl rfl)
theorem dX9_init_192 : decode cX9_init 192 = .ok (.iconst 2, 1) := dk_5 (dk_at dksX9_init_8 7 rfl rfl)
theorem dX9_init_193 : decode cX9_init 193 = .ok (.invokevirtual 81, 3) := dk_182 0 81 (dk_at dksX9_init_8 8 rfl rfl)
theorem dX9_init_196 : decode cX9_init 196 = .ok (.iconst 0, 1) := dk_3 (dk_at dksX9_init_8 11 rfl rfl)
theorem dX9_init_197 : decode cX9_init 197 = .ok (.istore_n 1, 1) := dk_60 (dk_at dksX9_init_8 12 rfl rfl)
theorem dX9_init_198 : decode cX9_init 198 = .ok (.iload_n 1, 1) := dk_27 (dk_at dksX9_init_8 13 rfl rfl)
theorem dX9_init_199 : decode cX9_init 199 = .ok (.bipush 6, 2) := dk_16 6 (dk_at dksX9_init_8 14 rfl rfl)
theorem dX9_init_201 : decode cX9_init 201 = .ok (.if_icmp .ge 16, 3) := dk_162 0 16 (dk_at dksX9_init_8 16 rfl rfl)
theorem dX9_init_204 : decode cX9_init 204 = .ok (.aload_n 0, 1) := dk_42 (dk_at dksX9_init_8 19 rfl rfl)
theorem dX9_init_205 : decode cX9_init 205 = .ok (.getfield 69, 3) := dk_180 0 69 (dk_at dksX9_init_8 20 rfl rfl)
theorem dX9_init_208 : decode cX9_init 208 = .ok (.iload_n 1, 1) := dk_27 (dk_at dksX9_init_8 23 rfl rfl)
theorem dX9_init_209 : decode cX9_init 209 = .ok (.iconst (-1), 1) := dk_2 (dk_at dksX9_init_9 0 rfl rfl)
theorem dX9_init_210 : decode cX9_init 210 = .ok (.iastore, 1) := dk_79 (dk_at dksX9_init_9 1 rfl rfl)
theorem dX9_init_211 : decode cX9_init 211 = .ok (.iinc 1 1, 3) := dk_132 1 1 (dk_at dksX9_init_9 2 rfl rfl)
theorem dX9_init_214 : decode cX9_init 214 = .ok (.goto (-16), 3) := dk_167 255 240 (dk_at dksX9_init_9 5 rfl rfl)
theorem dX9_init_217 : decode cX9_init 217 = .ok (.return_, 1) := dk_177 (dk_at dksX9_init_9 8 rfl rfl)
abbrev cX9_begins : ByteArray := prog_19_method_2_code
def yX9_begins : MethodName := ⟨RX9, "begins", "(I)V"⟩
def dkwX9_begins_3 : List UInt8 := [167, 255, 238, 42, 180, 0, 30, 3, 181, 0, 85, 177]
abbrev dktX9_begins_3 : List UInt8 := dkwX9_begins_3 ++ []
def dkwX9_begins_2 : List UInt8 := [6, 28, 79, 3, 62, 29, 8, 162, 0, 19, 42, 180, 0, 11, 16, 7, 29, 96, 4, 79, 132, 3, 1]
abbrev dktX9_begins_2 : List UInt8 := dkwX9_begins_2 ++ dktX9_begins_3
def dkwX9_begins_1 : List UInt8 := [132, 3, 1, 167, 255, 239, 42, 180, 0, 11, 3, 27, 79, 42, 180, 0, 11, 5, 4, 79, 42, 180, 0, 11]
abbrev dktX9_begins_1 : List UInt8 := dkwX9_begins_1 ++ dktX9_begins_2
def dkwX9_begins_0 : List UInt8 := [42, 180, 0, 11, 6, 46, 61, 3, 62, 29, 17, 0, 150, 162, 0, 16, 42, 180, 0, 11, 29, 3, 79]
abbrev dktX9_begins_0 : List UInt8 := dkwX9_begins_0 ++ dktX9_begins_1
theorem dksX9_begins_0 : cX9_begins.data.toList.drop 0 = dktX9_begins_0 := by decide +kernel
theorem dksX9_begins_1 : cX9_begins.data.toList.drop 23 = dktX9_begins_1 := dk_seg dksX9_begins_0 23 rfl rfl
theorem dksX9_begins_2 : cX9_begins.data.toList.drop 47 = dktX9_begins_2 := dk_seg dksX9_begins_1 24 rfl rfl
theorem dksX9_begins_3 : cX9_begins.data.toList.drop 70 = dktX9_begins_3 := dk_seg dksX9_begins_2 23 rfl rfl
theorem dX9_begins_0 : decode cX9_begins 0 = .ok (.aload_n 0, 1) := dk_42 (dk_at dksX9_begins_0 0 rfl rfl)
theorem dX9_begins_1 : decode cX9_begins 1 = .ok (.getfield 11, 3) := dk_180 0 11 (dk_at dksX9_begins_0 1 rfl rfl)
theorem dX9_begins_4 : decode cX9_begins 4 = .ok (.iconst 3, 1) := dk_6 (dk_at dksX9_begins_0 4 rfl rfl)
theorem dX9_begins_5 : decode cX9_begins 5 = .ok (.iaload, 1) := dk_46 (dk_at dksX9_begins_0 5 rfl rfl)
theorem dX9_begins_6 : decode cX9_begins 6 = .ok (.istore_n 2, 1) := dk_61 (dk_at dksX9_begins_0 6 rfl rfl)
theorem dX9_begins_7 : decode cX9_begins 7 = .ok (.iconst 0, 1) := dk_3 (dk_at dksX9_begins_0 7 rfl rfl)
theorem dX9_begins_8 : decode cX9_begins 8 = .ok (.istore_n 3, 1) := dk_62 (dk_at dksX9_begins_0 8 rfl rfl)
theorem dX9_begins_9 : decode cX9_begins 9 = .ok (.iload_n 3, 1) := dk_29 (dk_at dksX9_begins_0 9 rfl rfl)
theorem dX9_begins_10 : decode cX9_begins 10 = .ok (.sipush 150, 3) := dk_17 0 150 (dk_at dksX9_begins_0 10 rfl rfl)
theorem dX9_begins_13 : decode cX9_begins 13 = .ok (.if_icmp .ge 16, 3) := dk_162 0 16 (dk_at dksX9_begins_0 13 rfl rfl)
theorem dX9_begins_16 : decode cX9_begins 16 = .ok (.aload_n 0, 1) := dk_42 (dk_at dksX9_begins_0 16 rfl rfl)
theorem dX9_begins_17 : decode cX9_begins 17 = .ok (.getfield 11, 3) := dk_180 0 11 (dk_at dksX9_begins_0 17 rfl rfl)
theorem dX9_begins_20 : decode cX9_begins 20 = .ok (.iload_n 3, 1) := dk_29 (dk_at dksX9_begins_0 20 rfl rfl)
theorem dX9_begins_21 : decode cX9_begins 21 = .ok (.iconst 0, 1) := dk_3 (dk_at dksX9_begins_0 21 rfl rfl)
theorem dX9_begins_22 : decode cX9_begins 22 = .ok (.iastore, 1) := dk_79 (dk_at dksX9_begins_0 22 rfl rfl)
theorem dX9_begins_23 : decode cX9_begins 23 = .ok (.iinc 3 1, 3) := dk_132 3 1 (dk_at dksX9_begins_1 0 rfl rfl)
theorem dX9_begins_26 : decode cX9_begins 26 = .ok (.goto (-17), 3) := dk_167 255 239 (dk_at dksX9_begins_1 3 rfl rfl)
theorem dX9_begins_29 : decode cX9_begins 29 = .ok (.aload_n 0, 1) := dk_42 (dk_at dksX9_begins_1 6 rfl rfl)
theorem dX9_begins_30 : decode cX9_begins 30 = .ok (.getfield 11, 3) := dk_180 0 11 (dk_at dksX9_begins_1 7 rfl rfl)
theorem dX9_begins_33 : decode cX9_begins 33 = .ok (.iconst 0, 1) := dk_3 (dk_at dksX9_begins_1 10 rfl rfl)
theorem dX9_begins_34 : decode cX9_begins 34 = .ok (.iload_n 1, 1) := dk_27 (dk_at dksX9_begins_1 11 rfl rfl)
theorem dX9_begins_35 : decode cX9_begins 35 = .ok (.iastore, 1) := dk_79 (dk_at dksX9_begins_1 12 rfl rfl)
theorem dX9_begins_36 : decode cX9_begins 36 = .ok (.aload_n 0, 1) := dk_42 (dk_at dksX9_begins_1 13 rfl rfl)
theorem dX9_begins_37 : decode cX9_begins 37 = .ok (.getfield 11, 3) := dk_180 0 11 (dk_at dksX9_begins_1 14 rfl rfl)
theorem dX9_begins_40 : decode cX9_begins 40 = .ok (.iconst 2, 1) := dk_5 (dk_at dksX9_begins_1 17 rfl rfl)
theorem dX9_begins_41 : decode cX9_begins 41 = .ok (.iconst 1, 1) := dk_4 (dk_at dksX9_begins_1 18 rfl rfl)
theorem dX9_begins_42 : decode cX9_begins 42 = .ok (.iastore, 1) := dk_79 (dk_at dksX9_begins_1 19 rfl rfl)
theorem dX9_begins_43 : decode cX9_begins 43 = .ok (.aload_n 0, 1) := dk_42 (dk_at dksX9_begins_1 20 rfl rfl)
theorem dX9_begins_44 : decode cX9_begins 44 = .ok (.getfield 11, 3) := dk_180 0 11 (dk_at dksX9_begins_1 21 rfl rfl)
theorem dX9_begins_47 : decode cX9_begins 47 = .ok (.iconst 3, 1) := dk_6 (dk_at dksX9_begins_2 0 rfl rfl)
theorem dX9_begins_48 : decode cX9_begins 48 = .ok (.iload_n 2, 1) := dk_28 (dk_at dksX9_begins_2 1 rfl rfl)
theorem dX9_begins_49 : decode cX9_begins 49 = .ok (.iastore, 1) := dk_79 (dk_at dksX9_begins_2 2 rfl rfl)
theorem dX9_begins_50 : decode cX9_begins 50 = .ok (.iconst 0, 1) := dk_3 (dk_at dksX9_begins_2 3 rfl rfl)
theorem dX9_begins_51 : decode cX9_begins 51 = .ok (.istore_n 3, 1) := dk_62 (dk_at dksX9_begins_2 4 rfl rfl)
theorem dX9_begins_52 : decode cX9_begins 52 = .ok (.iload_n 3, 1) := dk_29 (dk_at dksX9_begins_2 5 rfl rfl)
theorem dX9_begins_53 : decode cX9_begins 53 = .ok (.iconst 5, 1) := dk_8 (dk_at dksX9_begins_2 6 rfl rfl)
theorem dX9_begins_54 : decode cX9_begins 54 = .ok (.if_icmp .ge 19, 3) := dk_162 0 19 (dk_at dksX9_begins_2 7 rfl rfl)
theorem dX9_begins_57 : decode cX9_begins 57 = .ok (.aload_n 0, 1) := dk_42 (dk_at dksX9_begins_2 10 rfl rfl)
theorem dX9_begins_58 : decode cX9_begins 58 = .ok (.getfield 11, 3) := dk_180 0 11 (dk_at dksX9_begins_2 11 rfl rfl)
theorem dX9_begins_61 : decode cX9_begins 61 = .ok (.bipush 7, 2) := dk_16 7 (dk_at dksX9_begins_2 14 rfl rfl)
theorem dX9_begins_63 : decode cX9_begins 63 = .ok (.iload_n 3, 1) := dk_29 (dk_at dksX9_begins_2 16 rfl rfl)
theorem dX9_begins_64 : decode cX9_begins 64 = .ok (.iadd, 1) := dk_96 (dk_at dksX9_begins_2 17 rfl rfl)
theorem dX9_begins_65 : decode cX9_begins 65 = .ok (.iconst 1, 1) := dk_4 (dk_at dksX9_begins_2 18 rfl rfl)
theorem dX9_begins_66 : decode cX9_begins 66 = .ok (.iastore, 1) := dk_79 (dk_at dksX9_begins_2 19 rfl rfl)
theorem dX9_begins_67 : decode cX9_begins 67 = .ok (.iinc 3 1, 3) := dk_132 3 1 (dk_at dksX9_begins_2 20 rfl rfl)
theorem dX9_begins_70 : decode cX9_begins 70 = .ok (.goto (-18), 3) := dk_167 255 238 (dk_at dksX9_begins_3 0 rfl rfl)
theorem dX9_begins_73 : decode cX9_begins 73 = .ok (.aload_n 0, 1) := dk_42 (dk_at dksX9_begins_3 3 rfl rfl)
theorem dX9_begins_74 : decode cX9_begins 74 = .ok (.getfield 30, 3) := dk_180 0 30 (dk_at dksX9_begins_3 4 rfl rfl)
theorem dX9_begins_77 : decode cX9_begins 77 = .ok (.iconst 0, 1) := dk_3 (dk_at dksX9_begins_3 7 rfl rfl)
theorem dX9_begins_78 : decode cX9_begins 78 = .ok (.putfield 85, 3) := dk_181 0 85 (dk_at dksX9_begins_3 8 rfl rfl)
theorem dX9_begins_81 : decode cX9_begins 81 = .ok (.return_, 1) := dk_177 (dk_at dksX9_begins_3 11 rfl rfl)
abbrev cX9_size : ByteArray := prog_19_method_12_code
def yX9_size : MethodName := ⟨RX9, "size", "(I)I"⟩
def dkwX9_size_1 : List UInt8 := [182, 0, 81, 28, 172]
abbrev dktX9_size_1 : List UInt8 := dkwX9_size_1 ++ []
def dkwX9_size_0 : List UInt8 := [27, 133, 10, 20, 0, 108, 184, 0, 93, 154, 0, 6, 16, 254, 172, 42, 182, 0, 89, 61, 42, 27]
abbrev dktX9_size_0 : List UInt8 := dkwX9_size_0 ++ dktX9_size_1
theorem dksX9_size_0 : cX9_size.data.toList.drop 0 = dktX9_size_0 := by decide +kernel
theorem dksX9_size_1 : cX9_size.data.toList.drop 22 = dktX9_size_1 := dk_seg dksX9_size_0 22 rfl rfl
theorem dX9_size_0 : decode cX9_size 0 = .ok (.iload_n 1, 1) := dk_27 (dk_at dksX9_size_0 0 rfl rfl)
theorem dX9_size_1 : decode cX9_size 1 = .ok (.i2l, 1) := dk_133 (dk_at dksX9_size_0 1 rfl rfl)
theorem dX9_size_2 : decode cX9_size 2 = .ok (.lconst 1, 1) := dk_10 (dk_at dksX9_size_0 2 rfl rfl)
theorem dX9_size_3 : decode cX9_size 3 = .ok (.ldc2_w 108, 3) := dk_20 0 108 (dk_at dksX9_size_0 3 rfl rfl)
theorem dX9_size_6 : decode cX9_size 6 = .ok (.invokestatic 93, 3) := dk_184 0 93 (dk_at dksX9_size_0 6 rfl rfl)
theorem dX9_size_9 : decode cX9_size 9 = .ok (.ifCond .ne 6, 3) := dk_154 0 6 (dk_at dksX9_size_0 9 rfl rfl)
theorem dX9_size_12 : decode cX9_size 12 = .ok (.bipush (-2), 2) := dk_16 254 (dk_at dksX9_size_0 12 rfl rfl)
theorem dX9_size_14 : decode cX9_size 14 = .ok (.ireturn, 1) := dk_172 (dk_at dksX9_size_0 14 rfl rfl)
theorem dX9_size_15 : decode cX9_size 15 = .ok (.aload_n 0, 1) := dk_42 (dk_at dksX9_size_0 15 rfl rfl)
theorem dX9_size_16 : decode cX9_size 16 = .ok (.invokevirtual 89, 3) := dk_182 0 89 (dk_at dksX9_size_0 16 rfl rfl)
theorem dX9_size_19 : decode cX9_size 19 = .ok (.istore_n 2, 1) := dk_61 (dk_at dksX9_size_0 19 rfl rfl)
theorem dX9_size_20 : decode cX9_size 20 = .ok (.aload_n 0, 1) := dk_42 (dk_at dksX9_size_0 20 rfl rfl)
theorem dX9_size_21 : decode cX9_size 21 = .ok (.iload_n 1, 1) := dk_27 (dk_at dksX9_size_0 21 rfl rfl)
theorem dX9_size_22 : decode cX9_size 22 = .ok (.invokevirtual 81, 3) := dk_182 0 81 (dk_at dksX9_size_1 0 rfl rfl)
theorem dX9_size_25 : decode cX9_size 25 = .ok (.iload_n 2, 1) := dk_28 (dk_at dksX9_size_1 3 rfl rfl)
theorem dX9_size_26 : decode cX9_size 26 = .ok (.ireturn, 1) := dk_172 (dk_at dksX9_size_1 4 rfl rfl)
abbrev cX9_isIn : ByteArray := prog_19_method_3_code
def yX9_isIn : MethodName := ⟨RX9, "isIn", "(JJJ)Z"⟩
def dkwX9_isIn_0 : List UInt8 := [30, 32, 148, 155, 0, 14, 30, 22, 4, 148, 157, 0, 7, 4, 167, 0, 4, 3, 172]
abbrev dktX9_isIn_0 : List UInt8 := dkwX9_isIn_0 ++ []
theorem dksX9_isIn_0 : cX9_isIn.data.toList.drop 0 = dktX9_isIn_0 := by decide +kernel
theorem dX9_isIn_0 : decode cX9_isIn 0 = .ok (.lload_n 0, 1) := dk_30 (dk_at dksX9_isIn_0 0 rfl rfl)
theorem dX9_isIn_1 : decode cX9_isIn 1 = .ok (.lload_n 2, 1) := dk_32 (dk_at dksX9_isIn_0 1 rfl rfl)
theorem dX9_isIn_2 : decode cX9_isIn 2 = .ok (.lcmp, 1) := dk_148 (dk_at dksX9_isIn_0 2 rfl rfl)
theorem dX9_isIn_3 : decode cX9_isIn 3 = .ok (.ifCond .lt 14, 3) := dk_155 0 14 (dk_at dksX9_isIn_0 3 rfl rfl)
theorem dX9_isIn_6 : decode cX9_isIn 6 = .ok (.lload_n 0, 1) := dk_30 (dk_at dksX9_isIn_0 6 rfl rfl)
theorem dX9_isIn_7 : decode cX9_isIn 7 = .ok (.lload 4, 2) := dk_22 4 (dk_at dksX9_isIn_0 7 rfl rfl)
theorem dX9_isIn_9 : decode cX9_isIn 9 = .ok (.lcmp, 1) := dk_148 (dk_at dksX9_isIn_0 9 rfl rfl)
theorem dX9_isIn_10 : decode cX9_isIn 10 = .ok (.ifCond .gt 7, 3) := dk_157 0 7 (dk_at dksX9_isIn_0 10 rfl rfl)
theorem dX9_isIn_13 : decode cX9_isIn 13 = .ok (.iconst 1, 1) := dk_4 (dk_at dksX9_isIn_0 13 rfl rfl)
theorem dX9_isIn_14 : decode cX9_isIn 14 = .ok (.goto 4, 3) := dk_167 0 4 (dk_at dksX9_isIn_0 14 rfl rfl)
theorem dX9_isIn_17 : decode cX9_isIn 17 = .ok (.iconst 0, 1) := dk_3 (dk_at dksX9_isIn_0 17 rfl rfl)
theorem dX9_isIn_18 : decode cX9_isIn 18 = .ok (.ireturn, 1) := dk_172 (dk_at dksX9_isIn_0 18 rfl rfl)
abbrev cX9_n : ByteArray := prog_19_method_4_code
def yX9_n : MethodName := ⟨RX9, "n", "()I"⟩
def dkwX9_n_0 : List UInt8 := [42, 180, 0, 11, 3, 46, 172]
abbrev dktX9_n_0 : List UInt8 := dkwX9_n_0 ++ []
theorem dksX9_n_0 : cX9_n.data.toList.drop 0 = dktX9_n_0 := by decide +kernel
theorem dX9_n_0 : decode cX9_n 0 = .ok (.aload_n 0, 1) := dk_42 (dk_at dksX9_n_0 0 rfl rfl)
theorem dX9_n_1 : decode cX9_n 1 = .ok (.getfield 11, 3) := dk_180 0 11 (dk_at dksX9_n_0 1 rfl rfl)
theorem dX9_n_4 : decode cX9_n 4 = .ok (.iconst 0, 1) := dk_3 (dk_at dksX9_n_0 4 rfl rfl)
theorem dX9_n_5 : decode cX9_n 5 = .ok (.iaload, 1) := dk_46 (dk_at dksX9_n_0 5 rfl rfl)
theorem dX9_n_6 : decode cX9_n 6 = .ok (.ireturn, 1) := dk_172 (dk_at dksX9_n_0 6 rfl rfl)
abbrev cX9_cost : ByteArray := prog_19_method_13_code
def yX9_cost : MethodName := ⟨RX9, "cost", "(II)I"⟩
def dkwX9_cost_2 : List UInt8 := [180, 0, 11, 16, 6, 3, 79, 42, 180, 0, 30, 3, 181, 0, 85, 29, 172]
abbrev dktX9_cost_2 : List UInt8 := dkwX9_cost_2 ++ []
def dkwX9_cost_1 : List UInt8 := [172, 42, 180, 0, 11, 16, 7, 27, 96, 46, 62, 42, 180, 0, 11, 16, 7, 27, 96, 28, 79, 42]
abbrev dktX9_cost_1 : List UInt8 := dkwX9_cost_1 ++ dktX9_cost_2
def dkwX9_cost_0 : List UInt8 := [42, 27, 182, 0, 110, 154, 0, 5, 2, 172, 28, 133, 9, 20, 0, 114, 184, 0, 93, 154, 0, 6, 16, 254]
abbrev dktX9_cost_0 : List UInt8 := dkwX9_cost_0 ++ dktX9_cost_1
theorem dksX9_cost_0 : cX9_cost.data.toList.drop 0 = dktX9_cost_0 := by decide +kernel
theorem dksX9_cost_1 : cX9_cost.data.toList.drop 24 = dktX9_cost_1 := dk_seg dksX9_cost_0 24 rfl rfl
theorem dksX9_cost_2 : cX9_cost.data.toList.drop 46 = dktX9_cost_2 := dk_seg dksX9_cost_1 22 rfl rfl
theorem dX9_cost_0 : decode cX9_cost 0 = .ok (.aload_n 0, 1) := dk_42 (dk_at dksX9_cost_0 0 rfl rfl)
theorem dX9_cost_1 : decode cX9_cost 1 = .ok (.iload_n 1, 1) := dk_27 (dk_at dksX9_cost_0 1 rfl rfl)
theorem dX9_cost_2 : decode cX9_cost 2 = .ok (.invokevirtual 110, 3) := dk_182 0 110 (dk_at dksX9_cost_0 2 rfl rfl)
theorem dX9_cost_5 : decode cX9_cost 5 = .ok (.ifCond .ne 5, 3) := dk_154 0 5 (dk_at dksX9_cost_0 5 rfl rfl)
theorem dX9_cost_8 : decode cX9_cost 8 = .ok (.iconst (-1), 1) := dk_2 (dk_at dksX9_cost_0 8 rfl rfl)
theorem dX9_cost_9 : decode cX9_cost 9 = .ok (.ireturn, 1) := dk_172 (dk_at dksX9_cost_0 9 rfl rfl)
theorem dX9_cost_10 : decode cX9_cost 10 = .ok (.iload_n 2, 1) := dk_28 (dk_at dksX9_cost_0 10 rfl rfl)
theorem dX9_cost_11 : decode cX9_cost 11 = .ok (.i2l, 1) := dk_133 (dk_at dksX9_cost_0 11 rfl rfl)
theorem dX9_cost_12 : decode cX9_cost 12 = .ok (.lconst 0, 1) := dk_9 (dk_at dksX9_cost_0 12 rfl rfl)
theorem dX9_cost_13 : decode cX9_cost 13 = .ok (.ldc2_w 114, 3) := dk_20 0 114 (dk_at dksX9_cost_0 13 rfl rfl)
theorem dX9_cost_16 : decode cX9_cost 16 = .ok (.invokestatic 93, 3) := dk_184 0 93 (dk_at dksX9_cost_0 16 rfl rfl)
theorem dX9_cost_19 : decode cX9_cost 19 = .ok (.ifCond .ne 6, 3) := dk_154 0 6 (dk_at dksX9_cost_0 19 rfl rfl)
theorem dX9_cost_22 : decode cX9_cost 22 = .ok (.bipush (-2), 2) := dk_16 254 (dk_at dksX9_cost_0 22 rfl rfl)
theorem dX9_cost_24 : decode cX9_cost 24 = .ok (.ireturn, 1) := dk_172 (dk_at dksX9_cost_1 0 rfl rfl)
theorem dX9_cost_25 : decode cX9_cost 25 = .ok (.aload_n 0, 1) := dk_42 (dk_at dksX9_cost_1 1 rfl rfl)
theorem dX9_cost_26 : decode cX9_cost 26 = .ok (.getfield 11, 3) := dk_180 0 11 (dk_at dksX9_cost_1 2 rfl rfl)
theorem dX9_cost_29 : decode cX9_cost 29 = .ok (.bipush 7, 2) := dk_16 7 (dk_at dksX9_cost_1 5 rfl rfl)
theorem dX9_cost_31 : decode cX9_cost 31 = .ok (.iload_n 1, 1) := dk_27 (dk_at dksX9_cost_1 7 rfl rfl)
theorem dX9_cost_32 : decode cX9_cost 32 = .ok (.iadd, 1) := dk_96 (dk_at dksX9_cost_1 8 rfl rfl)
theorem dX9_cost_33 : decode cX9_cost 33 = .ok (.iaload, 1) := dk_46 (dk_at dksX9_cost_1 9 rfl rfl)
theorem dX9_cost_34 : decode cX9_cost 34 = .ok (.istore_n 3, 1) := dk_62 (dk_at dksX9_cost_1 10 rfl rfl)
theorem dX9_cost_35 : decode cX9_cost 35 = .ok (.aload_n 0, 1) := dk_42 (dk_at dksX9_cost_1 11 rfl rfl)
theorem dX9_cost_36 : decode cX9_cost 36 = .ok (.getfield 11, 3) := dk_180 0 11 (dk_at dksX9_cost_1 12 rfl rfl)
theorem dX9_cost_39 : decode cX9_cost 39 = .ok (.bipush 7, 2) := dk_16 7 (dk_at dksX9_cost_1 15 rfl rfl)
theorem dX9_cost_41 : decode cX9_cost 41 = .ok (.iload_n 1, 1) := dk_27 (dk_at dksX9_cost_1 17 rfl rfl)
theorem dX9_cost_42 : decode cX9_cost 42 = .ok (.iadd, 1) := dk_96 (dk_at dksX9_cost_1 18 rfl rfl)
theorem dX9_cost_43 : decode cX9_cost 43 = .ok (.iload_n 2, 1) := dk_28 (dk_at dksX9_cost_1 19 rfl rfl)
theorem dX9_cost_44 : decode cX9_cost 44 = .ok (.iastore, 1) := dk_79 (dk_at dksX9_cost_1 20 rfl rfl)
theorem dX9_cost_45 : decode cX9_cost 45 = .ok (.aload_n 0, 1) := dk_42 (dk_at dksX9_cost_1 21 rfl rfl)
theorem dX9_cost_46 : decode cX9_cost 46 = .ok (.getfield 11, 3) := dk_180 0 11 (dk_at dksX9_cost_2 0 rfl rfl)
theorem dX9_cost_49 : decode cX9_cost 49 = .ok (.bipush 6, 2) := dk_16 6 (dk_at dksX9_cost_2 3 rfl rfl)
theorem dX9_cost_51 : decode cX9_cost 51 = .ok (.iconst 0, 1) := dk_3 (dk_at dksX9_cost_2 5 rfl rfl)
theorem dX9_cost_52 : decode cX9_cost 52 = .ok (.iastore, 1) := dk_79 (dk_at dksX9_cost_2 6 rfl rfl)
theorem dX9_cost_53 : decode cX9_cost 53 = .ok (.aload_n 0, 1) := dk_42 (dk_at dksX9_cost_2 7 rfl rfl)
theorem dX9_cost_54 : decode cX9_cost 54 = .ok (.getfield 30, 3) := dk_180 0 30 (dk_at dksX9_cost_2 8 rfl rfl)
theorem dX9_cost_57 : decode cX9_cost 57 = .ok (.iconst 0, 1) := dk_3 (dk_at dksX9_cost_2 11 rfl rfl)
theorem dX9_cost_58 : decode cX9_cost 58 = .ok (.putfield 85, 3) := dk_181 0 85 (dk_at dksX9_cost_2 12 rfl rfl)
theorem dX9_cost_61 : decode cX9_cost 61 = .ok (.iload_n 3, 1) := dk_29 (dk_at dksX9_cost_2 15 rfl rfl)
theorem dX9_cost_62 : decode cX9_cost 62 = .ok (.ireturn, 1) := dk_172 (dk_at dksX9_cost_2 16 rfl rfl)
abbrev cX9_isPack : ByteArray := prog_19_method_5_code
def yX9_isPack : MethodName := ⟨RX9, "isPack", "(I)Z"⟩
def dkwX9_isPack_0 : List UInt8 := [27, 133, 9, 42, 182, 0, 89, 4, 100, 133, 184, 0, 93, 172]
abbrev dktX9_isPack_0 : List UInt8 := dkwX9_isPack_0 ++ []
theorem dksX9_isPack_0 : cX9_isPack.data.toList.drop 0 = dktX9_isPack_0 := by decide +kernel
theorem dX9_isPack_0 : decode cX9_isPack 0 = .ok (.iload_n 1, 1) := dk_27 (dk_at dksX9_isPack_0 0 rfl rfl)
theorem dX9_isPack_1 : decode cX9_isPack 1 = .ok (.i2l, 1) := dk_133 (dk_at dksX9_isPack_0 1 rfl rfl)
theorem dX9_isPack_2 : decode cX9_isPack 2 = .ok (.lconst 0, 1) := dk_9 (dk_at dksX9_isPack_0 2 rfl rfl)
theorem dX9_isPack_3 : decode cX9_isPack 3 = .ok (.aload_n 0, 1) := dk_42 (dk_at dksX9_isPack_0 3 rfl rfl)
theorem dX9_isPack_4 : decode cX9_isPack 4 = .ok (.invokevirtual 89, 3) := dk_182 0 89 (dk_at dksX9_isPack_0 4 rfl rfl)
theorem dX9_isPack_7 : decode cX9_isPack 7 = .ok (.iconst 1, 1) := dk_4 (dk_at dksX9_isPack_0 7 rfl rfl)
theorem dX9_isPack_8 : decode cX9_isPack 8 = .ok (.isub, 1) := dk_100 (dk_at dksX9_isPack_0 8 rfl rfl)
theorem dX9_isPack_9 : decode cX9_isPack 9 = .ok (.i2l, 1) := dk_133 (dk_at dksX9_isPack_0 9 rfl rfl)
theorem dX9_isPack_10 : decode cX9_isPack 10 = .ok (.invokestatic 93, 3) := dk_184 0 93 (dk_at dksX9_isPack_0 10 rfl rfl)
theorem dX9_isPack_13 : decode cX9_isPack 13 = .ok (.ireturn, 1) := dk_172 (dk_at dksX9_isPack_0 13 rfl rfl)
abbrev cX9_rule : ByteArray := prog_19_method_15_code
def yX9_rule : MethodName := ⟨RX9, "rule", "(II)I"⟩
def dkwX9_rule_2 : List UInt8 := [180, 0, 11, 4, 46, 4, 100, 172]
abbrev dktX9_rule_2 : List UInt8 := dkwX9_rule_2 ++ []
def dkwX9_rule_1 : List UInt8 := [16, 254, 172, 42, 180, 0, 11, 4, 46, 16, 8, 160, 0, 6, 16, 252, 172, 42, 27, 28, 182, 0, 120, 42]
abbrev dktX9_rule_1 : List UInt8 := dkwX9_rule_1 ++ dktX9_rule_2
def dkwX9_rule_0 : List UInt8 := [27, 133, 9, 10, 184, 0, 93, 153, 0, 17, 28, 133, 20, 0, 116, 20, 0, 118, 184, 0, 93, 154, 0, 6]
abbrev dktX9_rule_0 : List UInt8 := dkwX9_rule_0 ++ dktX9_rule_1
theorem dksX9_rule_0 : cX9_rule.data.toList.drop 0 = dktX9_rule_0 := by decide +kernel
theorem dksX9_rule_1 : cX9_rule.data.toList.drop 24 = dktX9_rule_1 := dk_seg dksX9_rule_0 24 rfl rfl
theorem dksX9_rule_2 : cX9_rule.data.toList.drop 48 = dktX9_rule_2 := dk_seg dksX9_rule_1 24 rfl rfl
theorem dX9_rule_0 : decode cX9_rule 0 = .ok (.iload_n 1, 1) := dk_27 (dk_at dksX9_rule_0 0 rfl rfl)
theorem dX9_rule_1 : decode cX9_rule 1 = .ok (.i2l, 1) := dk_133 (dk_at dksX9_rule_0 1 rfl rfl)
theorem dX9_rule_2 : decode cX9_rule 2 = .ok (.lconst 0, 1) := dk_9 (dk_at dksX9_rule_0 2 rfl rfl)
theorem dX9_rule_3 : decode cX9_rule 3 = .ok (.lconst 1, 1) := dk_10 (dk_at dksX9_rule_0 3 rfl rfl)
theorem dX9_rule_4 : decode cX9_rule 4 = .ok (.invokestatic 93, 3) := dk_184 0 93 (dk_at dksX9_rule_0 4 rfl rfl)
theorem dX9_rule_7 : decode cX9_rule 7 = .ok (.ifCond .eq 17, 3) := dk_153 0 17 (dk_at dksX9_rule_0 7 rfl rfl)
theorem dX9_rule_10 : decode cX9_rule 10 = .ok (.iload_n 2, 1) := dk_28 (dk_at dksX9_rule_0 10 rfl rfl)
theorem dX9_rule_11 : decode cX9_rule 11 = .ok (.i2l, 1) := dk_133 (dk_at dksX9_rule_0 11 rfl rfl)
theorem dX9_rule_12 : decode cX9_rule 12 = .ok (.ldc2_w 116, 3) := dk_20 0 116 (dk_at dksX9_rule_0 12 rfl rfl)
theorem dX9_rule_15 : decode cX9_rule 15 = .ok (.ldc2_w 118, 3) := dk_20 0 118 (dk_at dksX9_rule_0 15 rfl rfl)
theorem dX9_rule_18 : decode cX9_rule 18 = .ok (.invokestatic 93, 3) := dk_184 0 93 (dk_at dksX9_rule_0 18 rfl rfl)
theorem dX9_rule_21 : decode cX9_rule 21 = .ok (.ifCond .ne 6, 3) := dk_154 0 6 (dk_at dksX9_rule_0 21 rfl rfl)
theorem dX9_rule_24 : decode cX9_rule 24 = .ok (.bipush (-2), 2) := dk_16 254 (dk_at dksX9_rule_1 0 rfl rfl)
theorem dX9_rule_26 : decode cX9_rule 26 = .ok (.ireturn, 1) := dk_172 (dk_at dksX9_rule_1 2 rfl rfl)
theorem dX9_rule_27 : decode cX9_rule 27 = .ok (.aload_n 0, 1) := dk_42 (dk_at dksX9_rule_1 3 rfl rfl)
theorem dX9_rule_28 : decode cX9_rule 28 = .ok (.getfield 11, 3) := dk_180 0 11 (dk_at dksX9_rule_1 4 rfl rfl)
theorem dX9_rule_31 : decode cX9_rule 31 = .ok (.iconst 1, 1) := dk_4 (dk_at dksX9_rule_1 7 rfl rfl)
theorem dX9_rule_32 : decode cX9_rule 32 = .ok (.iaload, 1) := dk_46 (dk_at dksX9_rule_1 8 rfl rfl)
theorem dX9_rule_33 : decode cX9_rule 33 = .ok (.bipush 8, 2) := dk_16 8 (dk_at dksX9_rule_1 9 rfl rfl)
theorem dX9_rule_35 : decode cX9_rule 35 = .ok (.if_icmp .ne 6, 3) := dk_160 0 6 (dk_at dksX9_rule_1 11 rfl rfl)
theorem dX9_rule_38 : decode cX9_rule 38 = .ok (.bipush (-4), 2) := dk_16 252 (dk_at dksX9_rule_1 14 rfl rfl)
theorem dX9_rule_40 : decode cX9_rule 40 = .ok (.ireturn, 1) := dk_172 (dk_at dksX9_rule_1 16 rfl rfl)
theorem dX9_rule_41 : decode cX9_rule 41 = .ok (.aload_n 0, 1) := dk_42 (dk_at dksX9_rule_1 17 rfl rfl)
theorem dX9_rule_42 : decode cX9_rule 42 = .ok (.iload_n 1, 1) := dk_27 (dk_at dksX9_rule_1 18 rfl rfl)
theorem dX9_rule_43 : decode cX9_rule 43 = .ok (.iload_n 2, 1) := dk_28 (dk_at dksX9_rule_1 19 rfl rfl)
theorem dX9_rule_44 : decode cX9_rule 44 = .ok (.invokevirtual 120, 3) := dk_182 0 120 (dk_at dksX9_rule_1 20 rfl rfl)
theorem dX9_rule_47 : decode cX9_rule 47 = .ok (.aload_n 0, 1) := dk_42 (dk_at dksX9_rule_1 23 rfl rfl)
theorem dX9_rule_48 : decode cX9_rule 48 = .ok (.getfield 11, 3) := dk_180 0 11 (dk_at dksX9_rule_2 0 rfl rfl)
theorem dX9_rule_51 : decode cX9_rule 51 = .ok (.iconst 1, 1) := dk_4 (dk_at dksX9_rule_2 3 rfl rfl)
theorem dX9_rule_52 : decode cX9_rule 52 = .ok (.iaload, 1) := dk_46 (dk_at dksX9_rule_2 4 rfl rfl)
theorem dX9_rule_53 : decode cX9_rule 53 = .ok (.iconst 1, 1) := dk_4 (dk_at dksX9_rule_2 5 rfl rfl)
theorem dX9_rule_54 : decode cX9_rule 54 = .ok (.isub, 1) := dk_100 (dk_at dksX9_rule_2 6 rfl rfl)
theorem dX9_rule_55 : decode cX9_rule 55 = .ok (.ireturn, 1) := dk_172 (dk_at dksX9_rule_2 7 rfl rfl)
abbrev cX9_addsRule : ByteArray := prog_19_method_14_code
def yX9_addsRule : MethodName := ⟨RX9, "addsRule", "(II)V"⟩
def dkwX9_addsRule_3 : List UInt8 := [181, 0, 85, 177]
abbrev dktX9_addsRule_3 : List UInt8 := dkwX9_addsRule_3 ++ []
def dkwX9_addsRule_2 : List UInt8 := [3, 79, 132, 4, 1, 167, 255, 235, 42, 180, 0, 11, 4, 92, 46, 4, 96, 79, 42, 180, 0, 30, 3]
abbrev dktX9_addsRule_2 : List UInt8 := dkwX9_addsRule_2 ++ dktX9_addsRule_3
def dkwX9_addsRule_1 : List UInt8 := [29, 4, 96, 28, 79, 3, 54, 4, 21, 4, 8, 162, 0, 21, 42, 180, 0, 11, 29, 5, 96, 21, 4, 96]
abbrev dktX9_addsRule_1 : List UInt8 := dkwX9_addsRule_1 ++ dktX9_addsRule_2
def dkwX9_addsRule_0 : List UInt8 := [16, 12, 16, 7, 42, 180, 0, 11, 4, 46, 104, 96, 62, 42, 180, 0, 11, 29, 27, 79, 42, 180, 0, 11]
abbrev dktX9_addsRule_0 : List UInt8 := dkwX9_addsRule_0 ++ dktX9_addsRule_1
theorem dksX9_addsRule_0 : cX9_addsRule.data.toList.drop 0 = dktX9_addsRule_0 := by decide +kernel
theorem dksX9_addsRule_1 : cX9_addsRule.data.toList.drop 24 = dktX9_addsRule_1 := dk_seg dksX9_addsRule_0 24 rfl rfl
theorem dksX9_addsRule_2 : cX9_addsRule.data.toList.drop 48 = dktX9_addsRule_2 := dk_seg dksX9_addsRule_1 24 rfl rfl
theorem dksX9_addsRule_3 : cX9_addsRule.data.toList.drop 71 = dktX9_addsRule_3 := dk_seg dksX9_addsRule_2 23 rfl rfl
theorem dX9_addsRule_0 : decode cX9_addsRule 0 = .ok (.bipush 12, 2) := dk_16 12 (dk_at dksX9_addsRule_0 0 rfl rfl)
theorem dX9_addsRule_2 : decode cX9_addsRule 2 = .ok (.bipush 7, 2) := dk_16 7 (dk_at dksX9_addsRule_0 2 rfl rfl)
theorem dX9_addsRule_4 : decode cX9_addsRule 4 = .ok (.aload_n 0, 1) := dk_42 (dk_at dksX9_addsRule_0 4 rfl rfl)
theorem dX9_addsRule_5 : decode cX9_addsRule 5 = .ok (.getfield 11, 3) := dk_180 0 11 (dk_at dksX9_addsRule_0 5 rfl rfl)
theorem dX9_addsRule_8 : decode cX9_addsRule 8 = .ok (.iconst 1, 1) := dk_4 (dk_at dksX9_addsRule_0 8 rfl rfl)
theorem dX9_addsRule_9 : decode cX9_addsRule 9 = .ok (.iaload, 1) := dk_46 (dk_at dksX9_addsRule_0 9 rfl rfl)
theorem dX9_addsRule_10 : decode cX9_addsRule 10 = .ok (.imul, 1) := dk_104 (dk_at dksX9_addsRule_0 10 rfl rfl)
theorem dX9_addsRule_11 : decode cX9_addsRule 11 = .ok (.iadd, 1) := dk_96 (dk_at dksX9_addsRule_0 11 rfl rfl)
theorem dX9_addsRule_12 : decode cX9_addsRule 12 = .ok (.istore_n 3, 1) := dk_62 (dk_at dksX9_addsRule_0 12 rfl rfl)
theorem dX9_addsRule_13 : decode cX9_addsRule 13 = .ok (.aload_n 0, 1) := dk_42 (dk_at dksX9_addsRule_0 13 rfl rfl)
theorem dX9_addsRule_14 : decode cX9_addsRule 14 = .ok (.getfield 11, 3) := dk_180 0 11 (dk_at dksX9_addsRule_0 14 rfl rfl)
theorem dX9_addsRule_17 : decode cX9_addsRule 17 = .ok (.iload_n 3, 1) := dk_29 (dk_at dksX9_addsRule_0 17 rfl rfl)
theorem dX9_addsRule_18 : decode cX9_addsRule 18 = .ok (.iload_n 1, 1) := dk_27 (dk_at dksX9_addsRule_0 18 rfl rfl)
theorem dX9_addsRule_19 : decode cX9_addsRule 19 = .ok (.iastore, 1) := dk_79 (dk_at dksX9_addsRule_0 19 rfl rfl)
theorem dX9_addsRule_20 : decode cX9_addsRule 20 = .ok (.aload_n 0, 1) := dk_42 (dk_at dksX9_addsRule_0 20 rfl rfl)
theorem dX9_addsRule_21 : decode cX9_addsRule 21 = .ok (.getfield 11, 3) := dk_180 0 11 (dk_at dksX9_addsRule_0 21 rfl rfl)
theorem dX9_addsRule_24 : decode cX9_addsRule 24 = .ok (.iload_n 3, 1) := dk_29 (dk_at dksX9_addsRule_1 0 rfl rfl)
theorem dX9_addsRule_25 : decode cX9_addsRule 25 = .ok (.iconst 1, 1) := dk_4 (dk_at dksX9_addsRule_1 1 rfl rfl)
theorem dX9_addsRule_26 : decode cX9_addsRule 26 = .ok (.iadd, 1) := dk_96 (dk_at dksX9_addsRule_1 2 rfl rfl)
theorem dX9_addsRule_27 : decode cX9_addsRule 27 = .ok (.iload_n 2, 1) := dk_28 (dk_at dksX9_addsRule_1 3 rfl rfl)
theorem dX9_addsRule_28 : decode cX9_addsRule 28 = .ok (.iastore, 1) := dk_79 (dk_at dksX9_addsRule_1 4 rfl rfl)
theorem dX9_addsRule_29 : decode cX9_addsRule 29 = .ok (.iconst 0, 1) := dk_3 (dk_at dksX9_addsRule_1 5 rfl rfl)
theorem dX9_addsRule_30 : decode cX9_addsRule 30 = .ok (.istore 4, 2) := dk_54 4 (dk_at dksX9_addsRule_1 6 rfl rfl)
theorem dX9_addsRule_32 : decode cX9_addsRule 32 = .ok (.iload 4, 2) := dk_21 4 (dk_at dksX9_addsRule_1 8 rfl rfl)
theorem dX9_addsRule_34 : decode cX9_addsRule 34 = .ok (.iconst 5, 1) := dk_8 (dk_at dksX9_addsRule_1 10 rfl rfl)
theorem dX9_addsRule_35 : decode cX9_addsRule 35 = .ok (.if_icmp .ge 21, 3) := dk_162 0 21 (dk_at dksX9_addsRule_1 11 rfl rfl)
theorem dX9_addsRule_38 : decode cX9_addsRule 38 = .ok (.aload_n 0, 1) := dk_42 (dk_at dksX9_addsRule_1 14 rfl rfl)
theorem dX9_addsRule_39 : decode cX9_addsRule 39 = .ok (.getfield 11, 3) := dk_180 0 11 (dk_at dksX9_addsRule_1 15 rfl rfl)
theorem dX9_addsRule_42 : decode cX9_addsRule 42 = .ok (.iload_n 3, 1) := dk_29 (dk_at dksX9_addsRule_1 18 rfl rfl)
theorem dX9_addsRule_43 : decode cX9_addsRule 43 = .ok (.iconst 2, 1) := dk_5 (dk_at dksX9_addsRule_1 19 rfl rfl)
theorem dX9_addsRule_44 : decode cX9_addsRule 44 = .ok (.iadd, 1) := dk_96 (dk_at dksX9_addsRule_1 20 rfl rfl)
theorem dX9_addsRule_45 : decode cX9_addsRule 45 = .ok (.iload 4, 2) := dk_21 4 (dk_at dksX9_addsRule_1 21 rfl rfl)
theorem dX9_addsRule_47 : decode cX9_addsRule 47 = .ok (.iadd, 1) := dk_96 (dk_at dksX9_addsRule_1 23 rfl rfl)
theorem dX9_addsRule_48 : decode cX9_addsRule 48 = .ok (.iconst 0, 1) := dk_3 (dk_at dksX9_addsRule_2 0 rfl rfl)
theorem dX9_addsRule_49 : decode cX9_addsRule 49 = .ok (.iastore, 1) := dk_79 (dk_at dksX9_addsRule_2 1 rfl rfl)
theorem dX9_addsRule_50 : decode cX9_addsRule 50 = .ok (.iinc 4 1, 3) := dk_132 4 1 (dk_at dksX9_addsRule_2 2 rfl rfl)
theorem dX9_addsRule_53 : decode cX9_addsRule 53 = .ok (.goto (-21), 3) := dk_167 255 235 (dk_at dksX9_addsRule_2 5 rfl rfl)
theorem dX9_addsRule_56 : decode cX9_addsRule 56 = .ok (.aload_n 0, 1) := dk_42 (dk_at dksX9_addsRule_2 8 rfl rfl)
theorem dX9_addsRule_57 : decode cX9_addsRule 57 = .ok (.getfield 11, 3) := dk_180 0 11 (dk_at dksX9_addsRule_2 9 rfl rfl)
theorem dX9_addsRule_60 : decode cX9_addsRule 60 = .ok (.iconst 1, 1) := dk_4 (dk_at dksX9_addsRule_2 12 rfl rfl)
theorem dX9_addsRule_61 : decode cX9_addsRule 61 = .ok (.dup2, 1) := dk_92 (dk_at dksX9_addsRule_2 13 rfl rfl)
theorem dX9_addsRule_62 : decode cX9_addsRule 62 = .ok (.iaload, 1) := dk_46 (dk_at dksX9_addsRule_2 14 rfl rfl)
theorem dX9_addsRule_63 : decode cX9_addsRule 63 = .ok (.iconst 1, 1) := dk_4 (dk_at dksX9_addsRule_2 15 rfl rfl)
theorem dX9_addsRule_64 : decode cX9_addsRule 64 = .ok (.iadd, 1) := dk_96 (dk_at dksX9_addsRule_2 16 rfl rfl)
theorem dX9_addsRule_65 : decode cX9_addsRule 65 = .ok (.iastore, 1) := dk_79 (dk_at dksX9_addsRule_2 17 rfl rfl)
theorem dX9_addsRule_66 : decode cX9_addsRule 66 = .ok (.aload_n 0, 1) := dk_42 (dk_at dksX9_addsRule_2 18 rfl rfl)
theorem dX9_addsRule_67 : decode cX9_addsRule 67 = .ok (.getfield 30, 3) := dk_180 0 30 (dk_at dksX9_addsRule_2 19 rfl rfl)
theorem dX9_addsRule_70 : decode cX9_addsRule 70 = .ok (.iconst 0, 1) := dk_3 (dk_at dksX9_addsRule_2 22 rfl rfl)
theorem dX9_addsRule_71 : decode cX9_addsRule 71 = .ok (.putfield 85, 3) := dk_181 0 85 (dk_at dksX9_addsRule_3 0 rfl rfl)
theorem dX9_addsRule_74 : decode cX9_addsRule 74 = .ok (.return_, 1) := dk_177 (dk_at dksX9_addsRule_3 3 rfl rfl)
abbrev cX9_factor : ByteArray := prog_19_method_16_code
def yX9_factor : MethodName := ⟨RX9, "factor", "(III)I"⟩
def dkwX9_factor_3 : List UInt8 := [21, 4, 96, 172]
abbrev dktX9_factor_3 : List UInt8 := dkwX9_factor_3 ++ []
def dkwX9_factor_2 : List UInt8 := [16, 12, 16, 7, 27, 104, 96, 5, 96, 28, 96, 29, 79, 42, 180, 0, 30, 3, 181, 0, 85, 16, 100]
abbrev dktX9_factor_2 : List UInt8 := dkwX9_factor_2 ++ dktX9_factor_3
def dkwX9_factor_1 : List UInt8 := [20, 0, 129, 184, 0, 93, 154, 0, 6, 16, 254, 172, 42, 27, 28, 182, 0, 101, 54, 4, 42, 180, 0, 11]
abbrev dktX9_factor_1 : List UInt8 := dkwX9_factor_1 ++ dktX9_factor_2
def dkwX9_factor_0 : List UInt8 := [42, 27, 182, 0, 124, 153, 0, 11, 42, 28, 182, 0, 110, 154, 0, 5, 2, 172, 29, 133, 20, 0, 127]
abbrev dktX9_factor_0 : List UInt8 := dkwX9_factor_0 ++ dktX9_factor_1
theorem dksX9_factor_0 : cX9_factor.data.toList.drop 0 = dktX9_factor_0 := by decide +kernel
theorem dksX9_factor_1 : cX9_factor.data.toList.drop 23 = dktX9_factor_1 := dk_seg dksX9_factor_0 23 rfl rfl
theorem dksX9_factor_2 : cX9_factor.data.toList.drop 47 = dktX9_factor_2 := dk_seg dksX9_factor_1 24 rfl rfl
theorem dksX9_factor_3 : cX9_factor.data.toList.drop 70 = dktX9_factor_3 := dk_seg dksX9_factor_2 23 rfl rfl
theorem dX9_factor_0 : decode cX9_factor 0 = .ok (.aload_n 0, 1) := dk_42 (dk_at dksX9_factor_0 0 rfl rfl)
theorem dX9_factor_1 : decode cX9_factor 1 = .ok (.iload_n 1, 1) := dk_27 (dk_at dksX9_factor_0 1 rfl rfl)
theorem dX9_factor_2 : decode cX9_factor 2 = .ok (.invokevirtual 124, 3) := dk_182 0 124 (dk_at dksX9_factor_0 2 rfl rfl)
theorem dX9_factor_5 : decode cX9_factor 5 = .ok (.ifCond .eq 11, 3) := dk_153 0 11 (dk_at dksX9_factor_0 5 rfl rfl)
theorem dX9_factor_8 : decode cX9_factor 8 = .ok (.aload_n 0, 1) := dk_42 (dk_at dksX9_factor_0 8 rfl rfl)
theorem dX9_factor_9 : decode cX9_factor 9 = .ok (.iload_n 2, 1) := dk_28 (dk_at dksX9_factor_0 9 rfl rfl)
theorem dX9_factor_10 : decode cX9_factor 10 = .ok (.invokevirtual 110, 3) := dk_182 0 110 (dk_at dksX9_factor_0 10 rfl rfl)
theorem dX9_factor_13 : decode cX9_factor 13 = .ok (.ifCond .ne 5, 3) := dk_154 0 5 (dk_at dksX9_factor_0 13 rfl rfl)
theorem dX9_factor_16 : decode cX9_factor 16 = .ok (.iconst (-1), 1) := dk_2 (dk_at dksX9_factor_0 16 rfl rfl)
theorem dX9_factor_17 : decode cX9_factor 17 = .ok (.ireturn, 1) := dk_172 (dk_at dksX9_factor_0 17 rfl rfl)
theorem dX9_factor_18 : decode cX9_factor 18 = .ok (.iload_n 3, 1) := dk_29 (dk_at dksX9_factor_0 18 rfl rfl)
theorem dX9_factor_19 : decode cX9_factor 19 = .ok (.i2l, 1) := dk_133 (dk_at dksX9_factor_0 19 rfl rfl)
theorem dX9_factor_20 : decode cX9_factor 20 = .ok (.ldc2_w 127, 3) := dk_20 0 127 (dk_at dksX9_factor_0 20 rfl rfl)
theorem dX9_factor_23 : decode cX9_factor 23 = .ok (.ldc2_w 129, 3) := dk_20 0 129 (dk_at dksX9_factor_1 0 rfl rfl)
theorem dX9_factor_26 : decode cX9_factor 26 = .ok (.invokestatic 93, 3) := dk_184 0 93 (dk_at dksX9_factor_1 3 rfl rfl)
theorem dX9_factor_29 : decode cX9_factor 29 = .ok (.ifCond .ne 6, 3) := dk_154 0 6 (dk_at dksX9_factor_1 6 rfl rfl)
theorem dX9_factor_32 : decode cX9_factor 32 = .ok (.bipush (-2), 2) := dk_16 254 (dk_at dksX9_factor_1 9 rfl rfl)
theorem dX9_factor_34 : decode cX9_factor 34 = .ok (.ireturn, 1) := dk_172 (dk_at dksX9_factor_1 11 rfl rfl)
theorem dX9_factor_35 : decode cX9_factor 35 = .ok (.aload_n 0, 1) := dk_42 (dk_at dksX9_factor_1 12 rfl rfl)
theorem dX9_factor_36 : decode cX9_factor 36 = .ok (.iload_n 1, 1) := dk_27 (dk_at dksX9_factor_1 13 rfl rfl)
theorem dX9_factor_37 : decode cX9_factor 37 = .ok (.iload_n 2, 1) := dk_28 (dk_at dksX9_factor_1 14 rfl rfl)
theorem dX9_factor_38 : decode cX9_factor 38 = .ok (.invokevirtual 101, 3) := dk_182 0 101 (dk_at dksX9_factor_1 15 rfl rfl)
theorem dX9_factor_41 : decode cX9_factor 41 = .ok (.istore 4, 2) := dk_54 4 (dk_at dksX9_factor_1 18 rfl rfl)
theorem dX9_factor_43 : decode cX9_factor 43 = .ok (.aload_n 0, 1) := dk_42 (dk_at dksX9_factor_1 20 rfl rfl)
theorem dX9_factor_44 : decode cX9_factor 44 = .ok (.getfield 11, 3) := dk_180 0 11 (dk_at dksX9_factor_1 21 rfl rfl)
theorem dX9_factor_47 : decode cX9_factor 47 = .ok (.bipush 12, 2) := dk_16 12 (dk_at dksX9_factor_2 0 rfl rfl)
theorem dX9_factor_49 : decode cX9_factor 49 = .ok (.bipush 7, 2) := dk_16 7 (dk_at dksX9_factor_2 2 rfl rfl)
theorem dX9_factor_51 : decode cX9_factor 51 = .ok (.iload_n 1, 1) := dk_27 (dk_at dksX9_factor_2 4 rfl rfl)
theorem dX9_factor_52 : decode cX9_factor 52 = .ok (.imul, 1) := dk_104 (dk_at dksX9_factor_2 5 rfl rfl)
theorem dX9_factor_53 : decode cX9_factor 53 = .ok (.iadd, 1) := dk_96 (dk_at dksX9_factor_2 6 rfl rfl)
theorem dX9_factor_54 : decode cX9_factor 54 = .ok (.iconst 2, 1) := dk_5 (dk_at dksX9_factor_2 7 rfl rfl)
theorem dX9_factor_55 : decode cX9_factor 55 = .ok (.iadd, 1) := dk_96 (dk_at dksX9_factor_2 8 rfl rfl)
theorem dX9_factor_56 : decode cX9_factor 56 = .ok (.iload_n 2, 1) := dk_28 (dk_at dksX9_factor_2 9 rfl rfl)
theorem dX9_factor_57 : decode cX9_factor 57 = .ok (.iadd, 1) := dk_96 (dk_at dksX9_factor_2 10 rfl rfl)
theorem dX9_factor_58 : decode cX9_factor 58 = .ok (.iload_n 3, 1) := dk_29 (dk_at dksX9_factor_2 11 rfl rfl)
theorem dX9_factor_59 : decode cX9_factor 59 = .ok (.iastore, 1) := dk_79 (dk_at dksX9_factor_2 12 rfl rfl)
theorem dX9_factor_60 : decode cX9_factor 60 = .ok (.aload_n 0, 1) := dk_42 (dk_at dksX9_factor_2 13 rfl rfl)
theorem dX9_factor_61 : decode cX9_factor 61 = .ok (.getfield 30, 3) := dk_180 0 30 (dk_at dksX9_factor_2 14 rfl rfl)
theorem dX9_factor_64 : decode cX9_factor 64 = .ok (.iconst 0, 1) := dk_3 (dk_at dksX9_factor_2 17 rfl rfl)
theorem dX9_factor_65 : decode cX9_factor 65 = .ok (.putfield 85, 3) := dk_181 0 85 (dk_at dksX9_factor_2 18 rfl rfl)
theorem dX9_factor_68 : decode cX9_factor 68 = .ok (.bipush 100, 2) := dk_16 100 (dk_at dksX9_factor_2 21 rfl rfl)
theorem dX9_factor_70 : decode cX9_factor 70 = .ok (.iload 4, 2) := dk_21 4 (dk_at dksX9_factor_3 0 rfl rfl)
theorem dX9_factor_72 : decode cX9_factor 72 = .ok (.iadd, 1) := dk_96 (dk_at dksX9_factor_3 2 rfl rfl)
theorem dX9_factor_73 : decode cX9_factor 73 = .ok (.ireturn, 1) := dk_172 (dk_at dksX9_factor_3 3 rfl rfl)
abbrev cX9_isRule : ByteArray := prog_19_method_6_code
def yX9_isRule : MethodName := ⟨RX9, "isRule", "(I)Z"⟩
def dkwX9_isRule_0 : List UInt8 := [27, 133, 9, 42, 180, 0, 11, 4, 46, 4, 100, 133, 184, 0, 93, 172]
abbrev dktX9_isRule_0 : List UInt8 := dkwX9_isRule_0 ++ []
theorem dksX9_isRule_0 : cX9_isRule.data.toList.drop 0 = dktX9_isRule_0 := by decide +kernel
theorem dX9_isRule_0 : decode cX9_isRule 0 = .ok (.iload_n 1, 1) := dk_27 (dk_at dksX9_isRule_0 0 rfl rfl)
theorem dX9_isRule_1 : decode cX9_isRule 1 = .ok (.i2l, 1) := dk_133 (dk_at dksX9_isRule_0 1 rfl rfl)
theorem dX9_isRule_2 : decode cX9_isRule 2 = .ok (.lconst 0, 1) := dk_9 (dk_at dksX9_isRule_0 2 rfl rfl)
theorem dX9_isRule_3 : decode cX9_isRule 3 = .ok (.aload_n 0, 1) := dk_42 (dk_at dksX9_isRule_0 3 rfl rfl)
theorem dX9_isRule_4 : decode cX9_isRule 4 = .ok (.getfield 11, 3) := dk_180 0 11 (dk_at dksX9_isRule_0 4 rfl rfl)
theorem dX9_isRule_7 : decode cX9_isRule 7 = .ok (.iconst 1, 1) := dk_4 (dk_at dksX9_isRule_0 7 rfl rfl)
theorem dX9_isRule_8 : decode cX9_isRule 8 = .ok (.iaload, 1) := dk_46 (dk_at dksX9_isRule_0 8 rfl rfl)
theorem dX9_isRule_9 : decode cX9_isRule 9 = .ok (.iconst 1, 1) := dk_4 (dk_at dksX9_isRule_0 9 rfl rfl)
theorem dX9_isRule_10 : decode cX9_isRule 10 = .ok (.isub, 1) := dk_100 (dk_at dksX9_isRule_0 10 rfl rfl)
theorem dX9_isRule_11 : decode cX9_isRule 11 = .ok (.i2l, 1) := dk_133 (dk_at dksX9_isRule_0 11 rfl rfl)
theorem dX9_isRule_12 : decode cX9_isRule 12 = .ok (.invokestatic 93, 3) := dk_184 0 93 (dk_at dksX9_isRule_0 12 rfl rfl)
theorem dX9_isRule_15 : decode cX9_isRule 15 = .ok (.ireturn, 1) := dk_172 (dk_at dksX9_isRule_0 15 rfl rfl)
abbrev cX9_factorOf : ByteArray := prog_19_method_9_code
def yX9_factorOf : MethodName := ⟨RX9, "factorOf", "(II)I"⟩
def dkwX9_factorOf_0 : List UInt8 := [42, 180, 0, 11, 16, 12, 16, 7, 27, 104, 96, 5, 96, 28, 96, 46, 172]
abbrev dktX9_factorOf_0 : List UInt8 := dkwX9_factorOf_0 ++ []
theorem dksX9_factorOf_0 : cX9_factorOf.data.toList.drop 0 = dktX9_factorOf_0 := by decide +kernel
theorem dX9_factorOf_0 : decode cX9_factorOf 0 = .ok (.aload_n 0, 1) := dk_42 (dk_at dksX9_factorOf_0 0 rfl rfl)
theorem dX9_factorOf_1 : decode cX9_factorOf 1 = .ok (.getfield 11, 3) := dk_180 0 11 (dk_at dksX9_factorOf_0 1 rfl rfl)
theorem dX9_factorOf_4 : decode cX9_factorOf 4 = .ok (.bipush 12, 2) := dk_16 12 (dk_at dksX9_factorOf_0 4 rfl rfl)
theorem dX9_factorOf_6 : decode cX9_factorOf 6 = .ok (.bipush 7, 2) := dk_16 7 (dk_at dksX9_factorOf_0 6 rfl rfl)
theorem dX9_factorOf_8 : decode cX9_factorOf 8 = .ok (.iload_n 1, 1) := dk_27 (dk_at dksX9_factorOf_0 8 rfl rfl)
theorem dX9_factorOf_9 : decode cX9_factorOf 9 = .ok (.imul, 1) := dk_104 (dk_at dksX9_factorOf_0 9 rfl rfl)
theorem dX9_factorOf_10 : decode cX9_factorOf 10 = .ok (.iadd, 1) := dk_96 (dk_at dksX9_factorOf_0 10 rfl rfl)
theorem dX9_factorOf_11 : decode cX9_factorOf 11 = .ok (.iconst 2, 1) := dk_5 (dk_at dksX9_factorOf_0 11 rfl rfl)
theorem dX9_factorOf_12 : decode cX9_factorOf 12 = .ok (.iadd, 1) := dk_96 (dk_at dksX9_factorOf_0 12 rfl rfl)
theorem dX9_factorOf_13 : decode cX9_factorOf 13 = .ok (.iload_n 2, 1) := dk_28 (dk_at dksX9_factorOf_0 13 rfl rfl)
theorem dX9_factorOf_14 : decode cX9_factorOf 14 = .ok (.iadd, 1) := dk_96 (dk_at dksX9_factorOf_0 14 rfl rfl)
theorem dX9_factorOf_15 : decode cX9_factorOf 15 = .ok (.iaload, 1) := dk_46 (dk_at dksX9_factorOf_0 15 rfl rfl)
theorem dX9_factorOf_16 : decode cX9_factorOf 16 = .ok (.ireturn, 1) := dk_172 (dk_at dksX9_factorOf_0 16 rfl rfl)
abbrev cX9_bound : ByteArray := prog_19_method_17_code
def yX9_bound : MethodName := ⟨RX9, "bound", "(II)I"⟩
def dkwX9_bound_2 : List UInt8 := [42, 180, 0, 30, 3, 181, 0, 85, 17, 3, 232, 29, 96, 172]
abbrev dktX9_bound_2 : List UInt8 := dkwX9_bound_2 ++ []
def dkwX9_bound_1 : List UInt8 := [16, 254, 172, 42, 27, 182, 0, 105, 62, 42, 180, 0, 11, 16, 12, 16, 7, 27, 104, 96, 4, 96, 28, 79]
abbrev dktX9_bound_1 : List UInt8 := dkwX9_bound_1 ++ dktX9_bound_2
def dkwX9_bound_0 : List UInt8 := [42, 27, 182, 0, 124, 154, 0, 5, 2, 172, 28, 133, 20, 0, 116, 20, 0, 118, 184, 0, 93, 154, 0, 6]
abbrev dktX9_bound_0 : List UInt8 := dkwX9_bound_0 ++ dktX9_bound_1
theorem dksX9_bound_0 : cX9_bound.data.toList.drop 0 = dktX9_bound_0 := by decide +kernel
theorem dksX9_bound_1 : cX9_bound.data.toList.drop 24 = dktX9_bound_1 := dk_seg dksX9_bound_0 24 rfl rfl
theorem dksX9_bound_2 : cX9_bound.data.toList.drop 48 = dktX9_bound_2 := dk_seg dksX9_bound_1 24 rfl rfl
theorem dX9_bound_0 : decode cX9_bound 0 = .ok (.aload_n 0, 1) := dk_42 (dk_at dksX9_bound_0 0 rfl rfl)
theorem dX9_bound_1 : decode cX9_bound 1 = .ok (.iload_n 1, 1) := dk_27 (dk_at dksX9_bound_0 1 rfl rfl)
theorem dX9_bound_2 : decode cX9_bound 2 = .ok (.invokevirtual 124, 3) := dk_182 0 124 (dk_at dksX9_bound_0 2 rfl rfl)
theorem dX9_bound_5 : decode cX9_bound 5 = .ok (.ifCond .ne 5, 3) := dk_154 0 5 (dk_at dksX9_bound_0 5 rfl rfl)
theorem dX9_bound_8 : decode cX9_bound 8 = .ok (.iconst (-1), 1) := dk_2 (dk_at dksX9_bound_0 8 rfl rfl)
theorem dX9_bound_9 : decode cX9_bound 9 = .ok (.ireturn, 1) := dk_172 (dk_at dksX9_bound_0 9 rfl rfl)
theorem dX9_bound_10 : decode cX9_bound 10 = .ok (.iload_n 2, 1) := dk_28 (dk_at dksX9_bound_0 10 rfl rfl)
theorem dX9_bound_11 : decode cX9_bound 11 = .ok (.i2l, 1) := dk_133 (dk_at dksX9_bound_0 11 rfl rfl)
theorem dX9_bound_12 : decode cX9_bound 12 = .ok (.ldc2_w 116, 3) := dk_20 0 116 (dk_at dksX9_bound_0 12 rfl rfl)
theorem dX9_bound_15 : decode cX9_bound 15 = .ok (.ldc2_w 118, 3) := dk_20 0 118 (dk_at dksX9_bound_0 15 rfl rfl)
theorem dX9_bound_18 : decode cX9_bound 18 = .ok (.invokestatic 93, 3) := dk_184 0 93 (dk_at dksX9_bound_0 18 rfl rfl)
theorem dX9_bound_21 : decode cX9_bound 21 = .ok (.ifCond .ne 6, 3) := dk_154 0 6 (dk_at dksX9_bound_0 21 rfl rfl)
theorem dX9_bound_24 : decode cX9_bound 24 = .ok (.bipush (-2), 2) := dk_16 254 (dk_at dksX9_bound_1 0 rfl rfl)
theorem dX9_bound_26 : decode cX9_bound 26 = .ok (.ireturn, 1) := dk_172 (dk_at dksX9_bound_1 2 rfl rfl)
theorem dX9_bound_27 : decode cX9_bound 27 = .ok (.aload_n 0, 1) := dk_42 (dk_at dksX9_bound_1 3 rfl rfl)
theorem dX9_bound_28 : decode cX9_bound 28 = .ok (.iload_n 1, 1) := dk_27 (dk_at dksX9_bound_1 4 rfl rfl)
theorem dX9_bound_29 : decode cX9_bound 29 = .ok (.invokevirtual 105, 3) := dk_182 0 105 (dk_at dksX9_bound_1 5 rfl rfl)
theorem dX9_bound_32 : decode cX9_bound 32 = .ok (.istore_n 3, 1) := dk_62 (dk_at dksX9_bound_1 8 rfl rfl)
theorem dX9_bound_33 : decode cX9_bound 33 = .ok (.aload_n 0, 1) := dk_42 (dk_at dksX9_bound_1 9 rfl rfl)
theorem dX9_bound_34 : decode cX9_bound 34 = .ok (.getfield 11, 3) := dk_180 0 11 (dk_at dksX9_bound_1 10 rfl rfl)
theorem dX9_bound_37 : decode cX9_bound 37 = .ok (.bipush 12, 2) := dk_16 12 (dk_at dksX9_bound_1 13 rfl rfl)
theorem dX9_bound_39 : decode cX9_bound 39 = .ok (.bipush 7, 2) := dk_16 7 (dk_at dksX9_bound_1 15 rfl rfl)
theorem dX9_bound_41 : decode cX9_bound 41 = .ok (.iload_n 1, 1) := dk_27 (dk_at dksX9_bound_1 17 rfl rfl)
theorem dX9_bound_42 : decode cX9_bound 42 = .ok (.imul, 1) := dk_104 (dk_at dksX9_bound_1 18 rfl rfl)
theorem dX9_bound_43 : decode cX9_bound 43 = .ok (.iadd, 1) := dk_96 (dk_at dksX9_bound_1 19 rfl rfl)
theorem dX9_bound_44 : decode cX9_bound 44 = .ok (.iconst 1, 1) := dk_4 (dk_at dksX9_bound_1 20 rfl rfl)
theorem dX9_bound_45 : decode cX9_bound 45 = .ok (.iadd, 1) := dk_96 (dk_at dksX9_bound_1 21 rfl rfl)
theorem dX9_bound_46 : decode cX9_bound 46 = .ok (.iload_n 2, 1) := dk_28 (dk_at dksX9_bound_1 22 rfl rfl)
theorem dX9_bound_47 : decode cX9_bound 47 = .ok (.iastore, 1) := dk_79 (dk_at dksX9_bound_1 23 rfl rfl)
theorem dX9_bound_48 : decode cX9_bound 48 = .ok (.aload_n 0, 1) := dk_42 (dk_at dksX9_bound_2 0 rfl rfl)
theorem dX9_bound_49 : decode cX9_bound 49 = .ok (.getfield 30, 3) := dk_180 0 30 (dk_at dksX9_bound_2 1 rfl rfl)
theorem dX9_bound_52 : decode cX9_bound 52 = .ok (.iconst 0, 1) := dk_3 (dk_at dksX9_bound_2 4 rfl rfl)
theorem dX9_bound_53 : decode cX9_bound 53 = .ok (.putfield 85, 3) := dk_181 0 85 (dk_at dksX9_bound_2 5 rfl rfl)
theorem dX9_bound_56 : decode cX9_bound 56 = .ok (.sipush 1000, 3) := dk_17 3 232 (dk_at dksX9_bound_2 8 rfl rfl)
theorem dX9_bound_59 : decode cX9_bound 59 = .ok (.iload_n 3, 1) := dk_29 (dk_at dksX9_bound_2 11 rfl rfl)
theorem dX9_bound_60 : decode cX9_bound 60 = .ok (.iadd, 1) := dk_96 (dk_at dksX9_bound_2 12 rfl rfl)
theorem dX9_bound_61 : decode cX9_bound 61 = .ok (.ireturn, 1) := dk_172 (dk_at dksX9_bound_2 13 rfl rfl)
abbrev cX9_boundOf : ByteArray := prog_19_method_8_code
def yX9_boundOf : MethodName := ⟨RX9, "boundOf", "(I)I"⟩
def dkwX9_boundOf_0 : List UInt8 := [42, 180, 0, 11, 16, 12, 16, 7, 27, 104, 96, 4, 96, 46, 172]
abbrev dktX9_boundOf_0 : List UInt8 := dkwX9_boundOf_0 ++ []
theorem dksX9_boundOf_0 : cX9_boundOf.data.toList.drop 0 = dktX9_boundOf_0 := by decide +kernel
theorem dX9_boundOf_0 : decode cX9_boundOf 0 = .ok (.aload_n 0, 1) := dk_42 (dk_at dksX9_boundOf_0 0 rfl rfl)
theorem dX9_boundOf_1 : decode cX9_boundOf 1 = .ok (.getfield 11, 3) := dk_180 0 11 (dk_at dksX9_boundOf_0 1 rfl rfl)
theorem dX9_boundOf_4 : decode cX9_boundOf 4 = .ok (.bipush 12, 2) := dk_16 12 (dk_at dksX9_boundOf_0 4 rfl rfl)
theorem dX9_boundOf_6 : decode cX9_boundOf 6 = .ok (.bipush 7, 2) := dk_16 7 (dk_at dksX9_boundOf_0 6 rfl rfl)
theorem dX9_boundOf_8 : decode cX9_boundOf 8 = .ok (.iload_n 1, 1) := dk_27 (dk_at dksX9_boundOf_0 8 rfl rfl)
theorem dX9_boundOf_9 : decode cX9_boundOf 9 = .ok (.imul, 1) := dk_104 (dk_at dksX9_boundOf_0 9 rfl rfl)
theorem dX9_boundOf_10 : decode cX9_boundOf 10 = .ok (.iadd, 1) := dk_96 (dk_at dksX9_boundOf_0 10 rfl rfl)
theorem dX9_boundOf_11 : decode cX9_boundOf 11 = .ok (.iconst 1, 1) := dk_4 (dk_at dksX9_boundOf_0 11 rfl rfl)
theorem dX9_boundOf_12 : decode cX9_boundOf 12 = .ok (.iadd, 1) := dk_96 (dk_at dksX9_boundOf_0 12 rfl rfl)
theorem dX9_boundOf_13 : decode cX9_boundOf 13 = .ok (.iaload, 1) := dk_46 (dk_at dksX9_boundOf_0 13 rfl rfl)
theorem dX9_boundOf_14 : decode cX9_boundOf 14 = .ok (.ireturn, 1) := dk_172 (dk_at dksX9_boundOf_0 14 rfl rfl)
abbrev cX9_less : ByteArray := prog_19_method_18_code
def yX9_less : MethodName := ⟨RX9, "less", "()I"⟩
def dkwX9_less_2 : List UInt8 := [180, 0, 11, 4, 46, 172]
abbrev dktX9_less_2 : List UInt8 := dkwX9_less_2 ++ []
def dkwX9_less_1 : List UInt8 := [180, 0, 11, 16, 68, 42, 180, 0, 11, 4, 46, 96, 3, 79, 42, 180, 0, 30, 3, 181, 0, 85, 42]
abbrev dktX9_less_1 : List UInt8 := dkwX9_less_1 ++ dktX9_less_2
def dkwX9_less_0 : List UInt8 := [42, 180, 0, 11, 4, 46, 154, 0, 6, 16, 253, 172, 42, 180, 0, 11, 4, 92, 46, 4, 100, 79, 42]
abbrev dktX9_less_0 : List UInt8 := dkwX9_less_0 ++ dktX9_less_1
theorem dksX9_less_0 : cX9_less.data.toList.drop 0 = dktX9_less_0 := by decide +kernel
theorem dksX9_less_1 : cX9_less.data.toList.drop 23 = dktX9_less_1 := dk_seg dksX9_less_0 23 rfl rfl
theorem dksX9_less_2 : cX9_less.data.toList.drop 46 = dktX9_less_2 := dk_seg dksX9_less_1 23 rfl rfl
theorem dX9_less_0 : decode cX9_less 0 = .ok (.aload_n 0, 1) := dk_42 (dk_at dksX9_less_0 0 rfl rfl)
theorem dX9_less_1 : decode cX9_less 1 = .ok (.getfield 11, 3) := dk_180 0 11 (dk_at dksX9_less_0 1 rfl rfl)
theorem dX9_less_4 : decode cX9_less 4 = .ok (.iconst 1, 1) := dk_4 (dk_at dksX9_less_0 4 rfl rfl)
theorem dX9_less_5 : decode cX9_less 5 = .ok (.iaload, 1) := dk_46 (dk_at dksX9_less_0 5 rfl rfl)
theorem dX9_less_6 : decode cX9_less 6 = .ok (.ifCond .ne 6, 3) := dk_154 0 6 (dk_at dksX9_less_0 6 rfl rfl)
theorem dX9_less_9 : decode cX9_less 9 = .ok (.bipush (-3), 2) := dk_16 253 (dk_at dksX9_less_0 9 rfl rfl)
theorem dX9_less_11 : decode cX9_less 11 = .ok (.ireturn, 1) := dk_172 (dk_at dksX9_less_0 11 rfl rfl)
theorem dX9_less_12 : decode cX9_less 12 = .ok (.aload_n 0, 1) := dk_42 (dk_at dksX9_less_0 12 rfl rfl)
theorem dX9_less_13 : decode cX9_less 13 = .ok (.getfield 11, 3) := dk_180 0 11 (dk_at dksX9_less_0 13 rfl rfl)
theorem dX9_less_16 : decode cX9_less 16 = .ok (.iconst 1, 1) := dk_4 (dk_at dksX9_less_0 16 rfl rfl)
theorem dX9_less_17 : decode cX9_less 17 = .ok (.dup2, 1) := dk_92 (dk_at dksX9_less_0 17 rfl rfl)
theorem dX9_less_18 : decode cX9_less 18 = .ok (.iaload, 1) := dk_46 (dk_at dksX9_less_0 18 rfl rfl)
theorem dX9_less_19 : decode cX9_less 19 = .ok (.iconst 1, 1) := dk_4 (dk_at dksX9_less_0 19 rfl rfl)
theorem dX9_less_20 : decode cX9_less 20 = .ok (.isub, 1) := dk_100 (dk_at dksX9_less_0 20 rfl rfl)
theorem dX9_less_21 : decode cX9_less 21 = .ok (.iastore, 1) := dk_79 (dk_at dksX9_less_0 21 rfl rfl)
theorem dX9_less_22 : decode cX9_less 22 = .ok (.aload_n 0, 1) := dk_42 (dk_at dksX9_less_0 22 rfl rfl)
theorem dX9_less_23 : decode cX9_less 23 = .ok (.getfield 11, 3) := dk_180 0 11 (dk_at dksX9_less_1 0 rfl rfl)
theorem dX9_less_26 : decode cX9_less 26 = .ok (.bipush 68, 2) := dk_16 68 (dk_at dksX9_less_1 3 rfl rfl)
theorem dX9_less_28 : decode cX9_less 28 = .ok (.aload_n 0, 1) := dk_42 (dk_at dksX9_less_1 5 rfl rfl)
theorem dX9_less_29 : decode cX9_less 29 = .ok (.getfield 11, 3) := dk_180 0 11 (dk_at dksX9_less_1 6 rfl rfl)
theorem dX9_less_32 : decode cX9_less 32 = .ok (.iconst 1, 1) := dk_4 (dk_at dksX9_less_1 9 rfl rfl)
theorem dX9_less_33 : decode cX9_less 33 = .ok (.iaload, 1) := dk_46 (dk_at dksX9_less_1 10 rfl rfl)
theorem dX9_less_34 : decode cX9_less 34 = .ok (.iadd, 1) := dk_96 (dk_at dksX9_less_1 11 rfl rfl)
theorem dX9_less_35 : decode cX9_less 35 = .ok (.iconst 0, 1) := dk_3 (dk_at dksX9_less_1 12 rfl rfl)
theorem dX9_less_36 : decode cX9_less 36 = .ok (.iastore, 1) := dk_79 (dk_at dksX9_less_1 13 rfl rfl)
theorem dX9_less_37 : decode cX9_less 37 = .ok (.aload_n 0, 1) := dk_42 (dk_at dksX9_less_1 14 rfl rfl)
theorem dX9_less_38 : decode cX9_less 38 = .ok (.getfield 30, 3) := dk_180 0 30 (dk_at dksX9_less_1 15 rfl rfl)
theorem dX9_less_41 : decode cX9_less 41 = .ok (.iconst 0, 1) := dk_3 (dk_at dksX9_less_1 18 rfl rfl)
theorem dX9_less_42 : decode cX9_less 42 = .ok (.putfield 85, 3) := dk_181 0 85 (dk_at dksX9_less_1 19 rfl rfl)
theorem dX9_less_45 : decode cX9_less 45 = .ok (.aload_n 0, 1) := dk_42 (dk_at dksX9_less_1 22 rfl rfl)
theorem dX9_less_46 : decode cX9_less 46 = .ok (.getfield 11, 3) := dk_180 0 11 (dk_at dksX9_less_2 0 rfl rfl)
theorem dX9_less_49 : decode cX9_less 49 = .ok (.iconst 1, 1) := dk_4 (dk_at dksX9_less_2 3 rfl rfl)
theorem dX9_less_50 : decode cX9_less 50 = .ok (.iaload, 1) := dk_46 (dk_at dksX9_less_2 4 rfl rfl)
theorem dX9_less_51 : decode cX9_less 51 = .ok (.ireturn, 1) := dk_172 (dk_at dksX9_less_2 5 rfl rfl)
abbrev cX9_ruleOf : ByteArray := prog_19_method_19_code
def yX9_ruleOf : MethodName := ⟨RX9, "ruleOf", "(II)I"⟩
def dkwX9_ruleOf_1 : List UInt8 := [17, 3, 232, 42, 180, 0, 11, 16, 12, 16, 7, 27, 104, 96, 28, 96, 46, 96, 167, 0, 4, 2, 172]
abbrev dktX9_ruleOf_1 : List UInt8 := dkwX9_ruleOf_1 ++ []
def dkwX9_ruleOf_0 : List UInt8 := [42, 27, 182, 0, 124, 153, 0, 40, 28, 133, 9, 4, 42, 182, 0, 89, 96, 133, 184, 0, 93, 153, 0, 24]
abbrev dktX9_ruleOf_0 : List UInt8 := dkwX9_ruleOf_0 ++ dktX9_ruleOf_1
theorem dksX9_ruleOf_0 : cX9_ruleOf.data.toList.drop 0 = dktX9_ruleOf_0 := by decide +kernel
theorem dksX9_ruleOf_1 : cX9_ruleOf.data.toList.drop 24 = dktX9_ruleOf_1 := dk_seg dksX9_ruleOf_0 24 rfl rfl
theorem dX9_ruleOf_0 : decode cX9_ruleOf 0 = .ok (.aload_n 0, 1) := dk_42 (dk_at dksX9_ruleOf_0 0 rfl rfl)
theorem dX9_ruleOf_1 : decode cX9_ruleOf 1 = .ok (.iload_n 1, 1) := dk_27 (dk_at dksX9_ruleOf_0 1 rfl rfl)
theorem dX9_ruleOf_2 : decode cX9_ruleOf 2 = .ok (.invokevirtual 124, 3) := dk_182 0 124 (dk_at dksX9_ruleOf_0 2 rfl rfl)
theorem dX9_ruleOf_5 : decode cX9_ruleOf 5 = .ok (.ifCond .eq 40, 3) := dk_153 0 40 (dk_at dksX9_ruleOf_0 5 rfl rfl)
theorem dX9_ruleOf_8 : decode cX9_ruleOf 8 = .ok (.iload_n 2, 1) := dk_28 (dk_at dksX9_ruleOf_0 8 rfl rfl)
theorem dX9_ruleOf_9 : decode cX9_ruleOf 9 = .ok (.i2l, 1) := dk_133 (dk_at dksX9_ruleOf_0 9 rfl rfl)
theorem dX9_ruleOf_10 : decode cX9_ruleOf 10 = .ok (.lconst 0, 1) := dk_9 (dk_at dksX9_ruleOf_0 10 rfl rfl)
theorem dX9_ruleOf_11 : decode cX9_ruleOf 11 = .ok (.iconst 1, 1) := dk_4 (dk_at dksX9_ruleOf_0 11 rfl rfl)
theorem dX9_ruleOf_12 : decode cX9_ruleOf 12 = .ok (.aload_n 0, 1) := dk_42 (dk_at dksX9_ruleOf_0 12 rfl rfl)
theorem dX9_ruleOf_13 : decode cX9_ruleOf 13 = .ok (.invokevirtual 89, 3) := dk_182 0 89 (dk_at dksX9_ruleOf_0 13 rfl rfl)
theorem dX9_ruleOf_16 : decode cX9_ruleOf 16 = .ok (.iadd, 1) := dk_96 (dk_at dksX9_ruleOf_0 16 rfl rfl)
theorem dX9_ruleOf_17 : decode cX9_ruleOf 17 = .ok (.i2l, 1) := dk_133 (dk_at dksX9_ruleOf_0 17 rfl rfl)
theorem dX9_ruleOf_18 : decode cX9_ruleOf 18 = .ok (.invokestatic 93, 3) := dk_184 0 93 (dk_at dksX9_ruleOf_0 18 rfl rfl)
theorem dX9_ruleOf_21 : decode cX9_ruleOf 21 = .ok (.ifCond .eq 24, 3) := dk_153 0 24 (dk_at dksX9_ruleOf_0 21 rfl rfl)
theorem dX9_ruleOf_24 : decode cX9_ruleOf 24 = .ok (.sipush 1000, 3) := dk_17 3 232 (dk_at dksX9_ruleOf_1 0 rfl rfl)
theorem dX9_ruleOf_27 : decode cX9_ruleOf 27 = .ok (.aload_n 0, 1) := dk_42 (dk_at dksX9_ruleOf_1 3 rfl rfl)
theorem dX9_ruleOf_28 : decode cX9_ruleOf 28 = .ok (.getfield 11, 3) := dk_180 0 11 (dk_at dksX9_ruleOf_1 4 rfl rfl)
theorem dX9_ruleOf_31 : decode cX9_ruleOf 31 = .ok (.bipush 12, 2) := dk_16 12 (dk_at dksX9_ruleOf_1 7 rfl rfl)
theorem dX9_ruleOf_33 : decode cX9_ruleOf 33 = .ok (.bipush 7, 2) := dk_16 7 (dk_at dksX9_ruleOf_1 9 rfl rfl)
theorem dX9_ruleOf_35 : decode cX9_ruleOf 35 = .ok (.iload_n 1, 1) := dk_27 (dk_at dksX9_ruleOf_1 11 rfl rfl)
theorem dX9_ruleOf_36 : decode cX9_ruleOf 36 = .ok (.imul, 1) := dk_104 (dk_at dksX9_ruleOf_1 12 rfl rfl)
theorem dX9_ruleOf_37 : decode cX9_ruleOf 37 = .ok (.iadd, 1) := dk_96 (dk_at dksX9_ruleOf_1 13 rfl rfl)
theorem dX9_ruleOf_38 : decode cX9_ruleOf 38 = .ok (.iload_n 2, 1) := dk_28 (dk_at dksX9_ruleOf_1 14 rfl rfl)
theorem dX9_ruleOf_39 : decode cX9_ruleOf 39 = .ok (.iadd, 1) := dk_96 (dk_at dksX9_ruleOf_1 15 rfl rfl)
theorem dX9_ruleOf_40 : decode cX9_ruleOf 40 = .ok (.iaload, 1) := dk_46 (dk_at dksX9_ruleOf_1 16 rfl rfl)
theorem dX9_ruleOf_41 : decode cX9_ruleOf 41 = .ok (.iadd, 1) := dk_96 (dk_at dksX9_ruleOf_1 17 rfl rfl)
theorem dX9_ruleOf_42 : decode cX9_ruleOf 42 = .ok (.goto 4, 3) := dk_167 0 4 (dk_at dksX9_ruleOf_1 18 rfl rfl)
theorem dX9_ruleOf_45 : decode cX9_ruleOf 45 = .ok (.iconst (-1), 1) := dk_2 (dk_at dksX9_ruleOf_1 21 rfl rfl)
theorem dX9_ruleOf_46 : decode cX9_ruleOf 46 = .ok (.ireturn, 1) := dk_172 (dk_at dksX9_ruleOf_1 22 rfl rfl)
abbrev cX9_feed : ByteArray := prog_19_method_20_code
def yX9_feed : MethodName := ⟨RX9, "feed", "(I)I"⟩
def dkwX9_feed_2 : List UInt8 := [180, 0, 133, 172]
abbrev dktX9_feed_2 : List UInt8 := dkwX9_feed_2 ++ []
def dkwX9_feed_1 : List UInt8 := [16, 252, 172, 42, 180, 0, 21, 42, 180, 0, 133, 27, 79, 42, 89, 180, 0, 133, 4, 96, 181, 0, 133, 42]
abbrev dktX9_feed_1 : List UInt8 := dkwX9_feed_1 ++ dktX9_feed_2
def dkwX9_feed_0 : List UInt8 := [27, 133, 9, 20, 0, 131, 184, 0, 93, 154, 0, 6, 16, 254, 172, 42, 180, 0, 133, 16, 80, 160, 0, 6]
abbrev dktX9_feed_0 : List UInt8 := dkwX9_feed_0 ++ dktX9_feed_1
theorem dksX9_feed_0 : cX9_feed.data.toList.drop 0 = dktX9_feed_0 := by decide +kernel
theorem dksX9_feed_1 : cX9_feed.data.toList.drop 24 = dktX9_feed_1 := dk_seg dksX9_feed_0 24 rfl rfl
theorem dksX9_feed_2 : cX9_feed.data.toList.drop 48 = dktX9_feed_2 := dk_seg dksX9_feed_1 24 rfl rfl
theorem dX9_feed_0 : decode cX9_feed 0 = .ok (.iload_n 1, 1) := dk_27 (dk_at dksX9_feed_0 0 rfl rfl)
theorem dX9_feed_1 : decode cX9_feed 1 = .ok (.i2l, 1) := dk_133 (dk_at dksX9_feed_0 1 rfl rfl)
theorem dX9_feed_2 : decode cX9_feed 2 = .ok (.lconst 0, 1) := dk_9 (dk_at dksX9_feed_0 2 rfl rfl)
theorem dX9_feed_3 : decode cX9_feed 3 = .ok (.ldc2_w 131, 3) := dk_20 0 131 (dk_at dksX9_feed_0 3 rfl rfl)
theorem dX9_feed_6 : decode cX9_feed 6 = .ok (.invokestatic 93, 3) := dk_184 0 93 (dk_at dksX9_feed_0 6 rfl rfl)
theorem dX9_feed_9 : decode cX9_feed 9 = .ok (.ifCond .ne 6, 3) := dk_154 0 6 (dk_at dksX9_feed_0 9 rfl rfl)
theorem dX9_feed_12 : decode cX9_feed 12 = .ok (.bipush (-2), 2) := dk_16 254 (dk_at dksX9_feed_0 12 rfl rfl)
theorem dX9_feed_14 : decode cX9_feed 14 = .ok (.ireturn, 1) := dk_172 (dk_at dksX9_feed_0 14 rfl rfl)
theorem dX9_feed_15 : decode cX9_feed 15 = .ok (.aload_n 0, 1) := dk_42 (dk_at dksX9_feed_0 15 rfl rfl)
theorem dX9_feed_16 : decode cX9_feed 16 = .ok (.getfield 133, 3) := dk_180 0 133 (dk_at dksX9_feed_0 16 rfl rfl)
theorem dX9_feed_19 : decode cX9_feed 19 = .ok (.bipush 80, 2) := dk_16 80 (dk_at dksX9_feed_0 19 rfl rfl)
theorem dX9_feed_21 : decode cX9_feed 21 = .ok (.if_icmp .ne 6, 3) := dk_160 0 6 (dk_at dksX9_feed_0 21 rfl rfl)
theorem dX9_feed_24 : decode cX9_feed 24 = .ok (.bipush (-4), 2) := dk_16 252 (dk_at dksX9_feed_1 0 rfl rfl)
theorem dX9_feed_26 : decode cX9_feed 26 = .ok (.ireturn, 1) := dk_172 (dk_at dksX9_feed_1 2 rfl rfl)
theorem dX9_feed_27 : decode cX9_feed 27 = .ok (.aload_n 0, 1) := dk_42 (dk_at dksX9_feed_1 3 rfl rfl)
theorem dX9_feed_28 : decode cX9_feed 28 = .ok (.getfield 21, 3) := dk_180 0 21 (dk_at dksX9_feed_1 4 rfl rfl)
theorem dX9_feed_31 : decode cX9_feed 31 = .ok (.aload_n 0, 1) := dk_42 (dk_at dksX9_feed_1 7 rfl rfl)
theorem dX9_feed_32 : decode cX9_feed 32 = .ok (.getfield 133, 3) := dk_180 0 133 (dk_at dksX9_feed_1 8 rfl rfl)
theorem dX9_feed_35 : decode cX9_feed 35 = .ok (.iload_n 1, 1) := dk_27 (dk_at dksX9_feed_1 11 rfl rfl)
theorem dX9_feed_36 : decode cX9_feed 36 = .ok (.iastore, 1) := dk_79 (dk_at dksX9_feed_1 12 rfl rfl)
theorem dX9_feed_37 : decode cX9_feed 37 = .ok (.aload_n 0, 1) := dk_42 (dk_at dksX9_feed_1 13 rfl rfl)
theorem dX9_feed_38 : decode cX9_feed 38 = .ok (.dup, 1) := dk_89 (dk_at dksX9_feed_1 14 rfl rfl)
theorem dX9_feed_39 : decode cX9_feed 39 = .ok (.getfield 133, 3) := dk_180 0 133 (dk_at dksX9_feed_1 15 rfl rfl)
theorem dX9_feed_42 : decode cX9_feed 42 = .ok (.iconst 1, 1) := dk_4 (dk_at dksX9_feed_1 18 rfl rfl)
theorem dX9_feed_43 : decode cX9_feed 43 = .ok (.iadd, 1) := dk_96 (dk_at dksX9_feed_1 19 rfl rfl)
theorem dX9_feed_44 : decode cX9_feed 44 = .ok (.putfield 133, 3) := dk_181 0 133 (dk_at dksX9_feed_1 20 rfl rfl)
theorem dX9_feed_47 : decode cX9_feed 47 = .ok (.aload_n 0, 1) := dk_42 (dk_at dksX9_feed_1 23 rfl rfl)
theorem dX9_feed_48 : decode cX9_feed 48 = .ok (.getfield 133, 3) := dk_180 0 133 (dk_at dksX9_feed_2 0 rfl rfl)
theorem dX9_feed_51 : decode cX9_feed 51 = .ok (.ireturn, 1) := dk_172 (dk_at dksX9_feed_2 3 rfl rfl)
abbrev cX9_read : ByteArray := prog_19_method_29_code
def yX9_read : MethodName := ⟨RX9, "read", "()I"⟩
def dkwX9_read_5 : List UInt8 := [132, 2, 1, 167, 255, 175, 27, 172]
abbrev dktX9_read_5 : List UInt8 := dkwX9_read_5 ++ []
def dkwX9_read_4 : List UInt8 := [96, 29, 96, 42, 180, 0, 24, 16, 7, 28, 104, 5, 96, 29, 96, 46, 79, 132, 3, 1, 167, 255, 212]
abbrev dktX9_read_4 : List UInt8 := dkwX9_read_4 ++ dktX9_read_5
def dkwX9_read_3 : List UInt8 := [29, 8, 162, 0, 45, 42, 180, 0, 11, 16, 12, 16, 7, 42, 180, 0, 11, 4, 46, 4, 100, 104, 96, 5]
abbrev dktX9_read_3 : List UInt8 := dkwX9_read_3 ++ dktX9_read_4
def dkwX9_read_2 : List UInt8 := [180, 0, 24, 16, 7, 28, 104, 46, 42, 180, 0, 24, 16, 7, 28, 104, 4, 96, 46, 182, 0, 120, 3, 62]
abbrev dktX9_read_2 : List UInt8 := dkwX9_read_2 ++ dktX9_read_3
def dkwX9_read_1 : List UInt8 := [180, 0, 11, 4, 46, 27, 96, 16, 8, 164, 0, 6, 16, 252, 172, 3, 61, 28, 27, 162, 0, 82, 42, 42]
abbrev dktX9_read_1 : List UInt8 := dkwX9_read_1 ++ dktX9_read_2
def dkwX9_read_0 : List UInt8 := [42, 182, 0, 169, 60, 42, 3, 181, 0, 133, 27, 156, 0, 11, 16, 246, 42, 180, 0, 137, 100, 172, 42]
abbrev dktX9_read_0 : List UInt8 := dkwX9_read_0 ++ dktX9_read_1
theorem dksX9_read_0 : cX9_read.data.toList.drop 0 = dktX9_read_0 := by decide +kernel
theorem dksX9_read_1 : cX9_read.data.toList.drop 23 = dktX9_read_1 := dk_seg dksX9_read_0 23 rfl rfl
theorem dksX9_read_2 : cX9_read.data.toList.drop 47 = dktX9_read_2 := dk_seg dksX9_read_1 24 rfl rfl
theorem dksX9_read_3 : cX9_read.data.toList.drop 71 = dktX9_read_3 := dk_seg dksX9_read_2 24 rfl rfl
theorem dksX9_read_4 : cX9_read.data.toList.drop 95 = dktX9_read_4 := dk_seg dksX9_read_3 24 rfl rfl
theorem dksX9_read_5 : cX9_read.data.toList.drop 118 = dktX9_read_5 := dk_seg dksX9_read_4 23 rfl rfl
theorem dX9_read_0 : decode cX9_read 0 = .ok (.aload_n 0, 1) := dk_42 (dk_at dksX9_read_0 0 rfl rfl)
theorem dX9_read_1 : decode cX9_read 1 = .ok (.invokevirtual 169, 3) := dk_182 0 169 (dk_at dksX9_read_0 1 rfl rfl)
theorem dX9_read_4 : decode cX9_read 4 = .ok (.istore_n 1, 1) := dk_60 (dk_at dksX9_read_0 4 rfl rfl)
theorem dX9_read_5 : decode cX9_read 5 = .ok (.aload_n 0, 1) := dk_42 (dk_at dksX9_read_0 5 rfl rfl)
theorem dX9_read_6 : decode cX9_read 6 = .ok (.iconst 0, 1) := dk_3 (dk_at dksX9_read_0 6 rfl rfl)
theorem dX9_read_7 : decode cX9_read 7 = .ok (.putfield 133, 3) := dk_181 0 133 (dk_at dksX9_read_0 7 rfl rfl)
theorem dX9_read_10 : decode cX9_read 10 = .ok (.iload_n 1, 1) := dk_27 (dk_at dksX9_read_0 10 rfl rfl)
theorem dX9_read_11 : decode cX9_read 11 = .ok (.ifCond .ge 11, 3) := dk_156 0 11 (dk_at dksX9_read_0 11 rfl rfl)
theorem dX9_read_14 : decode cX9_read 14 = .ok (.bipush (-10), 2) := dk_16 246 (dk_at dksX9_read_0 14 rfl rfl)
theorem dX9_read_16 : decode cX9_read 16 = .ok (.aload_n 0, 1) := dk_42 (dk_at dksX9_read_0 16 rfl rfl)
theorem dX9_read_17 : decode cX9_read 17 = .ok (.getfield 137, 3) := dk_180 0 137 (dk_at dksX9_read_0 17 rfl rfl)
theorem dX9_read_20 : decode cX9_read 20 = .ok (.isub, 1) := dk_100 (dk_at dksX9_read_0 20 rfl rfl)
theorem dX9_read_21 : decode cX9_read 21 = .ok (.ireturn, 1) := dk_172 (dk_at dksX9_read_0 21 rfl rfl)
theorem dX9_read_22 : decode cX9_read 22 = .ok (.aload_n 0, 1) := dk_42 (dk_at dksX9_read_0 22 rfl rfl)
theorem dX9_read_23 : decode cX9_read 23 = .ok (.getfield 11, 3) := dk_180 0 11 (dk_at dksX9_read_1 0 rfl rfl)
theorem dX9_read_26 : decode cX9_read 26 = .ok (.iconst 1, 1) := dk_4 (dk_at dksX9_read_1 3 rfl rfl)
theorem dX9_read_27 : decode cX9_read 27 = .ok (.iaload, 1) := dk_46 (dk_at dksX9_read_1 4 rfl rfl)
theorem dX9_read_28 : decode cX9_read 28 = .ok (.iload_n 1, 1) := dk_27 (dk_at dksX9_read_1 5 rfl rfl)
theorem dX9_read_29 : decode cX9_read 29 = .ok (.iadd, 1) := dk_96 (dk_at dksX9_read_1 6 rfl rfl)
theorem dX9_read_30 : decode cX9_read 30 = .ok (.bipush 8, 2) := dk_16 8 (dk_at dksX9_read_1 7 rfl rfl)
theorem dX9_read_32 : decode cX9_read 32 = .ok (.if_icmp .le 6, 3) := dk_164 0 6 (dk_at dksX9_read_1 9 rfl rfl)
theorem dX9_read_35 : decode cX9_read 35 = .ok (.bipush (-4), 2) := dk_16 252 (dk_at dksX9_read_1 12 rfl rfl)
theorem dX9_read_37 : decode cX9_read 37 = .ok (.ireturn, 1) := dk_172 (dk_at dksX9_read_1 14 rfl rfl)
theorem dX9_read_38 : decode cX9_read 38 = .ok (.iconst 0, 1) := dk_3 (dk_at dksX9_read_1 15 rfl rfl)
theorem dX9_read_39 : decode cX9_read 39 = .ok (.istore_n 2, 1) := dk_61 (dk_at dksX9_read_1 16 rfl rfl)
theorem dX9_read_40 : decode cX9_read 40 = .ok (.iload_n 2, 1) := dk_28 (dk_at dksX9_read_1 17 rfl rfl)
theorem dX9_read_41 : decode cX9_read 41 = .ok (.iload_n 1, 1) := dk_27 (dk_at dksX9_read_1 18 rfl rfl)
theorem dX9_read_42 : decode cX9_read 42 = .ok (.if_icmp .ge 82, 3) := dk_162 0 82 (dk_at dksX9_read_1 19 rfl rfl)
theorem dX9_read_45 : decode cX9_read 45 = .ok (.aload_n 0, 1) := dk_42 (dk_at dksX9_read_1 22 rfl rfl)
theorem dX9_read_46 : decode cX9_read 46 = .ok (.aload_n 0, 1) := dk_42 (dk_at dksX9_read_1 23 rfl rfl)
theorem dX9_read_47 : decode cX9_read 47 = .ok (.getfield 24, 3) := dk_180 0 24 (dk_at dksX9_read_2 0 rfl rfl)
theorem dX9_read_50 : decode cX9_read 50 = .ok (.bipush 7, 2) := dk_16 7 (dk_at dksX9_read_2 3 rfl rfl)
theorem dX9_read_52 : decode cX9_read 52 = .ok (.iload_n 2, 1) := dk_28 (dk_at dksX9_read_2 5 rfl rfl)
theorem dX9_read_53 : decode cX9_read 53 = .ok (.imul, 1) := dk_104 (dk_at dksX9_read_2 6 rfl rfl)
theorem dX9_read_54 : decode cX9_read 54 = .ok (.iaload, 1) := dk_46 (dk_at dksX9_read_2 7 rfl rfl)
theorem dX9_read_55 : decode cX9_read 55 = .ok (.aload_n 0, 1) := dk_42 (dk_at dksX9_read_2 8 rfl rfl)
theorem dX9_read_56 : decode cX9_read 56 = .ok (.getfield 24, 3) := dk_180 0 24 (dk_at dksX9_read_2 9 rfl rfl)
theorem dX9_read_59 : decode cX9_read 59 = .ok (.bipush 7, 2) := dk_16 7 (dk_at dksX9_read_2 12 rfl rfl)
theorem dX9_read_61 : decode cX9_read 61 = .ok (.iload_n 2, 1) := dk_28 (dk_at dksX9_read_2 14 rfl rfl)
theorem dX9_read_62 : decode cX9_read 62 = .ok (.imul, 1) := dk_104 (dk_at dksX9_read_2 15 rfl rfl)
theorem dX9_read_63 : decode cX9_read 63 = .ok (.iconst 1, 1) := dk_4 (dk_at dksX9_read_2 16 rfl rfl)
theorem dX9_read_64 : decode cX9_read 64 = .ok (.iadd, 1) := dk_96 (dk_at dksX9_read_2 17 rfl rfl)
theorem dX9_read_65 : decode cX9_read 65 = .ok (.iaload, 1) := dk_46 (dk_at dksX9_read_2 18 rfl rfl)
theorem dX9_read_66 : decode cX9_read 66 = .ok (.invokevirtual 120, 3) := dk_182 0 120 (dk_at dksX9_read_2 19 rfl rfl)
theorem dX9_read_69 : decode cX9_read 69 = .ok (.iconst 0, 1) := dk_3 (dk_at dksX9_read_2 22 rfl rfl)
theorem dX9_read_70 : decode cX9_read 70 = .ok (.istore_n 3, 1) := dk_62 (dk_at dksX9_read_2 23 rfl rfl)
theorem dX9_read_71 : decode cX9_read 71 = .ok (.iload_n 3, 1) := dk_29 (dk_at dksX9_read_3 0 rfl rfl)
theorem dX9_read_72 : decode cX9_read 72 = .ok (.iconst 5, 1) := dk_8 (dk_at dksX9_read_3 1 rfl rfl)
theorem dX9_read_73 : decode cX9_read 73 = .ok (.if_icmp .ge 45, 3) := dk_162 0 45 (dk_at dksX9_read_3 2 rfl rfl)
theorem dX9_read_76 : decode cX9_read 76 = .ok (.aload_n 0, 1) := dk_42 (dk_at dksX9_read_3 5 rfl rfl)
theorem dX9_read_77 : decode cX9_read 77 = .ok (.getfield 11, 3) := dk_180 0 11 (dk_at dksX9_read_3 6 rfl rfl)
theorem dX9_read_80 : decode cX9_read 80 = .ok (.bipush 12, 2) := dk_16 12 (dk_at dksX9_read_3 9 rfl rfl)
theorem dX9_read_82 : decode cX9_read 82 = .ok (.bipush 7, 2) := dk_16 7 (dk_at dksX9_read_3 11 rfl rfl)
theorem dX9_read_84 : decode cX9_read 84 = .ok (.aload_n 0, 1) := dk_42 (dk_at dksX9_read_3 13 rfl rfl)
theorem dX9_read_85 : decode cX9_read 85 = .ok (.getfield 11, 3) := dk_180 0 11 (dk_at dksX9_read_3 14 rfl rfl)
theorem dX9_read_88 : decode cX9_read 88 = .ok (.iconst 1, 1) := dk_4 (dk_at dksX9_read_3 17 rfl rfl)
theorem dX9_read_89 : decode cX9_read 89 = .ok (.iaload, 1) := dk_46 (dk_at dksX9_read_3 18 rfl rfl)
theorem dX9_read_90 : decode cX9_read 90 = .ok (.iconst 1, 1) := dk_4 (dk_at dksX9_read_3 19 rfl rfl)
theorem dX9_read_91 : decode cX9_read 91 = .ok (.isub, 1) := dk_100 (dk_at dksX9_read_3 20 rfl rfl)
theorem dX9_read_92 : decode cX9_read 92 = .ok (.imul, 1) := dk_104 (dk_at dksX9_read_3 21 rfl rfl)
theorem dX9_read_93 : decode cX9_read 93 = .ok (.iadd, 1) := dk_96 (dk_at dksX9_read_3 22 rfl rfl)
theorem dX9_read_94 : decode cX9_read 94 = .ok (.iconst 2, 1) := dk_5 (dk_at dksX9_read_3 23 rfl rfl)
theorem dX9_read_95 : decode cX9_read 95 = .ok (.iadd, 1) := dk_96 (dk_at dksX9_read_4 0 rfl rfl)
theorem dX9_read_96 : decode cX9_read 96 = .ok (.iload_n 3, 1) := dk_29 (dk_at dksX9_read_4 1 rfl rfl)
theorem dX9_read_97 : decode cX9_read 97 = .ok (.iadd, 1) := dk_96 (dk_at dksX9_read_4 2 rfl rfl)
theorem dX9_read_98 : decode cX9_read 98 = .ok (.aload_n 0, 1) := dk_42 (dk_at dksX9_read_4 3 rfl rfl)
theorem dX9_read_99 : decode cX9_read 99 = .ok (.getfield 24, 3) := dk_180 0 24 (dk_at dksX9_read_4 4 rfl rfl)
theorem dX9_read_102 : decode cX9_read 102 = .ok (.bipush 7, 2) := dk_16 7 (dk_at dksX9_read_4 7 rfl rfl)
theorem dX9_read_104 : decode cX9_read 104 = .ok (.iload_n 2, 1) := dk_28 (dk_at dksX9_read_4 9 rfl rfl)
theorem dX9_read_105 : decode cX9_read 105 = .ok (.imul, 1) := dk_104 (dk_at dksX9_read_4 10 rfl rfl)
theorem dX9_read_106 : decode cX9_read 106 = .ok (.iconst 2, 1) := dk_5 (dk_at dksX9_read_4 11 rfl rfl)
theorem dX9_read_107 : decode cX9_read 107 = .ok (.iadd, 1) := dk_96 (dk_at dksX9_read_4 12 rfl rfl)
theorem dX9_read_108 : decode cX9_read 108 = .ok (.iload_n 3, 1) := dk_29 (dk_at dksX9_read_4 13 rfl rfl)
theorem dX9_read_109 : decode cX9_read 109 = .ok (.iadd, 1) := dk_96 (dk_at dksX9_read_4 14 rfl rfl)
theorem dX9_read_110 : decode cX9_read 110 = .ok (.iaload, 1) := dk_46 (dk_at dksX9_read_4 15 rfl rfl)
theorem dX9_read_111 : decode cX9_read 111 = .ok (.iastore, 1) := dk_79 (dk_at dksX9_read_4 16 rfl rfl)
theorem dX9_read_112 : decode cX9_read 112 = .ok (.iinc 3 1, 3) := dk_132 3 1 (dk_at dksX9_read_4 17 rfl rfl)
theorem dX9_read_115 : decode cX9_read 115 = .ok (.goto (-44), 3) := dk_167 255 212 (dk_at dksX9_read_4 20 rfl rfl)
theorem dX9_read_118 : decode cX9_read 118 = .ok (.iinc 2 1, 3) := dk_132 2 1 (dk_at dksX9_read_5 0 rfl rfl)
theorem dX9_read_121 : decode cX9_read 121 = .ok (.goto (-81), 3) := dk_167 255 175 (dk_at dksX9_read_5 3 rfl rfl)
theorem dX9_read_124 : decode cX9_read 124 = .ok (.iload_n 1, 1) := dk_27 (dk_at dksX9_read_5 6 rfl rfl)
theorem dX9_read_125 : decode cX9_read 125 = .ok (.ireturn, 1) := dk_172 (dk_at dksX9_read_5 7 rfl rfl)
abbrev cX9_readsAll : ByteArray := prog_19_method_28_code
def yX9_readsAll : MethodName := ⟨RX9, "readsAll", "()I"⟩
def dkwX9_readsAll_3 : List UInt8 := [167, 0, 4, 2, 172]
abbrev dktX9_readsAll_3 : List UInt8 := dkwX9_readsAll_3 ++ []
def dkwX9_readsAll_2 : List UInt8 := [153, 0, 7, 4, 167, 0, 4, 3, 61, 167, 255, 211, 42, 180, 0, 137, 42, 180, 0, 133, 160, 0, 7, 27]
abbrev dktX9_readsAll_2 : List UInt8 := dkwX9_readsAll_2 ++ dktX9_readsAll_3
def dkwX9_readsAll_1 : List UInt8 := [182, 0, 166, 154, 0, 5, 2, 172, 132, 1, 1, 27, 7, 162, 0, 16, 42, 16, 59, 182, 0, 153]
abbrev dktX9_readsAll_1 : List UInt8 := dkwX9_readsAll_1 ++ dktX9_readsAll_2
def dkwX9_readsAll_0 : List UInt8 := [42, 3, 181, 0, 137, 3, 60, 4, 61, 28, 153, 0, 47, 27, 7, 162, 0, 42, 42, 16, 7, 27, 104]
abbrev dktX9_readsAll_0 : List UInt8 := dkwX9_readsAll_0 ++ dktX9_readsAll_1
theorem dksX9_readsAll_0 : cX9_readsAll.data.toList.drop 0 = dktX9_readsAll_0 := by decide +kernel
theorem dksX9_readsAll_1 : cX9_readsAll.data.toList.drop 23 = dktX9_readsAll_1 := dk_seg dksX9_readsAll_0 23 rfl rfl
theorem dksX9_readsAll_2 : cX9_readsAll.data.toList.drop 45 = dktX9_readsAll_2 := dk_seg dksX9_readsAll_1 22 rfl rfl
theorem dksX9_readsAll_3 : cX9_readsAll.data.toList.drop 69 = dktX9_readsAll_3 := dk_seg dksX9_readsAll_2 24 rfl rfl
theorem dX9_readsAll_0 : decode cX9_readsAll 0 = .ok (.aload_n 0, 1) := dk_42 (dk_at dksX9_readsAll_0 0 rfl rfl)
theorem dX9_readsAll_1 : decode cX9_readsAll 1 = .ok (.iconst 0, 1) := dk_3 (dk_at dksX9_readsAll_0 1 rfl rfl)
theorem dX9_readsAll_2 : decode cX9_readsAll 2 = .ok (.putfield 137, 3) := dk_181 0 137 (dk_at dksX9_readsAll_0 2 rfl rfl)
theorem dX9_readsAll_5 : decode cX9_readsAll 5 = .ok (.iconst 0, 1) := dk_3 (dk_at dksX9_readsAll_0 5 rfl rfl)
theorem dX9_readsAll_6 : decode cX9_readsAll 6 = .ok (.istore_n 1, 1) := dk_60 (dk_at dksX9_readsAll_0 6 rfl rfl)
theorem dX9_readsAll_7 : decode cX9_readsAll 7 = .ok (.iconst 1, 1) := dk_4 (dk_at dksX9_readsAll_0 7 rfl rfl)
theorem dX9_readsAll_8 : decode cX9_readsAll 8 = .ok (.istore_n 2, 1) := dk_61 (dk_at dksX9_readsAll_0 8 rfl rfl)
theorem dX9_readsAll_9 : decode cX9_readsAll 9 = .ok (.iload_n 2, 1) := dk_28 (dk_at dksX9_readsAll_0 9 rfl rfl)
theorem dX9_readsAll_10 : decode cX9_readsAll 10 = .ok (.ifCond .eq 47, 3) := dk_153 0 47 (dk_at dksX9_readsAll_0 10 rfl rfl)
theorem dX9_readsAll_13 : decode cX9_readsAll 13 = .ok (.iload_n 1, 1) := dk_27 (dk_at dksX9_readsAll_0 13 rfl rfl)
theorem dX9_readsAll_14 : decode cX9_readsAll 14 = .ok (.iconst 4, 1) := dk_7 (dk_at dksX9_readsAll_0 14 rfl rfl)
theorem dX9_readsAll_15 : decode cX9_readsAll 15 = .ok (.if_icmp .ge 42, 3) := dk_162 0 42 (dk_at dksX9_readsAll_0 15 rfl rfl)
theorem dX9_readsAll_18 : decode cX9_readsAll 18 = .ok (.aload_n 0, 1) := dk_42 (dk_at dksX9_readsAll_0 18 rfl rfl)
theorem dX9_readsAll_19 : decode cX9_readsAll 19 = .ok (.bipush 7, 2) := dk_16 7 (dk_at dksX9_readsAll_0 19 rfl rfl)
theorem dX9_readsAll_21 : decode cX9_readsAll 21 = .ok (.iload_n 1, 1) := dk_27 (dk_at dksX9_readsAll_0 21 rfl rfl)
theorem dX9_readsAll_22 : decode cX9_readsAll 22 = .ok (.imul, 1) := dk_104 (dk_at dksX9_readsAll_0 22 rfl rfl)
theorem dX9_readsAll_23 : decode cX9_readsAll 23 = .ok (.invokevirtual 166, 3) := dk_182 0 166 (dk_at dksX9_readsAll_1 0 rfl rfl)
theorem dX9_readsAll_26 : decode cX9_readsAll 26 = .ok (.ifCond .ne 5, 3) := dk_154 0 5 (dk_at dksX9_readsAll_1 3 rfl rfl)
theorem dX9_readsAll_29 : decode cX9_readsAll 29 = .ok (.iconst (-1), 1) := dk_2 (dk_at dksX9_readsAll_1 6 rfl rfl)
theorem dX9_readsAll_30 : decode cX9_readsAll 30 = .ok (.ireturn, 1) := dk_172 (dk_at dksX9_readsAll_1 7 rfl rfl)
theorem dX9_readsAll_31 : decode cX9_readsAll 31 = .ok (.iinc 1 1, 3) := dk_132 1 1 (dk_at dksX9_readsAll_1 8 rfl rfl)
theorem dX9_readsAll_34 : decode cX9_readsAll 34 = .ok (.iload_n 1, 1) := dk_27 (dk_at dksX9_readsAll_1 11 rfl rfl)
theorem dX9_readsAll_35 : decode cX9_readsAll 35 = .ok (.iconst 4, 1) := dk_7 (dk_at dksX9_readsAll_1 12 rfl rfl)
theorem dX9_readsAll_36 : decode cX9_readsAll 36 = .ok (.if_icmp .ge 16, 3) := dk_162 0 16 (dk_at dksX9_readsAll_1 13 rfl rfl)
theorem dX9_readsAll_39 : decode cX9_readsAll 39 = .ok (.aload_n 0, 1) := dk_42 (dk_at dksX9_readsAll_1 16 rfl rfl)
theorem dX9_readsAll_40 : decode cX9_readsAll 40 = .ok (.bipush 59, 2) := dk_16 59 (dk_at dksX9_readsAll_1 17 rfl rfl)
theorem dX9_readsAll_42 : decode cX9_readsAll 42 = .ok (.invokevirtual 153, 3) := dk_182 0 153 (dk_at dksX9_readsAll_1 19 rfl rfl)
theorem dX9_readsAll_45 : decode cX9_readsAll 45 = .ok (.ifCond .eq 7, 3) := dk_153 0 7 (dk_at dksX9_readsAll_2 0 rfl rfl)
theorem dX9_readsAll_48 : decode cX9_readsAll 48 = .ok (.iconst 1, 1) := dk_4 (dk_at dksX9_readsAll_2 3 rfl rfl)
theorem dX9_readsAll_49 : decode cX9_readsAll 49 = .ok (.goto 4, 3) := dk_167 0 4 (dk_at dksX9_readsAll_2 4 rfl rfl)
theorem dX9_readsAll_52 : decode cX9_readsAll 52 = .ok (.iconst 0, 1) := dk_3 (dk_at dksX9_readsAll_2 7 rfl rfl)
theorem dX9_readsAll_53 : decode cX9_readsAll 53 = .ok (.istore_n 2, 1) := dk_61 (dk_at dksX9_readsAll_2 8 rfl rfl)
theorem dX9_readsAll_54 : decode cX9_readsAll 54 = .ok (.goto (-45), 3) := dk_167 255 211 (dk_at dksX9_readsAll_2 9 rfl rfl)
theorem dX9_readsAll_57 : decode cX9_readsAll 57 = .ok (.aload_n 0, 1) := dk_42 (dk_at dksX9_readsAll_2 12 rfl rfl)
theorem dX9_readsAll_58 : decode cX9_readsAll 58 = .ok (.getfield 137, 3) := dk_180 0 137 (dk_at dksX9_readsAll_2 13 rfl rfl)
theorem dX9_readsAll_61 : decode cX9_readsAll 61 = .ok (.aload_n 0, 1) := dk_42 (dk_at dksX9_readsAll_2 16 rfl rfl)
theorem dX9_readsAll_62 : decode cX9_readsAll 62 = .ok (.getfield 133, 3) := dk_180 0 133 (dk_at dksX9_readsAll_2 17 rfl rfl)
theorem dX9_readsAll_65 : decode cX9_readsAll 65 = .ok (.if_icmp .ne 7, 3) := dk_160 0 7 (dk_at dksX9_readsAll_2 20 rfl rfl)
theorem dX9_readsAll_68 : decode cX9_readsAll 68 = .ok (.iload_n 1, 1) := dk_27 (dk_at dksX9_readsAll_2 23 rfl rfl)
theorem dX9_readsAll_69 : decode cX9_readsAll 69 = .ok (.goto 4, 3) := dk_167 0 4 (dk_at dksX9_readsAll_3 0 rfl rfl)
theorem dX9_readsAll_72 : decode cX9_readsAll 72 = .ok (.iconst (-1), 1) := dk_2 (dk_at dksX9_readsAll_3 3 rfl rfl)
theorem dX9_readsAll_73 : decode cX9_readsAll 73 = .ok (.ireturn, 1) := dk_172 (dk_at dksX9_readsAll_3 4 rfl rfl)
abbrev cX9_readsClause : ByteArray := prog_19_method_27_code
def yX9_readsClause : MethodName := ⟨RX9, "readsClause", "(I)Z"⟩
def dkwX9_readsClause_3 : List UInt8 := [79, 42, 89, 180, 0, 137, 4, 96, 181, 0, 137, 42, 27, 182, 0, 163, 172]
abbrev dktX9_readsClause_3 : List UInt8 := dkwX9_readsClause_3 ++ []
def dkwX9_readsClause_2 : List UInt8 := [159, 0, 5, 3, 172, 42, 180, 0, 24, 27, 42, 182, 0, 140, 16, 62, 160, 0, 7, 3, 167, 0, 4, 4]
abbrev dktX9_readsClause_2 : List UInt8 := dkwX9_readsClause_2 ++ dktX9_readsClause_3
def dkwX9_readsClause_1 : List UInt8 := [27, 182, 0, 160, 154, 0, 5, 3, 172, 42, 182, 0, 140, 16, 62, 159, 0, 14, 42, 182, 0, 140, 16, 60]
abbrev dktX9_readsClause_1 : List UInt8 := dkwX9_readsClause_1 ++ dktX9_readsClause_2
def dkwX9_readsClause_0 : List UInt8 := [3, 61, 28, 16, 7, 162, 0, 18, 42, 180, 0, 24, 27, 28, 96, 3, 79, 132, 2, 1, 167, 255, 238, 42]
abbrev dktX9_readsClause_0 : List UInt8 := dkwX9_readsClause_0 ++ dktX9_readsClause_1
theorem dksX9_readsClause_0 : cX9_readsClause.data.toList.drop 0 = dktX9_readsClause_0 := by decide +kernel
theorem dksX9_readsClause_1 : cX9_readsClause.data.toList.drop 24 = dktX9_readsClause_1 := dk_seg dksX9_readsClause_0 24 rfl rfl
theorem dksX9_readsClause_2 : cX9_readsClause.data.toList.drop 48 = dktX9_readsClause_2 := dk_seg dksX9_readsClause_1 24 rfl rfl
theorem dksX9_readsClause_3 : cX9_readsClause.data.toList.drop 72 = dktX9_readsClause_3 := dk_seg dksX9_readsClause_2 24 rfl rfl
theorem dX9_readsClause_0 : decode cX9_readsClause 0 = .ok (.iconst 0, 1) := dk_3 (dk_at dksX9_readsClause_0 0 rfl rfl)
theorem dX9_readsClause_1 : decode cX9_readsClause 1 = .ok (.istore_n 2, 1) := dk_61 (dk_at dksX9_readsClause_0 1 rfl rfl)
theorem dX9_readsClause_2 : decode cX9_readsClause 2 = .ok (.iload_n 2, 1) := dk_28 (dk_at dksX9_readsClause_0 2 rfl rfl)
theorem dX9_readsClause_3 : decode cX9_readsClause 3 = .ok (.bipush 7, 2) := dk_16 7 (dk_at dksX9_readsClause_0 3 rfl rfl)
theorem dX9_readsClause_5 : decode cX9_readsClause 5 = .ok (.if_icmp .ge 18, 3) := dk_162 0 18 (dk_at dksX9_readsClause_0 5 rfl rfl)
theorem dX9_readsClause_8 : decode cX9_readsClause 8 = .ok (.aload_n 0, 1) := dk_42 (dk_at dksX9_readsClause_0 8 rfl rfl)
theorem dX9_readsClause_9 : decode cX9_readsClause 9 = .ok (.getfield 24, 3) := dk_180 0 24 (dk_at dksX9_readsClause_0 9 rfl rfl)
theorem dX9_readsClause_12 : decode cX9_readsClause 12 = .ok (.iload_n 1, 1) := dk_27 (dk_at dksX9_readsClause_0 12 rfl rfl)
theorem dX9_readsClause_13 : decode cX9_readsClause 13 = .ok (.iload_n 2, 1) := dk_28 (dk_at dksX9_readsClause_0 13 rfl rfl)
theorem dX9_readsClause_14 : decode cX9_readsClause 14 = .ok (.iadd, 1) := dk_96 (dk_at dksX9_readsClause_0 14 rfl rfl)
theorem dX9_readsClause_15 : decode cX9_readsClause 15 = .ok (.iconst 0, 1) := dk_3 (dk_at dksX9_readsClause_0 15 rfl rfl)
theorem dX9_readsClause_16 : decode cX9_readsClause 16 = .ok (.iastore, 1) := dk_79 (dk_at dksX9_readsClause_0 16 rfl rfl)
theorem dX9_readsClause_17 : decode cX9_readsClause 17 = .ok (.iinc 2 1, 3) := dk_132 2 1 (dk_at dksX9_readsClause_0 17 rfl rfl)
theorem dX9_readsClause_20 : decode cX9_readsClause 20 = .ok (.goto (-18), 3) := dk_167 255 238 (dk_at dksX9_readsClause_0 20 rfl rfl)
theorem dX9_readsClause_23 : decode cX9_readsClause 23 = .ok (.aload_n 0, 1) := dk_42 (dk_at dksX9_readsClause_0 23 rfl rfl)
theorem dX9_readsClause_24 : decode cX9_readsClause 24 = .ok (.iload_n 1, 1) := dk_27 (dk_at dksX9_readsClause_1 0 rfl rfl)
theorem dX9_readsClause_25 : decode cX9_readsClause 25 = .ok (.invokevirtual 160, 3) := dk_182 0 160 (dk_at dksX9_readsClause_1 1 rfl rfl)
theorem dX9_readsClause_28 : decode cX9_readsClause 28 = .ok (.ifCond .ne 5, 3) := dk_154 0 5 (dk_at dksX9_readsClause_1 4 rfl rfl)
theorem dX9_readsClause_31 : decode cX9_readsClause 31 = .ok (.iconst 0, 1) := dk_3 (dk_at dksX9_readsClause_1 7 rfl rfl)
theorem dX9_readsClause_32 : decode cX9_readsClause 32 = .ok (.ireturn, 1) := dk_172 (dk_at dksX9_readsClause_1 8 rfl rfl)
theorem dX9_readsClause_33 : decode cX9_readsClause 33 = .ok (.aload_n 0, 1) := dk_42 (dk_at dksX9_readsClause_1 9 rfl rfl)
theorem dX9_readsClause_34 : decode cX9_readsClause 34 = .ok (.invokevirtual 140, 3) := dk_182 0 140 (dk_at dksX9_readsClause_1 10 rfl rfl)
theorem dX9_readsClause_37 : decode cX9_readsClause 37 = .ok (.bipush 62, 2) := dk_16 62 (dk_at dksX9_readsClause_1 13 rfl rfl)
theorem dX9_readsClause_39 : decode cX9_readsClause 39 = .ok (.if_icmp .eq 14, 3) := dk_159 0 14 (dk_at dksX9_readsClause_1 15 rfl rfl)
theorem dX9_readsClause_42 : decode cX9_readsClause 42 = .ok (.aload_n 0, 1) := dk_42 (dk_at dksX9_readsClause_1 18 rfl rfl)
theorem dX9_readsClause_43 : decode cX9_readsClause 43 = .ok (.invokevirtual 140, 3) := dk_182 0 140 (dk_at dksX9_readsClause_1 19 rfl rfl)
theorem dX9_readsClause_46 : decode cX9_readsClause 46 = .ok (.bipush 60, 2) := dk_16 60 (dk_at dksX9_readsClause_1 22 rfl rfl)
theorem dX9_readsClause_48 : decode cX9_readsClause 48 = .ok (.if_icmp .eq 5, 3) := dk_159 0 5 (dk_at dksX9_readsClause_2 0 rfl rfl)
theorem dX9_readsClause_51 : decode cX9_readsClause 51 = .ok (.iconst 0, 1) := dk_3 (dk_at dksX9_readsClause_2 3 rfl rfl)
theorem dX9_readsClause_52 : decode cX9_readsClause 52 = .ok (.ireturn, 1) := dk_172 (dk_at dksX9_readsClause_2 4 rfl rfl)
theorem dX9_readsClause_53 : decode cX9_readsClause 53 = .ok (.aload_n 0, 1) := dk_42 (dk_at dksX9_readsClause_2 5 rfl rfl)
theorem dX9_readsClause_54 : decode cX9_readsClause 54 = .ok (.getfield 24, 3) := dk_180 0 24 (dk_at dksX9_readsClause_2 6 rfl rfl)
theorem dX9_readsClause_57 : decode cX9_readsClause 57 = .ok (.iload_n 1, 1) := dk_27 (dk_at dksX9_readsClause_2 9 rfl rfl)
theorem dX9_readsClause_58 : decode cX9_readsClause 58 = .ok (.aload_n 0, 1) := dk_42 (dk_at dksX9_readsClause_2 10 rfl rfl)
theorem dX9_readsClause_59 : decode cX9_readsClause 59 = .ok (.invokevirtual 140, 3) := dk_182 0 140 (dk_at dksX9_readsClause_2 11 rfl rfl)
theorem dX9_readsClause_62 : decode cX9_readsClause 62 = .ok (.bipush 62, 2) := dk_16 62 (dk_at dksX9_readsClause_2 14 rfl rfl)
theorem dX9_readsClause_64 : decode cX9_readsClause 64 = .ok (.if_icmp .ne 7, 3) := dk_160 0 7 (dk_at dksX9_readsClause_2 16 rfl rfl)
theorem dX9_readsClause_67 : decode cX9_readsClause 67 = .ok (.iconst 0, 1) := dk_3 (dk_at dksX9_readsClause_2 19 rfl rfl)
theorem dX9_readsClause_68 : decode cX9_readsClause 68 = .ok (.goto 4, 3) := dk_167 0 4 (dk_at dksX9_readsClause_2 20 rfl rfl)
theorem dX9_readsClause_71 : decode cX9_readsClause 71 = .ok (.iconst 1, 1) := dk_4 (dk_at dksX9_readsClause_2 23 rfl rfl)
theorem dX9_readsClause_72 : decode cX9_readsClause 72 = .ok (.iastore, 1) := dk_79 (dk_at dksX9_readsClause_3 0 rfl rfl)
theorem dX9_readsClause_73 : decode cX9_readsClause 73 = .ok (.aload_n 0, 1) := dk_42 (dk_at dksX9_readsClause_3 1 rfl rfl)
theorem dX9_readsClause_74 : decode cX9_readsClause 74 = .ok (.dup, 1) := dk_89 (dk_at dksX9_readsClause_3 2 rfl rfl)
theorem dX9_readsClause_75 : decode cX9_readsClause 75 = .ok (.getfield 137, 3) := dk_180 0 137 (dk_at dksX9_readsClause_3 3 rfl rfl)
theorem dX9_readsClause_78 : decode cX9_readsClause 78 = .ok (.iconst 1, 1) := dk_4 (dk_at dksX9_readsClause_3 6 rfl rfl)
theorem dX9_readsClause_79 : decode cX9_readsClause 79 = .ok (.iadd, 1) := dk_96 (dk_at dksX9_readsClause_3 7 rfl rfl)
theorem dX9_readsClause_80 : decode cX9_readsClause 80 = .ok (.putfield 137, 3) := dk_181 0 137 (dk_at dksX9_readsClause_3 8 rfl rfl)
theorem dX9_readsClause_83 : decode cX9_readsClause 83 = .ok (.aload_n 0, 1) := dk_42 (dk_at dksX9_readsClause_3 11 rfl rfl)
theorem dX9_readsClause_84 : decode cX9_readsClause 84 = .ok (.iload_n 1, 1) := dk_27 (dk_at dksX9_readsClause_3 12 rfl rfl)
theorem dX9_readsClause_85 : decode cX9_readsClause 85 = .ok (.invokevirtual 163, 3) := dk_182 0 163 (dk_at dksX9_readsClause_3 13 rfl rfl)
theorem dX9_readsClause_88 : decode cX9_readsClause 88 = .ok (.ireturn, 1) := dk_172 (dk_at dksX9_readsClause_3 16 rfl rfl)
abbrev cX9_readsSum : ByteArray := prog_19_method_25_code
def yX9_readsSum : MethodName := ⟨RX9, "readsSum", "(I)Z"⟩
def dkwX9_readsSum_3 : List UInt8 := [182, 0, 156, 154, 0, 5, 3, 172, 167, 255, 202, 4, 172]
abbrev dktX9_readsSum_3 : List UInt8 := dkwX9_readsSum_3 ++ []
def dkwX9_readsSum_2 : List UInt8 := [160, 0, 7, 4, 167, 0, 4, 2, 61, 42, 89, 180, 0, 137, 4, 96, 181, 0, 137, 42, 27, 28]
abbrev dktX9_readsSum_2 : List UInt8 := dkwX9_readsSum_2 ++ dktX9_readsSum_3
def dkwX9_readsSum_1 : List UInt8 := [42, 182, 0, 140, 16, 43, 159, 0, 12, 42, 182, 0, 140, 16, 45, 160, 0, 42, 42, 182, 0, 140, 16, 43]
abbrev dktX9_readsSum_1 : List UInt8 := dkwX9_readsSum_1 ++ dktX9_readsSum_2
def dkwX9_readsSum_0 : List UInt8 := [42, 27, 42, 16, 45, 182, 0, 153, 153, 0, 7, 2, 167, 0, 4, 4, 182, 0, 156, 154, 0, 5, 3, 172]
abbrev dktX9_readsSum_0 : List UInt8 := dkwX9_readsSum_0 ++ dktX9_readsSum_1
theorem dksX9_readsSum_0 : cX9_readsSum.data.toList.drop 0 = dktX9_readsSum_0 := by decide +kernel
theorem dksX9_readsSum_1 : cX9_readsSum.data.toList.drop 24 = dktX9_readsSum_1 := dk_seg dksX9_readsSum_0 24 rfl rfl
theorem dksX9_readsSum_2 : cX9_readsSum.data.toList.drop 48 = dktX9_readsSum_2 := dk_seg dksX9_readsSum_1 24 rfl rfl
theorem dksX9_readsSum_3 : cX9_readsSum.data.toList.drop 70 = dktX9_readsSum_3 := dk_seg dksX9_readsSum_2 22 rfl rfl
theorem dX9_readsSum_0 : decode cX9_readsSum 0 = .ok (.aload_n 0, 1) := dk_42 (dk_at dksX9_readsSum_0 0 rfl rfl)
theorem dX9_readsSum_1 : decode cX9_readsSum 1 = .ok (.iload_n 1, 1) := dk_27 (dk_at dksX9_readsSum_0 1 rfl rfl)
theorem dX9_readsSum_2 : decode cX9_readsSum 2 = .ok (.aload_n 0, 1) := dk_42 (dk_at dksX9_readsSum_0 2 rfl rfl)
theorem dX9_readsSum_3 : decode cX9_readsSum 3 = .ok (.bipush 45, 2) := dk_16 45 (dk_at dksX9_readsSum_0 3 rfl rfl)
theorem dX9_readsSum_5 : decode cX9_readsSum 5 = .ok (.invokevirtual 153, 3) := dk_182 0 153 (dk_at dksX9_readsSum_0 5 rfl rfl)
theorem dX9_readsSum_8 : decode cX9_readsSum 8 = .ok (.ifCond .eq 7, 3) := dk_153 0 7 (dk_at dksX9_readsSum_0 8 rfl rfl)
theorem dX9_readsSum_11 : decode cX9_readsSum 11 = .ok (.iconst (-1), 1) := dk_2 (dk_at dksX9_readsSum_0 11 rfl rfl)
theorem dX9_readsSum_12 : decode cX9_readsSum 12 = .ok (.goto 4, 3) := dk_167 0 4 (dk_at dksX9_readsSum_0 12 rfl rfl)
theorem dX9_readsSum_15 : decode cX9_readsSum 15 = .ok (.iconst 1, 1) := dk_4 (dk_at dksX9_readsSum_0 15 rfl rfl)
theorem dX9_readsSum_16 : decode cX9_readsSum 16 = .ok (.invokevirtual 156, 3) := dk_182 0 156 (dk_at dksX9_readsSum_0 16 rfl rfl)
theorem dX9_readsSum_19 : decode cX9_readsSum 19 = .ok (.ifCond .ne 5, 3) := dk_154 0 5 (dk_at dksX9_readsSum_0 19 rfl rfl)
theorem dX9_readsSum_22 : decode cX9_readsSum 22 = .ok (.iconst 0, 1) := dk_3 (dk_at dksX9_readsSum_0 22 rfl rfl)
theorem dX9_readsSum_23 : decode cX9_readsSum 23 = .ok (.ireturn, 1) := dk_172 (dk_at dksX9_readsSum_0 23 rfl rfl)
theorem dX9_readsSum_24 : decode cX9_readsSum 24 = .ok (.aload_n 0, 1) := dk_42 (dk_at dksX9_readsSum_1 0 rfl rfl)
theorem dX9_readsSum_25 : decode cX9_readsSum 25 = .ok (.invokevirtual 140, 3) := dk_182 0 140 (dk_at dksX9_readsSum_1 1 rfl rfl)
theorem dX9_readsSum_28 : decode cX9_readsSum 28 = .ok (.bipush 43, 2) := dk_16 43 (dk_at dksX9_readsSum_1 4 rfl rfl)
theorem dX9_readsSum_30 : decode cX9_readsSum 30 = .ok (.if_icmp .eq 12, 3) := dk_159 0 12 (dk_at dksX9_readsSum_1 6 rfl rfl)
theorem dX9_readsSum_33 : decode cX9_readsSum 33 = .ok (.aload_n 0, 1) := dk_42 (dk_at dksX9_readsSum_1 9 rfl rfl)
theorem dX9_readsSum_34 : decode cX9_readsSum 34 = .ok (.invokevirtual 140, 3) := dk_182 0 140 (dk_at dksX9_readsSum_1 10 rfl rfl)
theorem dX9_readsSum_37 : decode cX9_readsSum 37 = .ok (.bipush 45, 2) := dk_16 45 (dk_at dksX9_readsSum_1 13 rfl rfl)
theorem dX9_readsSum_39 : decode cX9_readsSum 39 = .ok (.if_icmp .ne 42, 3) := dk_160 0 42 (dk_at dksX9_readsSum_1 15 rfl rfl)
theorem dX9_readsSum_42 : decode cX9_readsSum 42 = .ok (.aload_n 0, 1) := dk_42 (dk_at dksX9_readsSum_1 18 rfl rfl)
theorem dX9_readsSum_43 : decode cX9_readsSum 43 = .ok (.invokevirtual 140, 3) := dk_182 0 140 (dk_at dksX9_readsSum_1 19 rfl rfl)
theorem dX9_readsSum_46 : decode cX9_readsSum 46 = .ok (.bipush 43, 2) := dk_16 43 (dk_at dksX9_readsSum_1 22 rfl rfl)
theorem dX9_readsSum_48 : decode cX9_readsSum 48 = .ok (.if_icmp .ne 7, 3) := dk_160 0 7 (dk_at dksX9_readsSum_2 0 rfl rfl)
theorem dX9_readsSum_51 : decode cX9_readsSum 51 = .ok (.iconst 1, 1) := dk_4 (dk_at dksX9_readsSum_2 3 rfl rfl)
theorem dX9_readsSum_52 : decode cX9_readsSum 52 = .ok (.goto 4, 3) := dk_167 0 4 (dk_at dksX9_readsSum_2 4 rfl rfl)
theorem dX9_readsSum_55 : decode cX9_readsSum 55 = .ok (.iconst (-1), 1) := dk_2 (dk_at dksX9_readsSum_2 7 rfl rfl)
theorem dX9_readsSum_56 : decode cX9_readsSum 56 = .ok (.istore_n 2, 1) := dk_61 (dk_at dksX9_readsSum_2 8 rfl rfl)
theorem dX9_readsSum_57 : decode cX9_readsSum 57 = .ok (.aload_n 0, 1) := dk_42 (dk_at dksX9_readsSum_2 9 rfl rfl)
theorem dX9_readsSum_58 : decode cX9_readsSum 58 = .ok (.dup, 1) := dk_89 (dk_at dksX9_readsSum_2 10 rfl rfl)
theorem dX9_readsSum_59 : decode cX9_readsSum 59 = .ok (.getfield 137, 3) := dk_180 0 137 (dk_at dksX9_readsSum_2 11 rfl rfl)
theorem dX9_readsSum_62 : decode cX9_readsSum 62 = .ok (.iconst 1, 1) := dk_4 (dk_at dksX9_readsSum_2 14 rfl rfl)
theorem dX9_readsSum_63 : decode cX9_readsSum 63 = .ok (.iadd, 1) := dk_96 (dk_at dksX9_readsSum_2 15 rfl rfl)
theorem dX9_readsSum_64 : decode cX9_readsSum 64 = .ok (.putfield 137, 3) := dk_181 0 137 (dk_at dksX9_readsSum_2 16 rfl rfl)
theorem dX9_readsSum_67 : decode cX9_readsSum 67 = .ok (.aload_n 0, 1) := dk_42 (dk_at dksX9_readsSum_2 19 rfl rfl)
theorem dX9_readsSum_68 : decode cX9_readsSum 68 = .ok (.iload_n 1, 1) := dk_27 (dk_at dksX9_readsSum_2 20 rfl rfl)
theorem dX9_readsSum_69 : decode cX9_readsSum 69 = .ok (.iload_n 2, 1) := dk_28 (dk_at dksX9_readsSum_2 21 rfl rfl)
theorem dX9_readsSum_70 : decode cX9_readsSum 70 = .ok (.invokevirtual 156, 3) := dk_182 0 156 (dk_at dksX9_readsSum_3 0 rfl rfl)
theorem dX9_readsSum_73 : decode cX9_readsSum 73 = .ok (.ifCond .ne 5, 3) := dk_154 0 5 (dk_at dksX9_readsSum_3 3 rfl rfl)
theorem dX9_readsSum_76 : decode cX9_readsSum 76 = .ok (.iconst 0, 1) := dk_3 (dk_at dksX9_readsSum_3 6 rfl rfl)
theorem dX9_readsSum_77 : decode cX9_readsSum 77 = .ok (.ireturn, 1) := dk_172 (dk_at dksX9_readsSum_3 7 rfl rfl)
theorem dX9_readsSum_78 : decode cX9_readsSum 78 = .ok (.goto (-54), 3) := dk_167 255 202 (dk_at dksX9_readsSum_3 8 rfl rfl)
theorem dX9_readsSum_81 : decode cX9_readsSum 81 = .ok (.iconst 1, 1) := dk_4 (dk_at dksX9_readsSum_3 11 rfl rfl)
theorem dX9_readsSum_82 : decode cX9_readsSum 82 = .ok (.ireturn, 1) := dk_172 (dk_at dksX9_readsSum_3 12 rfl rfl)
abbrev cX9_takes : ByteArray := prog_19_method_22_code
def yX9_takes : MethodName := ⟨RX9, "takes", "(I)Z"⟩
def dkwX9_takes_0 : List UInt8 := [42, 182, 0, 140, 27, 159, 0, 5, 3, 172, 42, 89, 180, 0, 137, 4, 96, 181, 0, 137, 4, 172]
abbrev dktX9_takes_0 : List UInt8 := dkwX9_takes_0 ++ []
theorem dksX9_takes_0 : cX9_takes.data.toList.drop 0 = dktX9_takes_0 := by decide +kernel
theorem dX9_takes_0 : decode cX9_takes 0 = .ok (.aload_n 0, 1) := dk_42 (dk_at dksX9_takes_0 0 rfl rfl)
theorem dX9_takes_1 : decode cX9_takes 1 = .ok (.invokevirtual 140, 3) := dk_182 0 140 (dk_at dksX9_takes_0 1 rfl rfl)
theorem dX9_takes_4 : decode cX9_takes 4 = .ok (.iload_n 1, 1) := dk_27 (dk_at dksX9_takes_0 4 rfl rfl)
theorem dX9_takes_5 : decode cX9_takes 5 = .ok (.if_icmp .eq 5, 3) := dk_159 0 5 (dk_at dksX9_takes_0 5 rfl rfl)
theorem dX9_takes_8 : decode cX9_takes 8 = .ok (.iconst 0, 1) := dk_3 (dk_at dksX9_takes_0 8 rfl rfl)
theorem dX9_takes_9 : decode cX9_takes 9 = .ok (.ireturn, 1) := dk_172 (dk_at dksX9_takes_0 9 rfl rfl)
theorem dX9_takes_10 : decode cX9_takes 10 = .ok (.aload_n 0, 1) := dk_42 (dk_at dksX9_takes_0 10 rfl rfl)
theorem dX9_takes_11 : decode cX9_takes 11 = .ok (.dup, 1) := dk_89 (dk_at dksX9_takes_0 11 rfl rfl)
theorem dX9_takes_12 : decode cX9_takes 12 = .ok (.getfield 137, 3) := dk_180 0 137 (dk_at dksX9_takes_0 12 rfl rfl)
theorem dX9_takes_15 : decode cX9_takes 15 = .ok (.iconst 1, 1) := dk_4 (dk_at dksX9_takes_0 15 rfl rfl)
theorem dX9_takes_16 : decode cX9_takes 16 = .ok (.iadd, 1) := dk_96 (dk_at dksX9_takes_0 16 rfl rfl)
theorem dX9_takes_17 : decode cX9_takes 17 = .ok (.putfield 137, 3) := dk_181 0 137 (dk_at dksX9_takes_0 17 rfl rfl)
theorem dX9_takes_20 : decode cX9_takes 20 = .ok (.iconst 1, 1) := dk_4 (dk_at dksX9_takes_0 20 rfl rfl)
theorem dX9_takes_21 : decode cX9_takes 21 = .ok (.ireturn, 1) := dk_172 (dk_at dksX9_takes_0 21 rfl rfl)
abbrev cX9_here : ByteArray := prog_19_method_21_code
def yX9_here : MethodName := ⟨RX9, "here", "()I"⟩
def dkwX9_here_1 : List UInt8 := [172]
abbrev dktX9_here_1 : List UInt8 := dkwX9_here_1 ++ []
def dkwX9_here_0 : List UInt8 := [42, 180, 0, 137, 42, 180, 0, 133, 162, 0, 15, 42, 180, 0, 21, 42, 180, 0, 137, 46, 167, 0, 4, 2]
abbrev dktX9_here_0 : List UInt8 := dkwX9_here_0 ++ dktX9_here_1
theorem dksX9_here_0 : cX9_here.data.toList.drop 0 = dktX9_here_0 := by decide +kernel
theorem dksX9_here_1 : cX9_here.data.toList.drop 24 = dktX9_here_1 := dk_seg dksX9_here_0 24 rfl rfl
theorem dX9_here_0 : decode cX9_here 0 = .ok (.aload_n 0, 1) := dk_42 (dk_at dksX9_here_0 0 rfl rfl)
theorem dX9_here_1 : decode cX9_here 1 = .ok (.getfield 137, 3) := dk_180 0 137 (dk_at dksX9_here_0 1 rfl rfl)
theorem dX9_here_4 : decode cX9_here 4 = .ok (.aload_n 0, 1) := dk_42 (dk_at dksX9_here_0 4 rfl rfl)
theorem dX9_here_5 : decode cX9_here 5 = .ok (.getfield 133, 3) := dk_180 0 133 (dk_at dksX9_here_0 5 rfl rfl)
theorem dX9_here_8 : decode cX9_here 8 = .ok (.if_icmp .ge 15, 3) := dk_162 0 15 (dk_at dksX9_here_0 8 rfl rfl)
theorem dX9_here_11 : decode cX9_here 11 = .ok (.aload_n 0, 1) := dk_42 (dk_at dksX9_here_0 11 rfl rfl)
theorem dX9_here_12 : decode cX9_here 12 = .ok (.getfield 21, 3) := dk_180 0 21 (dk_at dksX9_here_0 12 rfl rfl)
theorem dX9_here_15 : decode cX9_here 15 = .ok (.aload_n 0, 1) := dk_42 (dk_at dksX9_here_0 15 rfl rfl)
theorem dX9_here_16 : decode cX9_here 16 = .ok (.getfield 137, 3) := dk_180 0 137 (dk_at dksX9_here_0 16 rfl rfl)
theorem dX9_here_19 : decode cX9_here 19 = .ok (.iaload, 1) := dk_46 (dk_at dksX9_here_0 19 rfl rfl)
theorem dX9_here_20 : decode cX9_here 20 = .ok (.goto 4, 3) := dk_167 0 4 (dk_at dksX9_here_0 20 rfl rfl)
theorem dX9_here_23 : decode cX9_here 23 = .ok (.iconst (-1), 1) := dk_2 (dk_at dksX9_here_0 23 rfl rfl)
theorem dX9_here_24 : decode cX9_here 24 = .ok (.ireturn, 1) := dk_172 (dk_at dksX9_here_1 0 rfl rfl)
abbrev cX9_readsTerm : ByteArray := prog_19_method_24_code
def yX9_readsTerm : MethodName := ⟨RX9, "readsTerm", "(II)Z"⟩
def dkwX9_readsTerm_4 : List UInt8 := [154, 0, 5, 3, 172, 42, 89, 180, 0, 137, 4, 96, 181, 0, 137, 4, 172]
abbrev dktX9_readsTerm_4 : List UInt8 := dkwX9_readsTerm_4 ++ []
def dkwX9_readsTerm_3 : List UInt8 := [92, 46, 28, 29, 104, 96, 79, 42, 180, 0, 24, 21, 4, 46, 133, 20, 0, 127, 20, 0, 129, 184, 0, 93]
abbrev dktX9_readsTerm_3 : List UInt8 := dkwX9_readsTerm_3 ++ dktX9_readsTerm_4
def dkwX9_readsTerm_2 : List UInt8 := [154, 0, 5, 3, 172, 27, 5, 96, 42, 182, 0, 140, 96, 16, 97, 100, 54, 4, 42, 180, 0, 24, 21, 4]
abbrev dktX9_readsTerm_2 : List UInt8 := dkwX9_readsTerm_2 ++ dktX9_readsTerm_3
def dkwX9_readsTerm_1 : List UInt8 := [181, 0, 137, 42, 182, 0, 140, 133, 20, 0, 151, 16, 97, 42, 182, 0, 89, 96, 4, 100, 133, 184, 0, 93]
abbrev dktX9_readsTerm_1 : List UInt8 := dkwX9_readsTerm_1 ++ dktX9_readsTerm_2
def dkwX9_readsTerm_0 : List UInt8 := [4, 62, 42, 182, 0, 147, 153, 0, 21, 42, 182, 0, 140, 16, 48, 100, 62, 42, 89, 180, 0, 137, 4, 96]
abbrev dktX9_readsTerm_0 : List UInt8 := dkwX9_readsTerm_0 ++ dktX9_readsTerm_1
theorem dksX9_readsTerm_0 : cX9_readsTerm.data.toList.drop 0 = dktX9_readsTerm_0 := by decide +kernel
theorem dksX9_readsTerm_1 : cX9_readsTerm.data.toList.drop 24 = dktX9_readsTerm_1 := dk_seg dksX9_readsTerm_0 24 rfl rfl
theorem dksX9_readsTerm_2 : cX9_readsTerm.data.toList.drop 48 = dktX9_readsTerm_2 := dk_seg dksX9_readsTerm_1 24 rfl rfl
theorem dksX9_readsTerm_3 : cX9_readsTerm.data.toList.drop 72 = dktX9_readsTerm_3 := dk_seg dksX9_readsTerm_2 24 rfl rfl
theorem dksX9_readsTerm_4 : cX9_readsTerm.data.toList.drop 96 = dktX9_readsTerm_4 := dk_seg dksX9_readsTerm_3 24 rfl rfl
theorem dX9_readsTerm_0 : decode cX9_readsTerm 0 = .ok (.iconst 1, 1) := dk_4 (dk_at dksX9_readsTerm_0 0 rfl rfl)
theorem dX9_readsTerm_1 : decode cX9_readsTerm 1 = .ok (.istore_n 3, 1) := dk_62 (dk_at dksX9_readsTerm_0 1 rfl rfl)
theorem dX9_readsTerm_2 : decode cX9_readsTerm 2 = .ok (.aload_n 0, 1) := dk_42 (dk_at dksX9_readsTerm_0 2 rfl rfl)
theorem dX9_readsTerm_3 : decode cX9_readsTerm 3 = .ok (.invokevirtual 147, 3) := dk_182 0 147 (dk_at dksX9_readsTerm_0 3 rfl rfl)
theorem dX9_readsTerm_6 : decode cX9_readsTerm 6 = .ok (.ifCond .eq 21, 3) := dk_153 0 21 (dk_at dksX9_readsTerm_0 6 rfl rfl)
theorem dX9_readsTerm_9 : decode cX9_readsTerm 9 = .ok (.aload_n 0, 1) := dk_42 (dk_at dksX9_readsTerm_0 9 rfl rfl)
theorem dX9_readsTerm_10 : decode cX9_readsTerm 10 = .ok (.invokevirtual 140, 3) := dk_182 0 140 (dk_at dksX9_readsTerm_0 10 rfl rfl)
theorem dX9_readsTerm_13 : decode cX9_readsTerm 13 = .ok (.bipush 48, 2) := dk_16 48 (dk_at dksX9_readsTerm_0 13 rfl rfl)
theorem dX9_readsTerm_15 : decode cX9_readsTerm 15 = .ok (.isub, 1) := dk_100 (dk_at dksX9_readsTerm_0 15 rfl rfl)
theorem dX9_readsTerm_16 : decode cX9_readsTerm 16 = .ok (.istore_n 3, 1) := dk_62 (dk_at dksX9_readsTerm_0 16 rfl rfl)
theorem dX9_readsTerm_17 : decode cX9_readsTerm 17 = .ok (.aload_n 0, 1) := dk_42 (dk_at dksX9_readsTerm_0 17 rfl rfl)
theorem dX9_readsTerm_18 : decode cX9_readsTerm 18 = .ok (.dup, 1) := dk_89 (dk_at dksX9_readsTerm_0 18 rfl rfl)
theorem dX9_readsTerm_19 : decode cX9_readsTerm 19 = .ok (.getfield 137, 3) := dk_180 0 137 (dk_at dksX9_readsTerm_0 19 rfl rfl)
theorem dX9_readsTerm_22 : decode cX9_readsTerm 22 = .ok (.iconst 1, 1) := dk_4 (dk_at dksX9_readsTerm_0 22 rfl rfl)
theorem dX9_readsTerm_23 : decode cX9_readsTerm 23 = .ok (.iadd, 1) := dk_96 (dk_at dksX9_readsTerm_0 23 rfl rfl)
theorem dX9_readsTerm_24 : decode cX9_readsTerm 24 = .ok (.putfield 137, 3) := dk_181 0 137 (dk_at dksX9_readsTerm_1 0 rfl rfl)
theorem dX9_readsTerm_27 : decode cX9_readsTerm 27 = .ok (.aload_n 0, 1) := dk_42 (dk_at dksX9_readsTerm_1 3 rfl rfl)
theorem dX9_readsTerm_28 : decode cX9_readsTerm 28 = .ok (.invokevirtual 140, 3) := dk_182 0 140 (dk_at dksX9_readsTerm_1 4 rfl rfl)
theorem dX9_readsTerm_31 : decode cX9_readsTerm 31 = .ok (.i2l, 1) := dk_133 (dk_at dksX9_readsTerm_1 7 rfl rfl)
theorem dX9_readsTerm_32 : decode cX9_readsTerm 32 = .ok (.ldc2_w 151, 3) := dk_20 0 151 (dk_at dksX9_readsTerm_1 8 rfl rfl)
theorem dX9_readsTerm_35 : decode cX9_readsTerm 35 = .ok (.bipush 97, 2) := dk_16 97 (dk_at dksX9_readsTerm_1 11 rfl rfl)
theorem dX9_readsTerm_37 : decode cX9_readsTerm 37 = .ok (.aload_n 0, 1) := dk_42 (dk_at dksX9_readsTerm_1 13 rfl rfl)
theorem dX9_readsTerm_38 : decode cX9_readsTerm 38 = .ok (.invokevirtual 89, 3) := dk_182 0 89 (dk_at dksX9_readsTerm_1 14 rfl rfl)
theorem dX9_readsTerm_41 : decode cX9_readsTerm 41 = .ok (.iadd, 1) := dk_96 (dk_at dksX9_readsTerm_1 17 rfl rfl)
theorem dX9_readsTerm_42 : decode cX9_readsTerm 42 = .ok (.iconst 1, 1) := dk_4 (dk_at dksX9_readsTerm_1 18 rfl rfl)
theorem dX9_readsTerm_43 : decode cX9_readsTerm 43 = .ok (.isub, 1) := dk_100 (dk_at dksX9_readsTerm_1 19 rfl rfl)
theorem dX9_readsTerm_44 : decode cX9_readsTerm 44 = .ok (.i2l, 1) := dk_133 (dk_at dksX9_readsTerm_1 20 rfl rfl)
theorem dX9_readsTerm_45 : decode cX9_readsTerm 45 = .ok (.invokestatic 93, 3) := dk_184 0 93 (dk_at dksX9_readsTerm_1 21 rfl rfl)
theorem dX9_readsTerm_48 : decode cX9_readsTerm 48 = .ok (.ifCond .ne 5, 3) := dk_154 0 5 (dk_at dksX9_readsTerm_2 0 rfl rfl)
theorem dX9_readsTerm_51 : decode cX9_readsTerm 51 = .ok (.iconst 0, 1) := dk_3 (dk_at dksX9_readsTerm_2 3 rfl rfl)
theorem dX9_readsTerm_52 : decode cX9_readsTerm 52 = .ok (.ireturn, 1) := dk_172 (dk_at dksX9_readsTerm_2 4 rfl rfl)
theorem dX9_readsTerm_53 : decode cX9_readsTerm 53 = .ok (.iload_n 1, 1) := dk_27 (dk_at dksX9_readsTerm_2 5 rfl rfl)
theorem dX9_readsTerm_54 : decode cX9_readsTerm 54 = .ok (.iconst 2, 1) := dk_5 (dk_at dksX9_readsTerm_2 6 rfl rfl)
theorem dX9_readsTerm_55 : decode cX9_readsTerm 55 = .ok (.iadd, 1) := dk_96 (dk_at dksX9_readsTerm_2 7 rfl rfl)
theorem dX9_readsTerm_56 : decode cX9_readsTerm 56 = .ok (.aload_n 0, 1) := dk_42 (dk_at dksX9_readsTerm_2 8 rfl rfl)
theorem dX9_readsTerm_57 : decode cX9_readsTerm 57 = .ok (.invokevirtual 140, 3) := dk_182 0 140 (dk_at dksX9_readsTerm_2 9 rfl rfl)
theorem dX9_readsTerm_60 : decode cX9_readsTerm 60 = .ok (.iadd, 1) := dk_96 (dk_at dksX9_readsTerm_2 12 rfl rfl)
theorem dX9_readsTerm_61 : decode cX9_readsTerm 61 = .ok (.bipush 97, 2) := dk_16 97 (dk_at dksX9_readsTerm_2 13 rfl rfl)
theorem dX9_readsTerm_63 : decode cX9_readsTerm 63 = .ok (.isub, 1) := dk_100 (dk_at dksX9_readsTerm_2 15 rfl rfl)
theorem dX9_readsTerm_64 : decode cX9_readsTerm 64 = .ok (.istore 4, 2) := dk_54 4 (dk_at dksX9_readsTerm_2 16 rfl rfl)
theorem dX9_readsTerm_66 : decode cX9_readsTerm 66 = .ok (.aload_n 0, 1) := dk_42 (dk_at dksX9_readsTerm_2 18 rfl rfl)
theorem dX9_readsTerm_67 : decode cX9_readsTerm 67 = .ok (.getfield 24, 3) := dk_180 0 24 (dk_at dksX9_readsTerm_2 19 rfl rfl)
theorem dX9_readsTerm_70 : decode cX9_readsTerm 70 = .ok (.iload 4, 2) := dk_21 4 (dk_at dksX9_readsTerm_2 22 rfl rfl)
theorem dX9_readsTerm_72 : decode cX9_readsTerm 72 = .ok (.dup2, 1) := dk_92 (dk_at dksX9_readsTerm_3 0 rfl rfl)
theorem dX9_readsTerm_73 : decode cX9_readsTerm 73 = .ok (.iaload, 1) := dk_46 (dk_at dksX9_readsTerm_3 1 rfl rfl)
theorem dX9_readsTerm_74 : decode cX9_readsTerm 74 = .ok (.iload_n 2, 1) := dk_28 (dk_at dksX9_readsTerm_3 2 rfl rfl)
theorem dX9_readsTerm_75 : decode cX9_readsTerm 75 = .ok (.iload_n 3, 1) := dk_29 (dk_at dksX9_readsTerm_3 3 rfl rfl)
theorem dX9_readsTerm_76 : decode cX9_readsTerm 76 = .ok (.imul, 1) := dk_104 (dk_at dksX9_readsTerm_3 4 rfl rfl)
theorem dX9_readsTerm_77 : decode cX9_readsTerm 77 = .ok (.iadd, 1) := dk_96 (dk_at dksX9_readsTerm_3 5 rfl rfl)
theorem dX9_readsTerm_78 : decode cX9_readsTerm 78 = .ok (.iastore, 1) := dk_79 (dk_at dksX9_readsTerm_3 6 rfl rfl)
theorem dX9_readsTerm_79 : decode cX9_readsTerm 79 = .ok (.aload_n 0, 1) := dk_42 (dk_at dksX9_readsTerm_3 7 rfl rfl)
theorem dX9_readsTerm_80 : decode cX9_readsTerm 80 = .ok (.getfield 24, 3) := dk_180 0 24 (dk_at dksX9_readsTerm_3 8 rfl rfl)
theorem dX9_readsTerm_83 : decode cX9_readsTerm 83 = .ok (.iload 4, 2) := dk_21 4 (dk_at dksX9_readsTerm_3 11 rfl rfl)
theorem dX9_readsTerm_85 : decode cX9_readsTerm 85 = .ok (.iaload, 1) := dk_46 (dk_at dksX9_readsTerm_3 13 rfl rfl)
theorem dX9_readsTerm_86 : decode cX9_readsTerm 86 = .ok (.i2l, 1) := dk_133 (dk_at dksX9_readsTerm_3 14 rfl rfl)
theorem dX9_readsTerm_87 : decode cX9_readsTerm 87 = .ok (.ldc2_w 127, 3) := dk_20 0 127 (dk_at dksX9_readsTerm_3 15 rfl rfl)
theorem dX9_readsTerm_90 : decode cX9_readsTerm 90 = .ok (.ldc2_w 129, 3) := dk_20 0 129 (dk_at dksX9_readsTerm_3 18 rfl rfl)
theorem dX9_readsTerm_93 : decode cX9_readsTerm 93 = .ok (.invokestatic 93, 3) := dk_184 0 93 (dk_at dksX9_readsTerm_3 21 rfl rfl)
theorem dX9_readsTerm_96 : decode cX9_readsTerm 96 = .ok (.ifCond .ne 5, 3) := dk_154 0 5 (dk_at dksX9_readsTerm_4 0 rfl rfl)
theorem dX9_readsTerm_99 : decode cX9_readsTerm 99 = .ok (.iconst 0, 1) := dk_3 (dk_at dksX9_readsTerm_4 3 rfl rfl)
theorem dX9_readsTerm_100 : decode cX9_readsTerm 100 = .ok (.ireturn, 1) := dk_172 (dk_at dksX9_readsTerm_4 4 rfl rfl)
theorem dX9_readsTerm_101 : decode cX9_readsTerm 101 = .ok (.aload_n 0, 1) := dk_42 (dk_at dksX9_readsTerm_4 5 rfl rfl)
theorem dX9_readsTerm_102 : decode cX9_readsTerm 102 = .ok (.dup, 1) := dk_89 (dk_at dksX9_readsTerm_4 6 rfl rfl)
theorem dX9_readsTerm_103 : decode cX9_readsTerm 103 = .ok (.getfield 137, 3) := dk_180 0 137 (dk_at dksX9_readsTerm_4 7 rfl rfl)
theorem dX9_readsTerm_106 : decode cX9_readsTerm 106 = .ok (.iconst 1, 1) := dk_4 (dk_at dksX9_readsTerm_4 10 rfl rfl)
theorem dX9_readsTerm_107 : decode cX9_readsTerm 107 = .ok (.iadd, 1) := dk_96 (dk_at dksX9_readsTerm_4 11 rfl rfl)
theorem dX9_readsTerm_108 : decode cX9_readsTerm 108 = .ok (.putfield 137, 3) := dk_181 0 137 (dk_at dksX9_readsTerm_4 12 rfl rfl)
theorem dX9_readsTerm_111 : decode cX9_readsTerm 111 = .ok (.iconst 1, 1) := dk_4 (dk_at dksX9_readsTerm_4 15 rfl rfl)
theorem dX9_readsTerm_112 : decode cX9_readsTerm 112 = .ok (.ireturn, 1) := dk_172 (dk_at dksX9_readsTerm_4 16 rfl rfl)
abbrev cX9_isDigit : ByteArray := prog_19_method_23_code
def yX9_isDigit : MethodName := ⟨RX9, "isDigit", "()Z"⟩
def dkwX9_isDigit_0 : List UInt8 := [42, 182, 0, 140, 133, 20, 0, 143, 20, 0, 145, 184, 0, 93, 172]
abbrev dktX9_isDigit_0 : List UInt8 := dkwX9_isDigit_0 ++ []
theorem dksX9_isDigit_0 : cX9_isDigit.data.toList.drop 0 = dktX9_isDigit_0 := by decide +kernel
theorem dX9_isDigit_0 : decode cX9_isDigit 0 = .ok (.aload_n 0, 1) := dk_42 (dk_at dksX9_isDigit_0 0 rfl rfl)
theorem dX9_isDigit_1 : decode cX9_isDigit 1 = .ok (.invokevirtual 140, 3) := dk_182 0 140 (dk_at dksX9_isDigit_0 1 rfl rfl)
theorem dX9_isDigit_4 : decode cX9_isDigit 4 = .ok (.i2l, 1) := dk_133 (dk_at dksX9_isDigit_0 4 rfl rfl)
theorem dX9_isDigit_5 : decode cX9_isDigit 5 = .ok (.ldc2_w 143, 3) := dk_20 0 143 (dk_at dksX9_isDigit_0 5 rfl rfl)
theorem dX9_isDigit_8 : decode cX9_isDigit 8 = .ok (.ldc2_w 145, 3) := dk_20 0 145 (dk_at dksX9_isDigit_0 8 rfl rfl)
theorem dX9_isDigit_11 : decode cX9_isDigit 11 = .ok (.invokestatic 93, 3) := dk_184 0 93 (dk_at dksX9_isDigit_0 11 rfl rfl)
theorem dX9_isDigit_14 : decode cX9_isDigit 14 = .ok (.ireturn, 1) := dk_172 (dk_at dksX9_isDigit_0 14 rfl rfl)
abbrev cX9_readsBound : ByteArray := prog_19_method_26_code
def yX9_readsBound : MethodName := ⟨RX9, "readsBound", "(I)Z"⟩
def dkwX9_readsBound_4 : List UInt8 := [79, 4, 172]
abbrev dktX9_readsBound_4 : List UInt8 := dkwX9_readsBound_4 ++ []
def dkwX9_readsBound_3 : List UInt8 := [180, 0, 137, 4, 96, 181, 0, 137, 132, 4, 1, 167, 255, 205, 42, 180, 0, 24, 27, 4, 96, 28, 29, 104]
abbrev dktX9_readsBound_3 : List UInt8 := dkwX9_readsBound_3 ++ dktX9_readsBound_4
def dkwX9_readsBound_2 : List UInt8 := [182, 0, 140, 96, 16, 48, 100, 62, 28, 156, 0, 11, 29, 16, 99, 164, 0, 5, 3, 172, 42, 89]
abbrev dktX9_readsBound_2 : List UInt8 := dkwX9_readsBound_2 ++ dktX9_readsBound_3
def dkwX9_readsBound_1 : List UInt8 := [3, 62, 3, 54, 4, 21, 4, 6, 162, 0, 51, 42, 182, 0, 147, 153, 0, 44, 16, 10, 29, 104, 42]
abbrev dktX9_readsBound_1 : List UInt8 := dkwX9_readsBound_1 ++ dktX9_readsBound_2
def dkwX9_readsBound_0 : List UInt8 := [42, 16, 45, 182, 0, 153, 153, 0, 7, 2, 167, 0, 4, 4, 61, 42, 182, 0, 147, 154, 0, 5, 3, 172]
abbrev dktX9_readsBound_0 : List UInt8 := dkwX9_readsBound_0 ++ dktX9_readsBound_1
theorem dksX9_readsBound_0 : cX9_readsBound.data.toList.drop 0 = dktX9_readsBound_0 := by decide +kernel
theorem dksX9_readsBound_1 : cX9_readsBound.data.toList.drop 24 = dktX9_readsBound_1 := dk_seg dksX9_readsBound_0 24 rfl rfl
theorem dksX9_readsBound_2 : cX9_readsBound.data.toList.drop 47 = dktX9_readsBound_2 := dk_seg dksX9_readsBound_1 23 rfl rfl
theorem dksX9_readsBound_3 : cX9_readsBound.data.toList.drop 69 = dktX9_readsBound_3 := dk_seg dksX9_readsBound_2 22 rfl rfl
theorem dksX9_readsBound_4 : cX9_readsBound.data.toList.drop 93 = dktX9_readsBound_4 := dk_seg dksX9_readsBound_3 24 rfl rfl
theorem dX9_readsBound_0 : decode cX9_readsBound 0 = .ok (.aload_n 0, 1) := dk_42 (dk_at dksX9_readsBound_0 0 rfl rfl)
theorem dX9_readsBound_1 : decode cX9_readsBound 1 = .ok (.bipush 45, 2) := dk_16 45 (dk_at dksX9_readsBound_0 1 rfl rfl)
theorem dX9_readsBound_3 : decode cX9_readsBound 3 = .ok (.invokevirtual 153, 3) := dk_182 0 153 (dk_at dksX9_readsBound_0 3 rfl rfl)
theorem dX9_readsBound_6 : decode cX9_readsBound 6 = .ok (.ifCond .eq 7, 3) := dk_153 0 7 (dk_at dksX9_readsBound_0 6 rfl rfl)
theorem dX9_readsBound_9 : decode cX9_readsBound 9 = .ok (.iconst (-1), 1) := dk_2 (dk_at dksX9_readsBound_0 9 rfl rfl)
theorem dX9_readsBound_10 : decode cX9_readsBound 10 = .ok (.goto 4, 3) := dk_167 0 4 (dk_at dksX9_readsBound_0 10 rfl rfl)
theorem dX9_readsBound_13 : decode cX9_readsBound 13 = .ok (.iconst 1, 1) := dk_4 (dk_at dksX9_readsBound_0 13 rfl rfl)
theorem dX9_readsBound_14 : decode cX9_readsBound 14 = .ok (.istore_n 2, 1) := dk_61 (dk_at dksX9_readsBound_0 14 rfl rfl)
theorem dX9_readsBound_15 : decode cX9_readsBound 15 = .ok (.aload_n 0, 1) := dk_42 (dk_at dksX9_readsBound_0 15 rfl rfl)
theorem dX9_readsBound_16 : decode cX9_readsBound 16 = .ok (.invokevirtual 147, 3) := dk_182 0 147 (dk_at dksX9_readsBound_0 16 rfl rfl)
theorem dX9_readsBound_19 : decode cX9_readsBound 19 = .ok (.ifCond .ne 5, 3) := dk_154 0 5 (dk_at dksX9_readsBound_0 19 rfl rfl)
theorem dX9_readsBound_22 : decode cX9_readsBound 22 = .ok (.iconst 0, 1) := dk_3 (dk_at dksX9_readsBound_0 22 rfl rfl)
theorem dX9_readsBound_23 : decode cX9_readsBound 23 = .ok (.ireturn, 1) := dk_172 (dk_at dksX9_readsBound_0 23 rfl rfl)
theorem dX9_readsBound_24 : decode cX9_readsBound 24 = .ok (.iconst 0, 1) := dk_3 (dk_at dksX9_readsBound_1 0 rfl rfl)
theorem dX9_readsBound_25 : decode cX9_readsBound 25 = .ok (.istore_n 3, 1) := dk_62 (dk_at dksX9_readsBound_1 1 rfl rfl)
theorem dX9_readsBound_26 : decode cX9_readsBound 26 = .ok (.iconst 0, 1) := dk_3 (dk_at dksX9_readsBound_1 2 rfl rfl)
theorem dX9_readsBound_27 : decode cX9_readsBound 27 = .ok (.istore 4, 2) := dk_54 4 (dk_at dksX9_readsBound_1 3 rfl rfl)
theorem dX9_readsBound_29 : decode cX9_readsBound 29 = .ok (.iload 4, 2) := dk_21 4 (dk_at dksX9_readsBound_1 5 rfl rfl)
theorem dX9_readsBound_31 : decode cX9_readsBound 31 = .ok (.iconst 3, 1) := dk_6 (dk_at dksX9_readsBound_1 7 rfl rfl)
theorem dX9_readsBound_32 : decode cX9_readsBound 32 = .ok (.if_icmp .ge 51, 3) := dk_162 0 51 (dk_at dksX9_readsBound_1 8 rfl rfl)
theorem dX9_readsBound_35 : decode cX9_readsBound 35 = .ok (.aload_n 0, 1) := dk_42 (dk_at dksX9_readsBound_1 11 rfl rfl)
theorem dX9_readsBound_36 : decode cX9_readsBound 36 = .ok (.invokevirtual 147, 3) := dk_182 0 147 (dk_at dksX9_readsBound_1 12 rfl rfl)
theorem dX9_readsBound_39 : decode cX9_readsBound 39 = .ok (.ifCond .eq 44, 3) := dk_153 0 44 (dk_at dksX9_readsBound_1 15 rfl rfl)
theorem dX9_readsBound_42 : decode cX9_readsBound 42 = .ok (.bipush 10, 2) := dk_16 10 (dk_at dksX9_readsBound_1 18 rfl rfl)
theorem dX9_readsBound_44 : decode cX9_readsBound 44 = .ok (.iload_n 3, 1) := dk_29 (dk_at dksX9_readsBound_1 20 rfl rfl)
theorem dX9_readsBound_45 : decode cX9_readsBound 45 = .ok (.imul, 1) := dk_104 (dk_at dksX9_readsBound_1 21 rfl rfl)
theorem dX9_readsBound_46 : decode cX9_readsBound 46 = .ok (.aload_n 0, 1) := dk_42 (dk_at dksX9_readsBound_1 22 rfl rfl)
theorem dX9_readsBound_47 : decode cX9_readsBound 47 = .ok (.invokevirtual 140, 3) := dk_182 0 140 (dk_at dksX9_readsBound_2 0 rfl rfl)
theorem dX9_readsBound_50 : decode cX9_readsBound 50 = .ok (.iadd, 1) := dk_96 (dk_at dksX9_readsBound_2 3 rfl rfl)
theorem dX9_readsBound_51 : decode cX9_readsBound 51 = .ok (.bipush 48, 2) := dk_16 48 (dk_at dksX9_readsBound_2 4 rfl rfl)
theorem dX9_readsBound_53 : decode cX9_readsBound 53 = .ok (.isub, 1) := dk_100 (dk_at dksX9_readsBound_2 6 rfl rfl)
theorem dX9_readsBound_54 : decode cX9_readsBound 54 = .ok (.istore_n 3, 1) := dk_62 (dk_at dksX9_readsBound_2 7 rfl rfl)
theorem dX9_readsBound_55 : decode cX9_readsBound 55 = .ok (.iload_n 2, 1) := dk_28 (dk_at dksX9_readsBound_2 8 rfl rfl)
theorem dX9_readsBound_56 : decode cX9_readsBound 56 = .ok (.ifCond .ge 11, 3) := dk_156 0 11 (dk_at dksX9_readsBound_2 9 rfl rfl)
theorem dX9_readsBound_59 : decode cX9_readsBound 59 = .ok (.iload_n 3, 1) := dk_29 (dk_at dksX9_readsBound_2 12 rfl rfl)
theorem dX9_readsBound_60 : decode cX9_readsBound 60 = .ok (.bipush 99, 2) := dk_16 99 (dk_at dksX9_readsBound_2 13 rfl rfl)
theorem dX9_readsBound_62 : decode cX9_readsBound 62 = .ok (.if_icmp .le 5, 3) := dk_164 0 5 (dk_at dksX9_readsBound_2 15 rfl rfl)
theorem dX9_readsBound_65 : decode cX9_readsBound 65 = .ok (.iconst 0, 1) := dk_3 (dk_at dksX9_readsBound_2 18 rfl rfl)
theorem dX9_readsBound_66 : decode cX9_readsBound 66 = .ok (.ireturn, 1) := dk_172 (dk_at dksX9_readsBound_2 19 rfl rfl)
theorem dX9_readsBound_67 : decode cX9_readsBound 67 = .ok (.aload_n 0, 1) := dk_42 (dk_at dksX9_readsBound_2 20 rfl rfl)
theorem dX9_readsBound_68 : decode cX9_readsBound 68 = .ok (.dup, 1) := dk_89 (dk_at dksX9_readsBound_2 21 rfl rfl)
theorem dX9_readsBound_69 : decode cX9_readsBound 69 = .ok (.getfield 137, 3) := dk_180 0 137 (dk_at dksX9_readsBound_3 0 rfl rfl)
theorem dX9_readsBound_72 : decode cX9_readsBound 72 = .ok (.iconst 1, 1) := dk_4 (dk_at dksX9_readsBound_3 3 rfl rfl)
theorem dX9_readsBound_73 : decode cX9_readsBound 73 = .ok (.iadd, 1) := dk_96 (dk_at dksX9_readsBound_3 4 rfl rfl)
theorem dX9_readsBound_74 : decode cX9_readsBound 74 = .ok (.putfield 137, 3) := dk_181 0 137 (dk_at dksX9_readsBound_3 5 rfl rfl)
theorem dX9_readsBound_77 : decode cX9_readsBound 77 = .ok (.iinc 4 1, 3) := dk_132 4 1 (dk_at dksX9_readsBound_3 8 rfl rfl)
theorem dX9_readsBound_80 : decode cX9_readsBound 80 = .ok (.goto (-51), 3) := dk_167 255 205 (dk_at dksX9_readsBound_3 11 rfl rfl)
theorem dX9_readsBound_83 : decode cX9_readsBound 83 = .ok (.aload_n 0, 1) := dk_42 (dk_at dksX9_readsBound_3 14 rfl rfl)
theorem dX9_readsBound_84 : decode cX9_readsBound 84 = .ok (.getfield 24, 3) := dk_180 0 24 (dk_at dksX9_readsBound_3 15 rfl rfl)
theorem dX9_readsBound_87 : decode cX9_readsBound 87 = .ok (.iload_n 1, 1) := dk_27 (dk_at dksX9_readsBound_3 18 rfl rfl)
theorem dX9_readsBound_88 : decode cX9_readsBound 88 = .ok (.iconst 1, 1) := dk_4 (dk_at dksX9_readsBound_3 19 rfl rfl)
theorem dX9_readsBound_89 : decode cX9_readsBound 89 = .ok (.iadd, 1) := dk_96 (dk_at dksX9_readsBound_3 20 rfl rfl)
theorem dX9_readsBound_90 : decode cX9_readsBound 90 = .ok (.iload_n 2, 1) := dk_28 (dk_at dksX9_readsBound_3 21 rfl rfl)
theorem dX9_readsBound_91 : decode cX9_readsBound 91 = .ok (.iload_n 3, 1) := dk_29 (dk_at dksX9_readsBound_3 22 rfl rfl)
theorem dX9_readsBound_92 : decode cX9_readsBound 92 = .ok (.imul, 1) := dk_104 (dk_at dksX9_readsBound_3 23 rfl rfl)
theorem dX9_readsBound_93 : decode cX9_readsBound 93 = .ok (.iastore, 1) := dk_79 (dk_at dksX9_readsBound_4 0 rfl rfl)
theorem dX9_readsBound_94 : decode cX9_readsBound 94 = .ok (.iconst 1, 1) := dk_4 (dk_at dksX9_readsBound_4 1 rfl rfl)
theorem dX9_readsBound_95 : decode cX9_readsBound 95 = .ok (.ireturn, 1) := dk_172 (dk_at dksX9_readsBound_4 2 rfl rfl)
abbrev cX9_solve : ByteArray := prog_19_method_46_code
def yX9_solve : MethodName := ⟨RX9, "solve", "(I)I"⟩
def dkwX9_solve_1 : List UInt8 := [16, 254, 172]
abbrev dktX9_solve_1 : List UInt8 := dkwX9_solve_1 ++ []
def dkwX9_solve_0 : List UInt8 := [27, 133, 9, 20, 1, 46, 184, 0, 93, 153, 0, 15, 42, 42, 180, 0, 30, 27, 182, 1, 43, 167, 0, 5]
abbrev dktX9_solve_0 : List UInt8 := dkwX9_solve_0 ++ dktX9_solve_1
theorem dksX9_solve_0 : cX9_solve.data.toList.drop 0 = dktX9_solve_0 := by decide +kernel
theorem dksX9_solve_1 : cX9_solve.data.toList.drop 24 = dktX9_solve_1 := dk_seg dksX9_solve_0 24 rfl rfl
theorem dX9_solve_0 : decode cX9_solve 0 = .ok (.iload_n 1, 1) := dk_27 (dk_at dksX9_solve_0 0 rfl rfl)
theorem dX9_solve_1 : decode cX9_solve 1 = .ok (.i2l, 1) := dk_133 (dk_at dksX9_solve_0 1 rfl rfl)
theorem dX9_solve_2 : decode cX9_solve 2 = .ok (.lconst 0, 1) := dk_9 (dk_at dksX9_solve_0 2 rfl rfl)
theorem dX9_solve_3 : decode cX9_solve 3 = .ok (.ldc2_w 302, 3) := dk_20 1 46 (dk_at dksX9_solve_0 3 rfl rfl)
theorem dX9_solve_6 : decode cX9_solve 6 = .ok (.invokestatic 93, 3) := dk_184 0 93 (dk_at dksX9_solve_0 6 rfl rfl)
theorem dX9_solve_9 : decode cX9_solve 9 = .ok (.ifCond .eq 15, 3) := dk_153 0 15 (dk_at dksX9_solve_0 9 rfl rfl)
theorem dX9_solve_12 : decode cX9_solve 12 = .ok (.aload_n 0, 1) := dk_42 (dk_at dksX9_solve_0 12 rfl rfl)
theorem dX9_solve_13 : decode cX9_solve 13 = .ok (.aload_n 0, 1) := dk_42 (dk_at dksX9_solve_0 13 rfl rfl)
theorem dX9_solve_14 : decode cX9_solve 14 = .ok (.getfield 30, 3) := dk_180 0 30 (dk_at dksX9_solve_0 14 rfl rfl)
theorem dX9_solve_17 : decode cX9_solve 17 = .ok (.iload_n 1, 1) := dk_27 (dk_at dksX9_solve_0 17 rfl rfl)
theorem dX9_solve_18 : decode cX9_solve 18 = .ok (.invokevirtual 299, 3) := dk_182 1 43 (dk_at dksX9_solve_0 18 rfl rfl)
theorem dX9_solve_21 : decode cX9_solve 21 = .ok (.goto 5, 3) := dk_167 0 5 (dk_at dksX9_solve_0 21 rfl rfl)
theorem dX9_solve_24 : decode cX9_solve 24 = .ok (.bipush (-2), 2) := dk_16 254 (dk_at dksX9_solve_1 0 rfl rfl)
theorem dX9_solve_26 : decode cX9_solve 26 = .ok (.ireturn, 1) := dk_172 (dk_at dksX9_solve_1 2 rfl rfl)
abbrev cX9_solves : ByteArray := prog_19_method_44_code
def yX9_solves : MethodName := ⟨RX9, "solves", "(LWholePacksModel$Table;I)I"⟩
def dkwX9_solves_3 : List UInt8 := [167, 0, 5, 16, 250, 62, 167, 255, 190, 29, 172]
abbrev dktX9_solves_3 : List UInt8 := dkwX9_solves_3 ++ []
def dkwX9_solves_2 : List UInt8 := [180, 0, 187, 28, 160, 0, 5, 5, 172, 42, 43, 21, 4, 182, 1, 41, 153, 0, 11, 42, 43, 182, 1, 34]
abbrev dktX9_solves_2 : List UInt8 := dkwX9_solves_2 ++ dktX9_solves_3
def dkwX9_solves_1 : List UInt8 := [21, 4, 156, 0, 7, 4, 167, 0, 4, 3, 181, 0, 200, 43, 180, 0, 200, 153, 0, 5, 4, 172, 43]
abbrev dktX9_solves_1 : List UInt8 := dkwX9_solves_1 ++ dktX9_solves_2
def dkwX9_solves_0 : List UInt8 := [42, 43, 182, 1, 30, 42, 43, 182, 1, 34, 62, 29, 4, 160, 0, 67, 42, 43, 182, 1, 38, 54, 4, 43]
abbrev dktX9_solves_0 : List UInt8 := dkwX9_solves_0 ++ dktX9_solves_1
theorem dksX9_solves_0 : cX9_solves.data.toList.drop 0 = dktX9_solves_0 := by decide +kernel
theorem dksX9_solves_1 : cX9_solves.data.toList.drop 24 = dktX9_solves_1 := dk_seg dksX9_solves_0 24 rfl rfl
theorem dksX9_solves_2 : cX9_solves.data.toList.drop 47 = dktX9_solves_2 := dk_seg dksX9_solves_1 23 rfl rfl
theorem dksX9_solves_3 : cX9_solves.data.toList.drop 71 = dktX9_solves_3 := dk_seg dksX9_solves_2 24 rfl rfl
theorem dX9_solves_0 : decode cX9_solves 0 = .ok (.aload_n 0, 1) := dk_42 (dk_at dksX9_solves_0 0 rfl rfl)
theorem dX9_solves_1 : decode cX9_solves 1 = .ok (.aload_n 1, 1) := dk_43 (dk_at dksX9_solves_0 1 rfl rfl)
theorem dX9_solves_2 : decode cX9_solves 2 = .ok (.invokevirtual 286, 3) := dk_182 1 30 (dk_at dksX9_solves_0 2 rfl rfl)
theorem dX9_solves_5 : decode cX9_solves 5 = .ok (.aload_n 0, 1) := dk_42 (dk_at dksX9_solves_0 5 rfl rfl)
theorem dX9_solves_6 : decode cX9_solves 6 = .ok (.aload_n 1, 1) := dk_43 (dk_at dksX9_solves_0 6 rfl rfl)
theorem dX9_solves_7 : decode cX9_solves 7 = .ok (.invokevirtual 290, 3) := dk_182 1 34 (dk_at dksX9_solves_0 7 rfl rfl)
theorem dX9_solves_10 : decode cX9_solves 10 = .ok (.istore_n 3, 1) := dk_62 (dk_at dksX9_solves_0 10 rfl rfl)
theorem dX9_solves_11 : decode cX9_solves 11 = .ok (.iload_n 3, 1) := dk_29 (dk_at dksX9_solves_0 11 rfl rfl)
theorem dX9_solves_12 : decode cX9_solves 12 = .ok (.iconst 1, 1) := dk_4 (dk_at dksX9_solves_0 12 rfl rfl)
theorem dX9_solves_13 : decode cX9_solves 13 = .ok (.if_icmp .ne 67, 3) := dk_160 0 67 (dk_at dksX9_solves_0 13 rfl rfl)
theorem dX9_solves_16 : decode cX9_solves 16 = .ok (.aload_n 0, 1) := dk_42 (dk_at dksX9_solves_0 16 rfl rfl)
theorem dX9_solves_17 : decode cX9_solves 17 = .ok (.aload_n 1, 1) := dk_43 (dk_at dksX9_solves_0 17 rfl rfl)
theorem dX9_solves_18 : decode cX9_solves 18 = .ok (.invokevirtual 294, 3) := dk_182 1 38 (dk_at dksX9_solves_0 18 rfl rfl)
theorem dX9_solves_21 : decode cX9_solves 21 = .ok (.istore 4, 2) := dk_54 4 (dk_at dksX9_solves_0 21 rfl rfl)
theorem dX9_solves_23 : decode cX9_solves 23 = .ok (.aload_n 1, 1) := dk_43 (dk_at dksX9_solves_0 23 rfl rfl)
theorem dX9_solves_24 : decode cX9_solves 24 = .ok (.iload 4, 2) := dk_21 4 (dk_at dksX9_solves_1 0 rfl rfl)
theorem dX9_solves_26 : decode cX9_solves 26 = .ok (.ifCond .ge 7, 3) := dk_156 0 7 (dk_at dksX9_solves_1 2 rfl rfl)
theorem dX9_solves_29 : decode cX9_solves 29 = .ok (.iconst 1, 1) := dk_4 (dk_at dksX9_solves_1 5 rfl rfl)
theorem dX9_solves_30 : decode cX9_solves 30 = .ok (.goto 4, 3) := dk_167 0 4 (dk_at dksX9_solves_1 6 rfl rfl)
theorem dX9_solves_33 : decode cX9_solves 33 = .ok (.iconst 0, 1) := dk_3 (dk_at dksX9_solves_1 9 rfl rfl)
theorem dX9_solves_34 : decode cX9_solves 34 = .ok (.putfield 200, 3) := dk_181 0 200 (dk_at dksX9_solves_1 10 rfl rfl)
theorem dX9_solves_37 : decode cX9_solves 37 = .ok (.aload_n 1, 1) := dk_43 (dk_at dksX9_solves_1 13 rfl rfl)
theorem dX9_solves_38 : decode cX9_solves 38 = .ok (.getfield 200, 3) := dk_180 0 200 (dk_at dksX9_solves_1 14 rfl rfl)
theorem dX9_solves_41 : decode cX9_solves 41 = .ok (.ifCond .eq 5, 3) := dk_153 0 5 (dk_at dksX9_solves_1 17 rfl rfl)
theorem dX9_solves_44 : decode cX9_solves 44 = .ok (.iconst 1, 1) := dk_4 (dk_at dksX9_solves_1 20 rfl rfl)
theorem dX9_solves_45 : decode cX9_solves 45 = .ok (.ireturn, 1) := dk_172 (dk_at dksX9_solves_1 21 rfl rfl)
theorem dX9_solves_46 : decode cX9_solves 46 = .ok (.aload_n 1, 1) := dk_43 (dk_at dksX9_solves_1 22 rfl rfl)
theorem dX9_solves_47 : decode cX9_solves 47 = .ok (.getfield 187, 3) := dk_180 0 187 (dk_at dksX9_solves_2 0 rfl rfl)
theorem dX9_solves_50 : decode cX9_solves 50 = .ok (.iload_n 2, 1) := dk_28 (dk_at dksX9_solves_2 3 rfl rfl)
theorem dX9_solves_51 : decode cX9_solves 51 = .ok (.if_icmp .ne 5, 3) := dk_160 0 5 (dk_at dksX9_solves_2 4 rfl rfl)
theorem dX9_solves_54 : decode cX9_solves 54 = .ok (.iconst 2, 1) := dk_5 (dk_at dksX9_solves_2 7 rfl rfl)
theorem dX9_solves_55 : decode cX9_solves 55 = .ok (.ireturn, 1) := dk_172 (dk_at dksX9_solves_2 8 rfl rfl)
theorem dX9_solves_56 : decode cX9_solves 56 = .ok (.aload_n 0, 1) := dk_42 (dk_at dksX9_solves_2 9 rfl rfl)
theorem dX9_solves_57 : decode cX9_solves 57 = .ok (.aload_n 1, 1) := dk_43 (dk_at dksX9_solves_2 10 rfl rfl)
theorem dX9_solves_58 : decode cX9_solves 58 = .ok (.iload 4, 2) := dk_21 4 (dk_at dksX9_solves_2 11 rfl rfl)
theorem dX9_solves_60 : decode cX9_solves 60 = .ok (.invokevirtual 297, 3) := dk_182 1 41 (dk_at dksX9_solves_2 13 rfl rfl)
theorem dX9_solves_63 : decode cX9_solves 63 = .ok (.ifCond .eq 11, 3) := dk_153 0 11 (dk_at dksX9_solves_2 16 rfl rfl)
theorem dX9_solves_66 : decode cX9_solves 66 = .ok (.aload_n 0, 1) := dk_42 (dk_at dksX9_solves_2 19 rfl rfl)
theorem dX9_solves_67 : decode cX9_solves 67 = .ok (.aload_n 1, 1) := dk_43 (dk_at dksX9_solves_2 20 rfl rfl)
theorem dX9_solves_68 : decode cX9_solves 68 = .ok (.invokevirtual 290, 3) := dk_182 1 34 (dk_at dksX9_solves_2 21 rfl rfl)
theorem dX9_solves_71 : decode cX9_solves 71 = .ok (.goto 5, 3) := dk_167 0 5 (dk_at dksX9_solves_3 0 rfl rfl)
theorem dX9_solves_74 : decode cX9_solves 74 = .ok (.bipush (-6), 2) := dk_16 250 (dk_at dksX9_solves_3 3 rfl rfl)
theorem dX9_solves_76 : decode cX9_solves 76 = .ok (.istore_n 3, 1) := dk_62 (dk_at dksX9_solves_3 5 rfl rfl)
theorem dX9_solves_77 : decode cX9_solves 77 = .ok (.goto (-66), 3) := dk_167 255 190 (dk_at dksX9_solves_3 6 rfl rfl)
theorem dX9_solves_80 : decode cX9_solves 80 = .ok (.iload_n 3, 1) := dk_29 (dk_at dksX9_solves_3 9 rfl rfl)
theorem dX9_solves_81 : decode cX9_solves 81 = .ok (.ireturn, 1) := dk_172 (dk_at dksX9_solves_3 10 rfl rfl)
abbrev cX9_first : ByteArray := prog_19_method_31_code
def yX9_first : MethodName := ⟨RX9, "first", "(LWholePacksModel$Table;)V"⟩
def dkwX9_first_6 : List UInt8 := [132, 2, 1, 167, 255, 197, 177]
abbrev dktX9_first_6 : List UInt8 := dkwX9_first_6 ++ []
def dkwX9_first_5 : List UInt8 := [43, 180, 0, 175, 8, 28, 104, 29, 96, 42, 28, 29, 182, 0, 217, 80, 132, 3, 1, 167, 255, 229]
abbrev dktX9_first_5 : List UInt8 := dkwX9_first_5 ++ dktX9_first_6
def dkwX9_first_4 : List UInt8 := [42, 43, 16, 10, 28, 96, 42, 28, 182, 0, 209, 182, 0, 213, 3, 62, 29, 42, 182, 0, 89, 162, 0, 25]
abbrev dktX9_first_4 : List UInt8 := dkwX9_first_4 ++ dktX9_first_5
def dkwX9_first_3 : List UInt8 := [180, 0, 206, 28, 28, 79, 132, 2, 1, 167, 255, 222, 3, 61, 28, 42, 180, 0, 11, 4, 46, 162, 0, 55]
abbrev dktX9_first_3 : List UInt8 := dkwX9_first_3 ++ dktX9_first_4
def dkwX9_first_2 : List UInt8 := [182, 0, 89, 162, 0, 32, 43, 180, 0, 203, 28, 42, 180, 0, 11, 16, 7, 28, 96, 46, 133, 80, 43]
abbrev dktX9_first_2 : List UInt8 := dkwX9_first_2 ++ dktX9_first_3
def dkwX9_first_1 : List UInt8 := [9, 181, 0, 193, 43, 10, 181, 0, 197, 43, 4, 181, 0, 85, 43, 3, 181, 0, 200, 3, 61, 28, 42]
abbrev dktX9_first_1 : List UInt8 := dkwX9_first_1 ++ dktX9_first_2
def dkwX9_first_0 : List UInt8 := [43, 42, 182, 0, 89, 181, 0, 172, 43, 3, 181, 0, 178, 43, 3, 181, 0, 187, 43, 3, 181, 0, 190, 43]
abbrev dktX9_first_0 : List UInt8 := dkwX9_first_0 ++ dktX9_first_1
theorem dksX9_first_0 : cX9_first.data.toList.drop 0 = dktX9_first_0 := by decide +kernel
theorem dksX9_first_1 : cX9_first.data.toList.drop 24 = dktX9_first_1 := dk_seg dksX9_first_0 24 rfl rfl
theorem dksX9_first_2 : cX9_first.data.toList.drop 47 = dktX9_first_2 := dk_seg dksX9_first_1 23 rfl rfl
theorem dksX9_first_3 : cX9_first.data.toList.drop 70 = dktX9_first_3 := dk_seg dksX9_first_2 23 rfl rfl
theorem dksX9_first_4 : cX9_first.data.toList.drop 94 = dktX9_first_4 := dk_seg dksX9_first_3 24 rfl rfl
theorem dksX9_first_5 : cX9_first.data.toList.drop 118 = dktX9_first_5 := dk_seg dksX9_first_4 24 rfl rfl
theorem dksX9_first_6 : cX9_first.data.toList.drop 140 = dktX9_first_6 := dk_seg dksX9_first_5 22 rfl rfl
theorem dX9_first_0 : decode cX9_first 0 = .ok (.aload_n 1, 1) := dk_43 (dk_at dksX9_first_0 0 rfl rfl)
theorem dX9_first_1 : decode cX9_first 1 = .ok (.aload_n 0, 1) := dk_42 (dk_at dksX9_first_0 1 rfl rfl)
theorem dX9_first_2 : decode cX9_first 2 = .ok (.invokevirtual 89, 3) := dk_182 0 89 (dk_at dksX9_first_0 2 rfl rfl)
theorem dX9_first_5 : decode cX9_first 5 = .ok (.putfield 172, 3) := dk_181 0 172 (dk_at dksX9_first_0 5 rfl rfl)
theorem dX9_first_8 : decode cX9_first 8 = .ok (.aload_n 1, 1) := dk_43 (dk_at dksX9_first_0 8 rfl rfl)
theorem dX9_first_9 : decode cX9_first 9 = .ok (.iconst 0, 1) := dk_3 (dk_at dksX9_first_0 9 rfl rfl)
theorem dX9_first_10 : decode cX9_first 10 = .ok (.putfield 178, 3) := dk_181 0 178 (dk_at dksX9_first_0 10 rfl rfl)
theorem dX9_first_13 : decode cX9_first 13 = .ok (.aload_n 1, 1) := dk_43 (dk_at dksX9_first_0 13 rfl rfl)
theorem dX9_first_14 : decode cX9_first 14 = .ok (.iconst 0, 1) := dk_3 (dk_at dksX9_first_0 14 rfl rfl)
theorem dX9_first_15 : decode cX9_first 15 = .ok (.putfield 187, 3) := dk_181 0 187 (dk_at dksX9_first_0 15 rfl rfl)
theorem dX9_first_18 : decode cX9_first 18 = .ok (.aload_n 1, 1) := dk_43 (dk_at dksX9_first_0 18 rfl rfl)
theorem dX9_first_19 : decode cX9_first 19 = .ok (.iconst 0, 1) := dk_3 (dk_at dksX9_first_0 19 rfl rfl)
theorem dX9_first_20 : decode cX9_first 20 = .ok (.putfield 190, 3) := dk_181 0 190 (dk_at dksX9_first_0 20 rfl rfl)
theorem dX9_first_23 : decode cX9_first 23 = .ok (.aload_n 1, 1) := dk_43 (dk_at dksX9_first_0 23 rfl rfl)
theorem dX9_first_24 : decode cX9_first 24 = .ok (.lconst 0, 1) := dk_9 (dk_at dksX9_first_1 0 rfl rfl)
theorem dX9_first_25 : decode cX9_first 25 = .ok (.putfield 193, 3) := dk_181 0 193 (dk_at dksX9_first_1 1 rfl rfl)
theorem dX9_first_28 : decode cX9_first 28 = .ok (.aload_n 1, 1) := dk_43 (dk_at dksX9_first_1 4 rfl rfl)
theorem dX9_first_29 : decode cX9_first 29 = .ok (.lconst 1, 1) := dk_10 (dk_at dksX9_first_1 5 rfl rfl)
theorem dX9_first_30 : decode cX9_first 30 = .ok (.putfield 197, 3) := dk_181 0 197 (dk_at dksX9_first_1 6 rfl rfl)
theorem dX9_first_33 : decode cX9_first 33 = .ok (.aload_n 1, 1) := dk_43 (dk_at dksX9_first_1 9 rfl rfl)
theorem dX9_first_34 : decode cX9_first 34 = .ok (.iconst 1, 1) := dk_4 (dk_at dksX9_first_1 10 rfl rfl)
theorem dX9_first_35 : decode cX9_first 35 = .ok (.putfield 85, 3) := dk_181 0 85 (dk_at dksX9_first_1 11 rfl rfl)
theorem dX9_first_38 : decode cX9_first 38 = .ok (.aload_n 1, 1) := dk_43 (dk_at dksX9_first_1 14 rfl rfl)
theorem dX9_first_39 : decode cX9_first 39 = .ok (.iconst 0, 1) := dk_3 (dk_at dksX9_first_1 15 rfl rfl)
theorem dX9_first_40 : decode cX9_first 40 = .ok (.putfield 200, 3) := dk_181 0 200 (dk_at dksX9_first_1 16 rfl rfl)
theorem dX9_first_43 : decode cX9_first 43 = .ok (.iconst 0, 1) := dk_3 (dk_at dksX9_first_1 19 rfl rfl)
theorem dX9_first_44 : decode cX9_first 44 = .ok (.istore_n 2, 1) := dk_61 (dk_at dksX9_first_1 20 rfl rfl)
theorem dX9_first_45 : decode cX9_first 45 = .ok (.iload_n 2, 1) := dk_28 (dk_at dksX9_first_1 21 rfl rfl)
theorem dX9_first_46 : decode cX9_first 46 = .ok (.aload_n 0, 1) := dk_42 (dk_at dksX9_first_1 22 rfl rfl)
theorem dX9_first_47 : decode cX9_first 47 = .ok (.invokevirtual 89, 3) := dk_182 0 89 (dk_at dksX9_first_2 0 rfl rfl)
theorem dX9_first_50 : decode cX9_first 50 = .ok (.if_icmp .ge 32, 3) := dk_162 0 32 (dk_at dksX9_first_2 3 rfl rfl)
theorem dX9_first_53 : decode cX9_first 53 = .ok (.aload_n 1, 1) := dk_43 (dk_at dksX9_first_2 6 rfl rfl)
theorem dX9_first_54 : decode cX9_first 54 = .ok (.getfield 203, 3) := dk_180 0 203 (dk_at dksX9_first_2 7 rfl rfl)
theorem dX9_first_57 : decode cX9_first 57 = .ok (.iload_n 2, 1) := dk_28 (dk_at dksX9_first_2 10 rfl rfl)
theorem dX9_first_58 : decode cX9_first 58 = .ok (.aload_n 0, 1) := dk_42 (dk_at dksX9_first_2 11 rfl rfl)
theorem dX9_first_59 : decode cX9_first 59 = .ok (.getfield 11, 3) := dk_180 0 11 (dk_at dksX9_first_2 12 rfl rfl)
theorem dX9_first_62 : decode cX9_first 62 = .ok (.bipush 7, 2) := dk_16 7 (dk_at dksX9_first_2 15 rfl rfl)
theorem dX9_first_64 : decode cX9_first 64 = .ok (.iload_n 2, 1) := dk_28 (dk_at dksX9_first_2 17 rfl rfl)
theorem dX9_first_65 : decode cX9_first 65 = .ok (.iadd, 1) := dk_96 (dk_at dksX9_first_2 18 rfl rfl)
theorem dX9_first_66 : decode cX9_first 66 = .ok (.iaload, 1) := dk_46 (dk_at dksX9_first_2 19 rfl rfl)
theorem dX9_first_67 : decode cX9_first 67 = .ok (.i2l, 1) := dk_133 (dk_at dksX9_first_2 20 rfl rfl)
theorem dX9_first_68 : decode cX9_first 68 = .ok (.lastore, 1) := dk_80 (dk_at dksX9_first_2 21 rfl rfl)
theorem dX9_first_69 : decode cX9_first 69 = .ok (.aload_n 1, 1) := dk_43 (dk_at dksX9_first_2 22 rfl rfl)
theorem dX9_first_70 : decode cX9_first 70 = .ok (.getfield 206, 3) := dk_180 0 206 (dk_at dksX9_first_3 0 rfl rfl)
theorem dX9_first_73 : decode cX9_first 73 = .ok (.iload_n 2, 1) := dk_28 (dk_at dksX9_first_3 3 rfl rfl)
theorem dX9_first_74 : decode cX9_first 74 = .ok (.iload_n 2, 1) := dk_28 (dk_at dksX9_first_3 4 rfl rfl)
theorem dX9_first_75 : decode cX9_first 75 = .ok (.iastore, 1) := dk_79 (dk_at dksX9_first_3 5 rfl rfl)
theorem dX9_first_76 : decode cX9_first 76 = .ok (.iinc 2 1, 3) := dk_132 2 1 (dk_at dksX9_first_3 6 rfl rfl)
theorem dX9_first_79 : decode cX9_first 79 = .ok (.goto (-34), 3) := dk_167 255 222 (dk_at dksX9_first_3 9 rfl rfl)
theorem dX9_first_82 : decode cX9_first 82 = .ok (.iconst 0, 1) := dk_3 (dk_at dksX9_first_3 12 rfl rfl)
theorem dX9_first_83 : decode cX9_first 83 = .ok (.istore_n 2, 1) := dk_61 (dk_at dksX9_first_3 13 rfl rfl)
theorem dX9_first_84 : decode cX9_first 84 = .ok (.iload_n 2, 1) := dk_28 (dk_at dksX9_first_3 14 rfl rfl)
theorem dX9_first_85 : decode cX9_first 85 = .ok (.aload_n 0, 1) := dk_42 (dk_at dksX9_first_3 15 rfl rfl)
theorem dX9_first_86 : decode cX9_first 86 = .ok (.getfield 11, 3) := dk_180 0 11 (dk_at dksX9_first_3 16 rfl rfl)
theorem dX9_first_89 : decode cX9_first 89 = .ok (.iconst 1, 1) := dk_4 (dk_at dksX9_first_3 19 rfl rfl)
theorem dX9_first_90 : decode cX9_first 90 = .ok (.iaload, 1) := dk_46 (dk_at dksX9_first_3 20 rfl rfl)
theorem dX9_first_91 : decode cX9_first 91 = .ok (.if_icmp .ge 55, 3) := dk_162 0 55 (dk_at dksX9_first_3 21 rfl rfl)
theorem dX9_first_94 : decode cX9_first 94 = .ok (.aload_n 0, 1) := dk_42 (dk_at dksX9_first_4 0 rfl rfl)
theorem dX9_first_95 : decode cX9_first 95 = .ok (.aload_n 1, 1) := dk_43 (dk_at dksX9_first_4 1 rfl rfl)
theorem dX9_first_96 : decode cX9_first 96 = .ok (.bipush 10, 2) := dk_16 10 (dk_at dksX9_first_4 2 rfl rfl)
theorem dX9_first_98 : decode cX9_first 98 = .ok (.iload_n 2, 1) := dk_28 (dk_at dksX9_first_4 4 rfl rfl)
theorem dX9_first_99 : decode cX9_first 99 = .ok (.iadd, 1) := dk_96 (dk_at dksX9_first_4 5 rfl rfl)
theorem dX9_first_100 : decode cX9_first 100 = .ok (.aload_n 0, 1) := dk_42 (dk_at dksX9_first_4 6 rfl rfl)
theorem dX9_first_101 : decode cX9_first 101 = .ok (.iload_n 2, 1) := dk_28 (dk_at dksX9_first_4 7 rfl rfl)
theorem dX9_first_102 : decode cX9_first 102 = .ok (.invokevirtual 209, 3) := dk_182 0 209 (dk_at dksX9_first_4 8 rfl rfl)
theorem dX9_first_105 : decode cX9_first 105 = .ok (.invokevirtual 213, 3) := dk_182 0 213 (dk_at dksX9_first_4 11 rfl rfl)
theorem dX9_first_108 : decode cX9_first 108 = .ok (.iconst 0, 1) := dk_3 (dk_at dksX9_first_4 14 rfl rfl)
theorem dX9_first_109 : decode cX9_first 109 = .ok (.istore_n 3, 1) := dk_62 (dk_at dksX9_first_4 15 rfl rfl)
theorem dX9_first_110 : decode cX9_first 110 = .ok (.iload_n 3, 1) := dk_29 (dk_at dksX9_first_4 16 rfl rfl)
theorem dX9_first_111 : decode cX9_first 111 = .ok (.aload_n 0, 1) := dk_42 (dk_at dksX9_first_4 17 rfl rfl)
theorem dX9_first_112 : decode cX9_first 112 = .ok (.invokevirtual 89, 3) := dk_182 0 89 (dk_at dksX9_first_4 18 rfl rfl)
theorem dX9_first_115 : decode cX9_first 115 = .ok (.if_icmp .ge 25, 3) := dk_162 0 25 (dk_at dksX9_first_4 21 rfl rfl)
theorem dX9_first_118 : decode cX9_first 118 = .ok (.aload_n 1, 1) := dk_43 (dk_at dksX9_first_5 0 rfl rfl)
theorem dX9_first_119 : decode cX9_first 119 = .ok (.getfield 175, 3) := dk_180 0 175 (dk_at dksX9_first_5 1 rfl rfl)
theorem dX9_first_122 : decode cX9_first 122 = .ok (.iconst 5, 1) := dk_8 (dk_at dksX9_first_5 4 rfl rfl)
theorem dX9_first_123 : decode cX9_first 123 = .ok (.iload_n 2, 1) := dk_28 (dk_at dksX9_first_5 5 rfl rfl)
theorem dX9_first_124 : decode cX9_first 124 = .ok (.imul, 1) := dk_104 (dk_at dksX9_first_5 6 rfl rfl)
theorem dX9_first_125 : decode cX9_first 125 = .ok (.iload_n 3, 1) := dk_29 (dk_at dksX9_first_5 7 rfl rfl)
theorem dX9_first_126 : decode cX9_first 126 = .ok (.iadd, 1) := dk_96 (dk_at dksX9_first_5 8 rfl rfl)
theorem dX9_first_127 : decode cX9_first 127 = .ok (.aload_n 0, 1) := dk_42 (dk_at dksX9_first_5 9 rfl rfl)
theorem dX9_first_128 : decode cX9_first 128 = .ok (.iload_n 2, 1) := dk_28 (dk_at dksX9_first_5 10 rfl rfl)
theorem dX9_first_129 : decode cX9_first 129 = .ok (.iload_n 3, 1) := dk_29 (dk_at dksX9_first_5 11 rfl rfl)
theorem dX9_first_130 : decode cX9_first 130 = .ok (.invokevirtual 217, 3) := dk_182 0 217 (dk_at dksX9_first_5 12 rfl rfl)
theorem dX9_first_133 : decode cX9_first 133 = .ok (.lastore, 1) := dk_80 (dk_at dksX9_first_5 15 rfl rfl)
theorem dX9_first_134 : decode cX9_first 134 = .ok (.iinc 3 1, 3) := dk_132 3 1 (dk_at dksX9_first_5 16 rfl rfl)
theorem dX9_first_137 : decode cX9_first 137 = .ok (.goto (-27), 3) := dk_167 255 229 (dk_at dksX9_first_5 19 rfl rfl)
theorem dX9_first_140 : decode cX9_first 140 = .ok (.iinc 2 1, 3) := dk_132 2 1 (dk_at dksX9_first_6 0 rfl rfl)
theorem dX9_first_143 : decode cX9_first 143 = .ok (.goto (-59), 3) := dk_167 255 197 (dk_at dksX9_first_6 3 rfl rfl)
theorem dX9_first_146 : decode cX9_first 146 = .ok (.return_, 1) := dk_177 (dk_at dksX9_first_6 6 rfl rfl)
abbrev cX9_limitOf : ByteArray := prog_19_method_11_code
def yX9_limitOf : MethodName := ⟨RX9, "limitOf", "(I)J"⟩
def dkwX9_limitOf_1 : List UInt8 := [173]
abbrev dktX9_limitOf_1 : List UInt8 := dkwX9_limitOf_1 ++ []
def dkwX9_limitOf_0 : List UInt8 := [42, 27, 182, 0, 97, 154, 0, 13, 42, 27, 182, 0, 105, 116, 133, 167, 0, 9, 42, 27, 182, 0, 105, 133]
abbrev dktX9_limitOf_0 : List UInt8 := dkwX9_limitOf_0 ++ dktX9_limitOf_1
theorem dksX9_limitOf_0 : cX9_limitOf.data.toList.drop 0 = dktX9_limitOf_0 := by decide +kernel
theorem dksX9_limitOf_1 : cX9_limitOf.data.toList.drop 24 = dktX9_limitOf_1 := dk_seg dksX9_limitOf_0 24 rfl rfl
theorem dX9_limitOf_0 : decode cX9_limitOf 0 = .ok (.aload_n 0, 1) := dk_42 (dk_at dksX9_limitOf_0 0 rfl rfl)
theorem dX9_limitOf_1 : decode cX9_limitOf 1 = .ok (.iload_n 1, 1) := dk_27 (dk_at dksX9_limitOf_0 1 rfl rfl)
theorem dX9_limitOf_2 : decode cX9_limitOf 2 = .ok (.invokevirtual 97, 3) := dk_182 0 97 (dk_at dksX9_limitOf_0 2 rfl rfl)
theorem dX9_limitOf_5 : decode cX9_limitOf 5 = .ok (.ifCond .ne 13, 3) := dk_154 0 13 (dk_at dksX9_limitOf_0 5 rfl rfl)
theorem dX9_limitOf_8 : decode cX9_limitOf 8 = .ok (.aload_n 0, 1) := dk_42 (dk_at dksX9_limitOf_0 8 rfl rfl)
theorem dX9_limitOf_9 : decode cX9_limitOf 9 = .ok (.iload_n 1, 1) := dk_27 (dk_at dksX9_limitOf_0 9 rfl rfl)
theorem dX9_limitOf_10 : decode cX9_limitOf 10 = .ok (.invokevirtual 105, 3) := dk_182 0 105 (dk_at dksX9_limitOf_0 10 rfl rfl)
theorem dX9_limitOf_13 : decode cX9_limitOf 13 = .ok (.ineg, 1) := dk_116 (dk_at dksX9_limitOf_0 13 rfl rfl)
theorem dX9_limitOf_14 : decode cX9_limitOf 14 = .ok (.i2l, 1) := dk_133 (dk_at dksX9_limitOf_0 14 rfl rfl)
theorem dX9_limitOf_15 : decode cX9_limitOf 15 = .ok (.goto 9, 3) := dk_167 0 9 (dk_at dksX9_limitOf_0 15 rfl rfl)
theorem dX9_limitOf_18 : decode cX9_limitOf 18 = .ok (.aload_n 0, 1) := dk_42 (dk_at dksX9_limitOf_0 18 rfl rfl)
theorem dX9_limitOf_19 : decode cX9_limitOf 19 = .ok (.iload_n 1, 1) := dk_27 (dk_at dksX9_limitOf_0 19 rfl rfl)
theorem dX9_limitOf_20 : decode cX9_limitOf 20 = .ok (.invokevirtual 105, 3) := dk_182 0 105 (dk_at dksX9_limitOf_0 20 rfl rfl)
theorem dX9_limitOf_23 : decode cX9_limitOf 23 = .ok (.i2l, 1) := dk_133 (dk_at dksX9_limitOf_0 23 rfl rfl)
theorem dX9_limitOf_24 : decode cX9_limitOf 24 = .ok (.lreturn, 1) := dk_173 (dk_at dksX9_limitOf_1 0 rfl rfl)
abbrev cX9_sortOf : ByteArray := prog_19_method_7_code
def yX9_sortOf : MethodName := ⟨RX9, "sortOf", "(I)I"⟩
def dkwX9_sortOf_0 : List UInt8 := [42, 180, 0, 11, 16, 12, 16, 7, 27, 104, 96, 46, 172]
abbrev dktX9_sortOf_0 : List UInt8 := dkwX9_sortOf_0 ++ []
theorem dksX9_sortOf_0 : cX9_sortOf.data.toList.drop 0 = dktX9_sortOf_0 := by decide +kernel
theorem dX9_sortOf_0 : decode cX9_sortOf 0 = .ok (.aload_n 0, 1) := dk_42 (dk_at dksX9_sortOf_0 0 rfl rfl)
theorem dX9_sortOf_1 : decode cX9_sortOf 1 = .ok (.getfield 11, 3) := dk_180 0 11 (dk_at dksX9_sortOf_0 1 rfl rfl)
theorem dX9_sortOf_4 : decode cX9_sortOf 4 = .ok (.bipush 12, 2) := dk_16 12 (dk_at dksX9_sortOf_0 4 rfl rfl)
theorem dX9_sortOf_6 : decode cX9_sortOf 6 = .ok (.bipush 7, 2) := dk_16 7 (dk_at dksX9_sortOf_0 6 rfl rfl)
theorem dX9_sortOf_8 : decode cX9_sortOf 8 = .ok (.iload_n 1, 1) := dk_27 (dk_at dksX9_sortOf_0 8 rfl rfl)
theorem dX9_sortOf_9 : decode cX9_sortOf 9 = .ok (.imul, 1) := dk_104 (dk_at dksX9_sortOf_0 9 rfl rfl)
theorem dX9_sortOf_10 : decode cX9_sortOf 10 = .ok (.iadd, 1) := dk_96 (dk_at dksX9_sortOf_0 10 rfl rfl)
theorem dX9_sortOf_11 : decode cX9_sortOf 11 = .ok (.iaload, 1) := dk_46 (dk_at dksX9_sortOf_0 11 rfl rfl)
theorem dX9_sortOf_12 : decode cX9_sortOf 12 = .ok (.ireturn, 1) := dk_172 (dk_at dksX9_sortOf_0 12 rfl rfl)
abbrev cX9_addsRow : ByteArray := prog_19_method_30_code
def yX9_addsRow : MethodName := ⟨RX9, "addsRow", "(LWholePacksModel$Table;IJ)V"⟩
def dkwX9_addsRow_2 : List UInt8 := [180, 0, 178, 33, 80, 43, 89, 180, 0, 178, 4, 96, 181, 0, 178, 177]
abbrev dktX9_addsRow_2 : List UInt8 := dkwX9_addsRow_2 ++ []
def dkwX9_addsRow_1 : List UInt8 := [96, 9, 80, 132, 5, 1, 167, 255, 229, 43, 180, 0, 181, 43, 180, 0, 178, 28, 79, 43, 180, 0, 184, 43]
abbrev dktX9_addsRow_1 : List UInt8 := dkwX9_addsRow_1 ++ dktX9_addsRow_2
def dkwX9_addsRow_0 : List UInt8 := [3, 54, 5, 21, 5, 43, 180, 0, 172, 162, 0, 24, 43, 180, 0, 175, 8, 43, 180, 0, 178, 104, 21, 5]
abbrev dktX9_addsRow_0 : List UInt8 := dkwX9_addsRow_0 ++ dktX9_addsRow_1
theorem dksX9_addsRow_0 : cX9_addsRow.data.toList.drop 0 = dktX9_addsRow_0 := by decide +kernel
theorem dksX9_addsRow_1 : cX9_addsRow.data.toList.drop 24 = dktX9_addsRow_1 := dk_seg dksX9_addsRow_0 24 rfl rfl
theorem dksX9_addsRow_2 : cX9_addsRow.data.toList.drop 48 = dktX9_addsRow_2 := dk_seg dksX9_addsRow_1 24 rfl rfl
theorem dX9_addsRow_0 : decode cX9_addsRow 0 = .ok (.iconst 0, 1) := dk_3 (dk_at dksX9_addsRow_0 0 rfl rfl)
theorem dX9_addsRow_1 : decode cX9_addsRow 1 = .ok (.istore 5, 2) := dk_54 5 (dk_at dksX9_addsRow_0 1 rfl rfl)
theorem dX9_addsRow_3 : decode cX9_addsRow 3 = .ok (.iload 5, 2) := dk_21 5 (dk_at dksX9_addsRow_0 3 rfl rfl)
theorem dX9_addsRow_5 : decode cX9_addsRow 5 = .ok (.aload_n 1, 1) := dk_43 (dk_at dksX9_addsRow_0 5 rfl rfl)
theorem dX9_addsRow_6 : decode cX9_addsRow 6 = .ok (.getfield 172, 3) := dk_180 0 172 (dk_at dksX9_addsRow_0 6 rfl rfl)
theorem dX9_addsRow_9 : decode cX9_addsRow 9 = .ok (.if_icmp .ge 24, 3) := dk_162 0 24 (dk_at dksX9_addsRow_0 9 rfl rfl)
theorem dX9_addsRow_12 : decode cX9_addsRow 12 = .ok (.aload_n 1, 1) := dk_43 (dk_at dksX9_addsRow_0 12 rfl rfl)
theorem dX9_addsRow_13 : decode cX9_addsRow 13 = .ok (.getfield 175, 3) := dk_180 0 175 (dk_at dksX9_addsRow_0 13 rfl rfl)
theorem dX9_addsRow_16 : decode cX9_addsRow 16 = .ok (.iconst 5, 1) := dk_8 (dk_at dksX9_addsRow_0 16 rfl rfl)
theorem dX9_addsRow_17 : decode cX9_addsRow 17 = .ok (.aload_n 1, 1) := dk_43 (dk_at dksX9_addsRow_0 17 rfl rfl)
theorem dX9_addsRow_18 : decode cX9_addsRow 18 = .ok (.getfield 178, 3) := dk_180 0 178 (dk_at dksX9_addsRow_0 18 rfl rfl)
theorem dX9_addsRow_21 : decode cX9_addsRow 21 = .ok (.imul, 1) := dk_104 (dk_at dksX9_addsRow_0 21 rfl rfl)
theorem dX9_addsRow_22 : decode cX9_addsRow 22 = .ok (.iload 5, 2) := dk_21 5 (dk_at dksX9_addsRow_0 22 rfl rfl)
theorem dX9_addsRow_24 : decode cX9_addsRow 24 = .ok (.iadd, 1) := dk_96 (dk_at dksX9_addsRow_1 0 rfl rfl)
theorem dX9_addsRow_25 : decode cX9_addsRow 25 = .ok (.lconst 0, 1) := dk_9 (dk_at dksX9_addsRow_1 1 rfl rfl)
theorem dX9_addsRow_26 : decode cX9_addsRow 26 = .ok (.lastore, 1) := dk_80 (dk_at dksX9_addsRow_1 2 rfl rfl)
theorem dX9_addsRow_27 : decode cX9_addsRow 27 = .ok (.iinc 5 1, 3) := dk_132 5 1 (dk_at dksX9_addsRow_1 3 rfl rfl)
theorem dX9_addsRow_30 : decode cX9_addsRow 30 = .ok (.goto (-27), 3) := dk_167 255 229 (dk_at dksX9_addsRow_1 6 rfl rfl)
theorem dX9_addsRow_33 : decode cX9_addsRow 33 = .ok (.aload_n 1, 1) := dk_43 (dk_at dksX9_addsRow_1 9 rfl rfl)
theorem dX9_addsRow_34 : decode cX9_addsRow 34 = .ok (.getfield 181, 3) := dk_180 0 181 (dk_at dksX9_addsRow_1 10 rfl rfl)
theorem dX9_addsRow_37 : decode cX9_addsRow 37 = .ok (.aload_n 1, 1) := dk_43 (dk_at dksX9_addsRow_1 13 rfl rfl)
theorem dX9_addsRow_38 : decode cX9_addsRow 38 = .ok (.getfield 178, 3) := dk_180 0 178 (dk_at dksX9_addsRow_1 14 rfl rfl)
theorem dX9_addsRow_41 : decode cX9_addsRow 41 = .ok (.iload_n 2, 1) := dk_28 (dk_at dksX9_addsRow_1 17 rfl rfl)
theorem dX9_addsRow_42 : decode cX9_addsRow 42 = .ok (.iastore, 1) := dk_79 (dk_at dksX9_addsRow_1 18 rfl rfl)
theorem dX9_addsRow_43 : decode cX9_addsRow 43 = .ok (.aload_n 1, 1) := dk_43 (dk_at dksX9_addsRow_1 19 rfl rfl)
theorem dX9_addsRow_44 : decode cX9_addsRow 44 = .ok (.getfield 184, 3) := dk_180 0 184 (dk_at dksX9_addsRow_1 20 rfl rfl)
theorem dX9_addsRow_47 : decode cX9_addsRow 47 = .ok (.aload_n 1, 1) := dk_43 (dk_at dksX9_addsRow_1 23 rfl rfl)
theorem dX9_addsRow_48 : decode cX9_addsRow 48 = .ok (.getfield 178, 3) := dk_180 0 178 (dk_at dksX9_addsRow_2 0 rfl rfl)
theorem dX9_addsRow_51 : decode cX9_addsRow 51 = .ok (.lload_n 3, 1) := dk_33 (dk_at dksX9_addsRow_2 3 rfl rfl)
theorem dX9_addsRow_52 : decode cX9_addsRow 52 = .ok (.lastore, 1) := dk_80 (dk_at dksX9_addsRow_2 4 rfl rfl)
theorem dX9_addsRow_53 : decode cX9_addsRow 53 = .ok (.aload_n 1, 1) := dk_43 (dk_at dksX9_addsRow_2 5 rfl rfl)
theorem dX9_addsRow_54 : decode cX9_addsRow 54 = .ok (.dup, 1) := dk_89 (dk_at dksX9_addsRow_2 6 rfl rfl)
theorem dX9_addsRow_55 : decode cX9_addsRow 55 = .ok (.getfield 178, 3) := dk_180 0 178 (dk_at dksX9_addsRow_2 7 rfl rfl)
theorem dX9_addsRow_58 : decode cX9_addsRow 58 = .ok (.iconst 1, 1) := dk_4 (dk_at dksX9_addsRow_2 10 rfl rfl)
theorem dX9_addsRow_59 : decode cX9_addsRow 59 = .ok (.iadd, 1) := dk_96 (dk_at dksX9_addsRow_2 11 rfl rfl)
theorem dX9_addsRow_60 : decode cX9_addsRow 60 = .ok (.putfield 178, 3) := dk_181 0 178 (dk_at dksX9_addsRow_2 12 rfl rfl)
theorem dX9_addsRow_63 : decode cX9_addsRow 63 = .ok (.return_, 1) := dk_177 (dk_at dksX9_addsRow_2 15 rfl rfl)
abbrev cX9_pointOf : ByteArray := prog_19_method_10_code
def yX9_pointOf : MethodName := ⟨RX9, "pointOf", "(II)J"⟩
def dkwX9_pointOf_1 : List UInt8 := [182, 0, 101, 133, 173]
abbrev dktX9_pointOf_1 : List UInt8 := dkwX9_pointOf_1 ++ []
def dkwX9_pointOf_0 : List UInt8 := [42, 27, 182, 0, 97, 154, 0, 14, 42, 27, 28, 182, 0, 101, 116, 133, 167, 0, 10, 42, 27, 28]
abbrev dktX9_pointOf_0 : List UInt8 := dkwX9_pointOf_0 ++ dktX9_pointOf_1
theorem dksX9_pointOf_0 : cX9_pointOf.data.toList.drop 0 = dktX9_pointOf_0 := by decide +kernel
theorem dksX9_pointOf_1 : cX9_pointOf.data.toList.drop 22 = dktX9_pointOf_1 := dk_seg dksX9_pointOf_0 22 rfl rfl
theorem dX9_pointOf_0 : decode cX9_pointOf 0 = .ok (.aload_n 0, 1) := dk_42 (dk_at dksX9_pointOf_0 0 rfl rfl)
theorem dX9_pointOf_1 : decode cX9_pointOf 1 = .ok (.iload_n 1, 1) := dk_27 (dk_at dksX9_pointOf_0 1 rfl rfl)
theorem dX9_pointOf_2 : decode cX9_pointOf 2 = .ok (.invokevirtual 97, 3) := dk_182 0 97 (dk_at dksX9_pointOf_0 2 rfl rfl)
theorem dX9_pointOf_5 : decode cX9_pointOf 5 = .ok (.ifCond .ne 14, 3) := dk_154 0 14 (dk_at dksX9_pointOf_0 5 rfl rfl)
theorem dX9_pointOf_8 : decode cX9_pointOf 8 = .ok (.aload_n 0, 1) := dk_42 (dk_at dksX9_pointOf_0 8 rfl rfl)
theorem dX9_pointOf_9 : decode cX9_pointOf 9 = .ok (.iload_n 1, 1) := dk_27 (dk_at dksX9_pointOf_0 9 rfl rfl)
theorem dX9_pointOf_10 : decode cX9_pointOf 10 = .ok (.iload_n 2, 1) := dk_28 (dk_at dksX9_pointOf_0 10 rfl rfl)
theorem dX9_pointOf_11 : decode cX9_pointOf 11 = .ok (.invokevirtual 101, 3) := dk_182 0 101 (dk_at dksX9_pointOf_0 11 rfl rfl)
theorem dX9_pointOf_14 : decode cX9_pointOf 14 = .ok (.ineg, 1) := dk_116 (dk_at dksX9_pointOf_0 14 rfl rfl)
theorem dX9_pointOf_15 : decode cX9_pointOf 15 = .ok (.i2l, 1) := dk_133 (dk_at dksX9_pointOf_0 15 rfl rfl)
theorem dX9_pointOf_16 : decode cX9_pointOf 16 = .ok (.goto 10, 3) := dk_167 0 10 (dk_at dksX9_pointOf_0 16 rfl rfl)
theorem dX9_pointOf_19 : decode cX9_pointOf 19 = .ok (.aload_n 0, 1) := dk_42 (dk_at dksX9_pointOf_0 19 rfl rfl)
theorem dX9_pointOf_20 : decode cX9_pointOf 20 = .ok (.iload_n 1, 1) := dk_27 (dk_at dksX9_pointOf_0 20 rfl rfl)
theorem dX9_pointOf_21 : decode cX9_pointOf 21 = .ok (.iload_n 2, 1) := dk_28 (dk_at dksX9_pointOf_0 21 rfl rfl)
theorem dX9_pointOf_22 : decode cX9_pointOf 22 = .ok (.invokevirtual 101, 3) := dk_182 0 101 (dk_at dksX9_pointOf_1 0 rfl rfl)
theorem dX9_pointOf_25 : decode cX9_pointOf 25 = .ok (.i2l, 1) := dk_133 (dk_at dksX9_pointOf_1 3 rfl rfl)
theorem dX9_pointOf_26 : decode cX9_pointOf 26 = .ok (.lreturn, 1) := dk_173 (dk_at dksX9_pointOf_1 4 rfl rfl)
abbrev cX9_repairs : ByteArray := prog_19_method_36_code
def yX9_repairs : MethodName := ⟨RX9, "repairs", "(LWholePacksModel$Table;)I"⟩
def dkwX9_repairs_3 : List UInt8 := [180, 0, 190, 16, 60, 159, 0, 13, 42, 43, 28, 29, 182, 0, 248, 154, 0, 6, 16, 250, 172, 167, 255, 164]
abbrev dktX9_repairs_3 : List UInt8 := dkwX9_repairs_3 ++ []
def dkwX9_repairs_2 : List UInt8 := [167, 255, 212, 28, 156, 0, 5, 4, 172, 42, 43, 28, 182, 0, 244, 62, 29, 156, 0, 5, 3, 172, 43]
abbrev dktX9_repairs_2 : List UInt8 := dkwX9_repairs_2 ++ dktX9_repairs_3
def dkwX9_repairs_1 : List UInt8 := [155, 0, 19, 43, 180, 0, 184, 29, 47, 43, 180, 0, 184, 28, 47, 148, 156, 0, 5, 29, 61, 132, 3, 1]
abbrev dktX9_repairs_1 : List UInt8 := dkwX9_repairs_1 ++ dktX9_repairs_2
def dkwX9_repairs_0 : List UInt8 := [2, 61, 3, 62, 29, 43, 180, 0, 178, 162, 0, 42, 43, 180, 0, 184, 29, 47, 9, 148, 156, 0, 25, 28]
abbrev dktX9_repairs_0 : List UInt8 := dkwX9_repairs_0 ++ dktX9_repairs_1
theorem dksX9_repairs_0 : cX9_repairs.data.toList.drop 0 = dktX9_repairs_0 := by decide +kernel
theorem dksX9_repairs_1 : cX9_repairs.data.toList.drop 24 = dktX9_repairs_1 := dk_seg dksX9_repairs_0 24 rfl rfl
theorem dksX9_repairs_2 : cX9_repairs.data.toList.drop 48 = dktX9_repairs_2 := dk_seg dksX9_repairs_1 24 rfl rfl
theorem dksX9_repairs_3 : cX9_repairs.data.toList.drop 71 = dktX9_repairs_3 := dk_seg dksX9_repairs_2 23 rfl rfl
theorem dX9_repairs_0 : decode cX9_repairs 0 = .ok (.iconst (-1), 1) := dk_2 (dk_at dksX9_repairs_0 0 rfl rfl)
theorem dX9_repairs_1 : decode cX9_repairs 1 = .ok (.istore_n 2, 1) := dk_61 (dk_at dksX9_repairs_0 1 rfl rfl)
theorem dX9_repairs_2 : decode cX9_repairs 2 = .ok (.iconst 0, 1) := dk_3 (dk_at dksX9_repairs_0 2 rfl rfl)
theorem dX9_repairs_3 : decode cX9_repairs 3 = .ok (.istore_n 3, 1) := dk_62 (dk_at dksX9_repairs_0 3 rfl rfl)
theorem dX9_repairs_4 : decode cX9_repairs 4 = .ok (.iload_n 3, 1) := dk_29 (dk_at dksX9_repairs_0 4 rfl rfl)
theorem dX9_repairs_5 : decode cX9_repairs 5 = .ok (.aload_n 1, 1) := dk_43 (dk_at dksX9_repairs_0 5 rfl rfl)
theorem dX9_repairs_6 : decode cX9_repairs 6 = .ok (.getfield 178, 3) := dk_180 0 178 (dk_at dksX9_repairs_0 6 rfl rfl)
theorem dX9_repairs_9 : decode cX9_repairs 9 = .ok (.if_icmp .ge 42, 3) := dk_162 0 42 (dk_at dksX9_repairs_0 9 rfl rfl)
theorem dX9_repairs_12 : decode cX9_repairs 12 = .ok (.aload_n 1, 1) := dk_43 (dk_at dksX9_repairs_0 12 rfl rfl)
theorem dX9_repairs_13 : decode cX9_repairs 13 = .ok (.getfield 184, 3) := dk_180 0 184 (dk_at dksX9_repairs_0 13 rfl rfl)
theorem dX9_repairs_16 : decode cX9_repairs 16 = .ok (.iload_n 3, 1) := dk_29 (dk_at dksX9_repairs_0 16 rfl rfl)
theorem dX9_repairs_17 : decode cX9_repairs 17 = .ok (.laload, 1) := dk_47 (dk_at dksX9_repairs_0 17 rfl rfl)
theorem dX9_repairs_18 : decode cX9_repairs 18 = .ok (.lconst 0, 1) := dk_9 (dk_at dksX9_repairs_0 18 rfl rfl)
theorem dX9_repairs_19 : decode cX9_repairs 19 = .ok (.lcmp, 1) := dk_148 (dk_at dksX9_repairs_0 19 rfl rfl)
theorem dX9_repairs_20 : decode cX9_repairs 20 = .ok (.ifCond .ge 25, 3) := dk_156 0 25 (dk_at dksX9_repairs_0 20 rfl rfl)
theorem dX9_repairs_23 : decode cX9_repairs 23 = .ok (.iload_n 2, 1) := dk_28 (dk_at dksX9_repairs_0 23 rfl rfl)
theorem dX9_repairs_24 : decode cX9_repairs 24 = .ok (.ifCond .lt 19, 3) := dk_155 0 19 (dk_at dksX9_repairs_1 0 rfl rfl)
theorem dX9_repairs_27 : decode cX9_repairs 27 = .ok (.aload_n 1, 1) := dk_43 (dk_at dksX9_repairs_1 3 rfl rfl)
theorem dX9_repairs_28 : decode cX9_repairs 28 = .ok (.getfield 184, 3) := dk_180 0 184 (dk_at dksX9_repairs_1 4 rfl rfl)
theorem dX9_repairs_31 : decode cX9_repairs 31 = .ok (.iload_n 3, 1) := dk_29 (dk_at dksX9_repairs_1 7 rfl rfl)
theorem dX9_repairs_32 : decode cX9_repairs 32 = .ok (.laload, 1) := dk_47 (dk_at dksX9_repairs_1 8 rfl rfl)
theorem dX9_repairs_33 : decode cX9_repairs 33 = .ok (.aload_n 1, 1) := dk_43 (dk_at dksX9_repairs_1 9 rfl rfl)
theorem dX9_repairs_34 : decode cX9_repairs 34 = .ok (.getfield 184, 3) := dk_180 0 184 (dk_at dksX9_repairs_1 10 rfl rfl)
theorem dX9_repairs_37 : decode cX9_repairs 37 = .ok (.iload_n 2, 1) := dk_28 (dk_at dksX9_repairs_1 13 rfl rfl)
theorem dX9_repairs_38 : decode cX9_repairs 38 = .ok (.laload, 1) := dk_47 (dk_at dksX9_repairs_1 14 rfl rfl)
theorem dX9_repairs_39 : decode cX9_repairs 39 = .ok (.lcmp, 1) := dk_148 (dk_at dksX9_repairs_1 15 rfl rfl)
theorem dX9_repairs_40 : decode cX9_repairs 40 = .ok (.ifCond .ge 5, 3) := dk_156 0 5 (dk_at dksX9_repairs_1 16 rfl rfl)
theorem dX9_repairs_43 : decode cX9_repairs 43 = .ok (.iload_n 3, 1) := dk_29 (dk_at dksX9_repairs_1 19 rfl rfl)
theorem dX9_repairs_44 : decode cX9_repairs 44 = .ok (.istore_n 2, 1) := dk_61 (dk_at dksX9_repairs_1 20 rfl rfl)
theorem dX9_repairs_45 : decode cX9_repairs 45 = .ok (.iinc 3 1, 3) := dk_132 3 1 (dk_at dksX9_repairs_1 21 rfl rfl)
theorem dX9_repairs_48 : decode cX9_repairs 48 = .ok (.goto (-44), 3) := dk_167 255 212 (dk_at dksX9_repairs_2 0 rfl rfl)
theorem dX9_repairs_51 : decode cX9_repairs 51 = .ok (.iload_n 2, 1) := dk_28 (dk_at dksX9_repairs_2 3 rfl rfl)
theorem dX9_repairs_52 : decode cX9_repairs 52 = .ok (.ifCond .ge 5, 3) := dk_156 0 5 (dk_at dksX9_repairs_2 4 rfl rfl)
theorem dX9_repairs_55 : decode cX9_repairs 55 = .ok (.iconst 1, 1) := dk_4 (dk_at dksX9_repairs_2 7 rfl rfl)
theorem dX9_repairs_56 : decode cX9_repairs 56 = .ok (.ireturn, 1) := dk_172 (dk_at dksX9_repairs_2 8 rfl rfl)
theorem dX9_repairs_57 : decode cX9_repairs 57 = .ok (.aload_n 0, 1) := dk_42 (dk_at dksX9_repairs_2 9 rfl rfl)
theorem dX9_repairs_58 : decode cX9_repairs 58 = .ok (.aload_n 1, 1) := dk_43 (dk_at dksX9_repairs_2 10 rfl rfl)
theorem dX9_repairs_59 : decode cX9_repairs 59 = .ok (.iload_n 2, 1) := dk_28 (dk_at dksX9_repairs_2 11 rfl rfl)
theorem dX9_repairs_60 : decode cX9_repairs 60 = .ok (.invokevirtual 244, 3) := dk_182 0 244 (dk_at dksX9_repairs_2 12 rfl rfl)
theorem dX9_repairs_63 : decode cX9_repairs 63 = .ok (.istore_n 3, 1) := dk_62 (dk_at dksX9_repairs_2 15 rfl rfl)
theorem dX9_repairs_64 : decode cX9_repairs 64 = .ok (.iload_n 3, 1) := dk_29 (dk_at dksX9_repairs_2 16 rfl rfl)
theorem dX9_repairs_65 : decode cX9_repairs 65 = .ok (.ifCond .ge 5, 3) := dk_156 0 5 (dk_at dksX9_repairs_2 17 rfl rfl)
theorem dX9_repairs_68 : decode cX9_repairs 68 = .ok (.iconst 0, 1) := dk_3 (dk_at dksX9_repairs_2 20 rfl rfl)
theorem dX9_repairs_69 : decode cX9_repairs 69 = .ok (.ireturn, 1) := dk_172 (dk_at dksX9_repairs_2 21 rfl rfl)
theorem dX9_repairs_70 : decode cX9_repairs 70 = .ok (.aload_n 1, 1) := dk_43 (dk_at dksX9_repairs_2 22 rfl rfl)
theorem dX9_repairs_71 : decode cX9_repairs 71 = .ok (.getfield 190, 3) := dk_180 0 190 (dk_at dksX9_repairs_3 0 rfl rfl)
theorem dX9_repairs_74 : decode cX9_repairs 74 = .ok (.bipush 60, 2) := dk_16 60 (dk_at dksX9_repairs_3 3 rfl rfl)
theorem dX9_repairs_76 : decode cX9_repairs 76 = .ok (.if_icmp .eq 13, 3) := dk_159 0 13 (dk_at dksX9_repairs_3 5 rfl rfl)
theorem dX9_repairs_79 : decode cX9_repairs 79 = .ok (.aload_n 0, 1) := dk_42 (dk_at dksX9_repairs_3 8 rfl rfl)
theorem dX9_repairs_80 : decode cX9_repairs 80 = .ok (.aload_n 1, 1) := dk_43 (dk_at dksX9_repairs_3 9 rfl rfl)
theorem dX9_repairs_81 : decode cX9_repairs 81 = .ok (.iload_n 2, 1) := dk_28 (dk_at dksX9_repairs_3 10 rfl rfl)
theorem dX9_repairs_82 : decode cX9_repairs 82 = .ok (.iload_n 3, 1) := dk_29 (dk_at dksX9_repairs_3 11 rfl rfl)
theorem dX9_repairs_83 : decode cX9_repairs 83 = .ok (.invokevirtual 248, 3) := dk_182 0 248 (dk_at dksX9_repairs_3 12 rfl rfl)
theorem dX9_repairs_86 : decode cX9_repairs 86 = .ok (.ifCond .ne 6, 3) := dk_154 0 6 (dk_at dksX9_repairs_3 15 rfl rfl)
theorem dX9_repairs_89 : decode cX9_repairs 89 = .ok (.bipush (-6), 2) := dk_16 250 (dk_at dksX9_repairs_3 18 rfl rfl)
theorem dX9_repairs_91 : decode cX9_repairs 91 = .ok (.ireturn, 1) := dk_172 (dk_at dksX9_repairs_3 20 rfl rfl)
theorem dX9_repairs_92 : decode cX9_repairs 92 = .ok (.goto (-92), 3) := dk_167 255 164 (dk_at dksX9_repairs_3 21 rfl rfl)
abbrev cX9_columnFor : ByteArray := prog_19_method_35_code
def yX9_columnFor : MethodName := ⟨RX9, "columnFor", "(LWholePacksModel$Table;I)I"⟩
def dkwX9_columnFor_5 : List UInt8 := [29, 172]
abbrev dktX9_columnFor_5 : List UInt8 := dkwX9_columnFor_5 ++ []
def dkwX9_columnFor_4 : List UInt8 := [180, 0, 206, 21, 4, 46, 43, 180, 0, 206, 29, 46, 162, 0, 6, 21, 4, 62, 132, 4, 1, 167, 255, 146]
abbrev dktX9_columnFor_4 : List UInt8 := dkwX9_columnFor_4 ++ dktX9_columnFor_5
def dkwX9_columnFor_3 : List UInt8 := [47, 22, 5, 105, 101, 55, 7, 22, 7, 9, 148, 155, 0, 26, 22, 7, 9, 148, 154, 0, 22, 43]
abbrev dktX9_columnFor_3 : List UInt8 := dkwX9_columnFor_3 ++ dktX9_columnFor_4
def dkwX9_columnFor_2 : List UInt8 := [43, 180, 0, 203, 21, 4, 47, 43, 180, 0, 175, 8, 28, 104, 29, 96, 47, 117, 105, 43, 180, 0, 203, 29]
abbrev dktX9_columnFor_2 : List UInt8 := dkwX9_columnFor_2 ++ dktX9_columnFor_3
def dkwX9_columnFor_1 : List UInt8 := [47, 117, 55, 5, 22, 5, 9, 148, 157, 0, 6, 167, 0, 77, 29, 156, 0, 9, 20, 0, 242, 167, 0, 32]
abbrev dktX9_columnFor_1 : List UInt8 := dkwX9_columnFor_1 ++ dktX9_columnFor_2
def dkwX9_columnFor_0 : List UInt8 := [2, 62, 3, 54, 4, 21, 4, 43, 180, 0, 172, 162, 0, 107, 43, 180, 0, 175, 8, 28, 104, 21, 4, 96]
abbrev dktX9_columnFor_0 : List UInt8 := dkwX9_columnFor_0 ++ dktX9_columnFor_1
theorem dksX9_columnFor_0 : cX9_columnFor.data.toList.drop 0 = dktX9_columnFor_0 := by decide +kernel
theorem dksX9_columnFor_1 : cX9_columnFor.data.toList.drop 24 = dktX9_columnFor_1 := dk_seg dksX9_columnFor_0 24 rfl rfl
theorem dksX9_columnFor_2 : cX9_columnFor.data.toList.drop 48 = dktX9_columnFor_2 := dk_seg dksX9_columnFor_1 24 rfl rfl
theorem dksX9_columnFor_3 : cX9_columnFor.data.toList.drop 72 = dktX9_columnFor_3 := dk_seg dksX9_columnFor_2 24 rfl rfl
theorem dksX9_columnFor_4 : cX9_columnFor.data.toList.drop 94 = dktX9_columnFor_4 := dk_seg dksX9_columnFor_3 22 rfl rfl
theorem dksX9_columnFor_5 : cX9_columnFor.data.toList.drop 118 = dktX9_columnFor_5 := dk_seg dksX9_columnFor_4 24 rfl rfl
theorem dX9_columnFor_0 : decode cX9_columnFor 0 = .ok (.iconst (-1), 1) := dk_2 (dk_at dksX9_columnFor_0 0 rfl rfl)
theorem dX9_columnFor_1 : decode cX9_columnFor 1 = .ok (.istore_n 3, 1) := dk_62 (dk_at dksX9_columnFor_0 1 rfl rfl)
theorem dX9_columnFor_2 : decode cX9_columnFor 2 = .ok (.iconst 0, 1) := dk_3 (dk_at dksX9_columnFor_0 2 rfl rfl)
theorem dX9_columnFor_3 : decode cX9_columnFor 3 = .ok (.istore 4, 2) := dk_54 4 (dk_at dksX9_columnFor_0 3 rfl rfl)
theorem dX9_columnFor_5 : decode cX9_columnFor 5 = .ok (.iload 4, 2) := dk_21 4 (dk_at dksX9_columnFor_0 5 rfl rfl)
theorem dX9_columnFor_7 : decode cX9_columnFor 7 = .ok (.aload_n 1, 1) := dk_43 (dk_at dksX9_columnFor_0 7 rfl rfl)
theorem dX9_columnFor_8 : decode cX9_columnFor 8 = .ok (.getfield 172, 3) := dk_180 0 172 (dk_at dksX9_columnFor_0 8 rfl rfl)
theorem dX9_columnFor_11 : decode cX9_columnFor 11 = .ok (.if_icmp .ge 107, 3) := dk_162 0 107 (dk_at dksX9_columnFor_0 11 rfl rfl)
theorem dX9_columnFor_14 : decode cX9_columnFor 14 = .ok (.aload_n 1, 1) := dk_43 (dk_at dksX9_columnFor_0 14 rfl rfl)
theorem dX9_columnFor_15 : decode cX9_columnFor 15 = .ok (.getfield 175, 3) := dk_180 0 175 (dk_at dksX9_columnFor_0 15 rfl rfl)
theorem dX9_columnFor_18 : decode cX9_columnFor 18 = .ok (.iconst 5, 1) := dk_8 (dk_at dksX9_columnFor_0 18 rfl rfl)
theorem dX9_columnFor_19 : decode cX9_columnFor 19 = .ok (.iload_n 2, 1) := dk_28 (dk_at dksX9_columnFor_0 19 rfl rfl)
theorem dX9_columnFor_20 : decode cX9_columnFor 20 = .ok (.imul, 1) := dk_104 (dk_at dksX9_columnFor_0 20 rfl rfl)
theorem dX9_columnFor_21 : decode cX9_columnFor 21 = .ok (.iload 4, 2) := dk_21 4 (dk_at dksX9_columnFor_0 21 rfl rfl)
theorem dX9_columnFor_23 : decode cX9_columnFor 23 = .ok (.iadd, 1) := dk_96 (dk_at dksX9_columnFor_0 23 rfl rfl)
theorem dX9_columnFor_24 : decode cX9_columnFor 24 = .ok (.laload, 1) := dk_47 (dk_at dksX9_columnFor_1 0 rfl rfl)
theorem dX9_columnFor_25 : decode cX9_columnFor 25 = .ok (.lneg, 1) := dk_117 (dk_at dksX9_columnFor_1 1 rfl rfl)
theorem dX9_columnFor_26 : decode cX9_columnFor 26 = .ok (.lstore 5, 2) := dk_55 5 (dk_at dksX9_columnFor_1 2 rfl rfl)
theorem dX9_columnFor_28 : decode cX9_columnFor 28 = .ok (.lload 5, 2) := dk_22 5 (dk_at dksX9_columnFor_1 4 rfl rfl)
theorem dX9_columnFor_30 : decode cX9_columnFor 30 = .ok (.lconst 0, 1) := dk_9 (dk_at dksX9_columnFor_1 6 rfl rfl)
theorem dX9_columnFor_31 : decode cX9_columnFor 31 = .ok (.lcmp, 1) := dk_148 (dk_at dksX9_columnFor_1 7 rfl rfl)
theorem dX9_columnFor_32 : decode cX9_columnFor 32 = .ok (.ifCond .gt 6, 3) := dk_157 0 6 (dk_at dksX9_columnFor_1 8 rfl rfl)
theorem dX9_columnFor_35 : decode cX9_columnFor 35 = .ok (.goto 77, 3) := dk_167 0 77 (dk_at dksX9_columnFor_1 11 rfl rfl)
theorem dX9_columnFor_38 : decode cX9_columnFor 38 = .ok (.iload_n 3, 1) := dk_29 (dk_at dksX9_columnFor_1 14 rfl rfl)
theorem dX9_columnFor_39 : decode cX9_columnFor 39 = .ok (.ifCond .ge 9, 3) := dk_156 0 9 (dk_at dksX9_columnFor_1 15 rfl rfl)
theorem dX9_columnFor_42 : decode cX9_columnFor 42 = .ok (.ldc2_w 242, 3) := dk_20 0 242 (dk_at dksX9_columnFor_1 18 rfl rfl)
theorem dX9_columnFor_45 : decode cX9_columnFor 45 = .ok (.goto 32, 3) := dk_167 0 32 (dk_at dksX9_columnFor_1 21 rfl rfl)
theorem dX9_columnFor_48 : decode cX9_columnFor 48 = .ok (.aload_n 1, 1) := dk_43 (dk_at dksX9_columnFor_2 0 rfl rfl)
theorem dX9_columnFor_49 : decode cX9_columnFor 49 = .ok (.getfield 203, 3) := dk_180 0 203 (dk_at dksX9_columnFor_2 1 rfl rfl)
theorem dX9_columnFor_52 : decode cX9_columnFor 52 = .ok (.iload 4, 2) := dk_21 4 (dk_at dksX9_columnFor_2 4 rfl rfl)
theorem dX9_columnFor_54 : decode cX9_columnFor 54 = .ok (.laload, 1) := dk_47 (dk_at dksX9_columnFor_2 6 rfl rfl)
theorem dX9_columnFor_55 : decode cX9_columnFor 55 = .ok (.aload_n 1, 1) := dk_43 (dk_at dksX9_columnFor_2 7 rfl rfl)
theorem dX9_columnFor_56 : decode cX9_columnFor 56 = .ok (.getfield 175, 3) := dk_180 0 175 (dk_at dksX9_columnFor_2 8 rfl rfl)
theorem dX9_columnFor_59 : decode cX9_columnFor 59 = .ok (.iconst 5, 1) := dk_8 (dk_at dksX9_columnFor_2 11 rfl rfl)
theorem dX9_columnFor_60 : decode cX9_columnFor 60 = .ok (.iload_n 2, 1) := dk_28 (dk_at dksX9_columnFor_2 12 rfl rfl)
theorem dX9_columnFor_61 : decode cX9_columnFor 61 = .ok (.imul, 1) := dk_104 (dk_at dksX9_columnFor_2 13 rfl rfl)
theorem dX9_columnFor_62 : decode cX9_columnFor 62 = .ok (.iload_n 3, 1) := dk_29 (dk_at dksX9_columnFor_2 14 rfl rfl)
theorem dX9_columnFor_63 : decode cX9_columnFor 63 = .ok (.iadd, 1) := dk_96 (dk_at dksX9_columnFor_2 15 rfl rfl)
theorem dX9_columnFor_64 : decode cX9_columnFor 64 = .ok (.laload, 1) := dk_47 (dk_at dksX9_columnFor_2 16 rfl rfl)
theorem dX9_columnFor_65 : decode cX9_columnFor 65 = .ok (.lneg, 1) := dk_117 (dk_at dksX9_columnFor_2 17 rfl rfl)
theorem dX9_columnFor_66 : decode cX9_columnFor 66 = .ok (.lmul, 1) := dk_105 (dk_at dksX9_columnFor_2 18 rfl rfl)
theorem dX9_columnFor_67 : decode cX9_columnFor 67 = .ok (.aload_n 1, 1) := dk_43 (dk_at dksX9_columnFor_2 19 rfl rfl)
theorem dX9_columnFor_68 : decode cX9_columnFor 68 = .ok (.getfield 203, 3) := dk_180 0 203 (dk_at dksX9_columnFor_2 20 rfl rfl)
theorem dX9_columnFor_71 : decode cX9_columnFor 71 = .ok (.iload_n 3, 1) := dk_29 (dk_at dksX9_columnFor_2 23 rfl rfl)
theorem dX9_columnFor_72 : decode cX9_columnFor 72 = .ok (.laload, 1) := dk_47 (dk_at dksX9_columnFor_3 0 rfl rfl)
theorem dX9_columnFor_73 : decode cX9_columnFor 73 = .ok (.lload 5, 2) := dk_22 5 (dk_at dksX9_columnFor_3 1 rfl rfl)
theorem dX9_columnFor_75 : decode cX9_columnFor 75 = .ok (.lmul, 1) := dk_105 (dk_at dksX9_columnFor_3 3 rfl rfl)
theorem dX9_columnFor_76 : decode cX9_columnFor 76 = .ok (.lsub, 1) := dk_101 (dk_at dksX9_columnFor_3 4 rfl rfl)
theorem dX9_columnFor_77 : decode cX9_columnFor 77 = .ok (.lstore 7, 2) := dk_55 7 (dk_at dksX9_columnFor_3 5 rfl rfl)
theorem dX9_columnFor_79 : decode cX9_columnFor 79 = .ok (.lload 7, 2) := dk_22 7 (dk_at dksX9_columnFor_3 7 rfl rfl)
theorem dX9_columnFor_81 : decode cX9_columnFor 81 = .ok (.lconst 0, 1) := dk_9 (dk_at dksX9_columnFor_3 9 rfl rfl)
theorem dX9_columnFor_82 : decode cX9_columnFor 82 = .ok (.lcmp, 1) := dk_148 (dk_at dksX9_columnFor_3 10 rfl rfl)
theorem dX9_columnFor_83 : decode cX9_columnFor 83 = .ok (.ifCond .lt 26, 3) := dk_155 0 26 (dk_at dksX9_columnFor_3 11 rfl rfl)
theorem dX9_columnFor_86 : decode cX9_columnFor 86 = .ok (.lload 7, 2) := dk_22 7 (dk_at dksX9_columnFor_3 14 rfl rfl)
theorem dX9_columnFor_88 : decode cX9_columnFor 88 = .ok (.lconst 0, 1) := dk_9 (dk_at dksX9_columnFor_3 16 rfl rfl)
theorem dX9_columnFor_89 : decode cX9_columnFor 89 = .ok (.lcmp, 1) := dk_148 (dk_at dksX9_columnFor_3 17 rfl rfl)
theorem dX9_columnFor_90 : decode cX9_columnFor 90 = .ok (.ifCond .ne 22, 3) := dk_154 0 22 (dk_at dksX9_columnFor_3 18 rfl rfl)
theorem dX9_columnFor_93 : decode cX9_columnFor 93 = .ok (.aload_n 1, 1) := dk_43 (dk_at dksX9_columnFor_3 21 rfl rfl)
theorem dX9_columnFor_94 : decode cX9_columnFor 94 = .ok (.getfield 206, 3) := dk_180 0 206 (dk_at dksX9_columnFor_4 0 rfl rfl)
theorem dX9_columnFor_97 : decode cX9_columnFor 97 = .ok (.iload 4, 2) := dk_21 4 (dk_at dksX9_columnFor_4 3 rfl rfl)
theorem dX9_columnFor_99 : decode cX9_columnFor 99 = .ok (.iaload, 1) := dk_46 (dk_at dksX9_columnFor_4 5 rfl rfl)
theorem dX9_columnFor_100 : decode cX9_columnFor 100 = .ok (.aload_n 1, 1) := dk_43 (dk_at dksX9_columnFor_4 6 rfl rfl)
theorem dX9_columnFor_101 : decode cX9_columnFor 101 = .ok (.getfield 206, 3) := dk_180 0 206 (dk_at dksX9_columnFor_4 7 rfl rfl)
theorem dX9_columnFor_104 : decode cX9_columnFor 104 = .ok (.iload_n 3, 1) := dk_29 (dk_at dksX9_columnFor_4 10 rfl rfl)
theorem dX9_columnFor_105 : decode cX9_columnFor 105 = .ok (.iaload, 1) := dk_46 (dk_at dksX9_columnFor_4 11 rfl rfl)
theorem dX9_columnFor_106 : decode cX9_columnFor 106 = .ok (.if_icmp .ge 6, 3) := dk_162 0 6 (dk_at dksX9_columnFor_4 12 rfl rfl)
theorem dX9_columnFor_109 : decode cX9_columnFor 109 = .ok (.iload 4, 2) := dk_21 4 (dk_at dksX9_columnFor_4 15 rfl rfl)
theorem dX9_columnFor_111 : decode cX9_columnFor 111 = .ok (.istore_n 3, 1) := dk_62 (dk_at dksX9_columnFor_4 17 rfl rfl)
theorem dX9_columnFor_112 : decode cX9_columnFor 112 = .ok (.iinc 4 1, 3) := dk_132 4 1 (dk_at dksX9_columnFor_4 18 rfl rfl)
theorem dX9_columnFor_115 : decode cX9_columnFor 115 = .ok (.goto (-110), 3) := dk_167 255 146 (dk_at dksX9_columnFor_4 21 rfl rfl)
theorem dX9_columnFor_118 : decode cX9_columnFor 118 = .ok (.iload_n 3, 1) := dk_29 (dk_at dksX9_columnFor_5 0 rfl rfl)
theorem dX9_columnFor_119 : decode cX9_columnFor 119 = .ok (.ireturn, 1) := dk_172 (dk_at dksX9_columnFor_5 1 rfl rfl)
abbrev cX9_pivots : ByteArray := prog_19_method_34_code
def yX9_pivots : MethodName := ⟨RX9, "pivots", "(LWholePacksModel$Table;II)Z"⟩
def dkwX9_pivots_8 : List UInt8 := [89, 180, 0, 190, 4, 96, 181, 0, 190, 4, 172]
abbrev dktX9_pivots_8 : List UInt8 := dkwX9_pivots_8 ++ []
def dkwX9_pivots_7 : List UInt8 := [46, 54, 6, 43, 180, 0, 181, 28, 43, 180, 0, 206, 29, 46, 79, 43, 180, 0, 206, 29, 21, 6, 79, 43]
abbrev dktX9_pivots_7 : List UInt8 := dkwX9_pivots_7 ++ dktX9_pivots_8
def dkwX9_pivots_6 : List UInt8 := [180, 0, 235, 21, 6, 47, 80, 132, 6, 1, 167, 255, 230, 43, 22, 4, 181, 0, 197, 43, 180, 0, 181, 28]
abbrev dktX9_pivots_6 : List UInt8 := dkwX9_pivots_6 ++ dktX9_pivots_7
def dkwX9_pivots_5 : List UInt8 := [167, 255, 230, 3, 54, 6, 21, 6, 43, 180, 0, 172, 162, 0, 23, 43, 180, 0, 203, 21, 6, 43]
abbrev dktX9_pivots_5 : List UInt8 := dkwX9_pivots_5 ++ dktX9_pivots_6
def dkwX9_pivots_4 : List UInt8 := [43, 180, 0, 178, 162, 0, 23, 43, 180, 0, 184, 21, 6, 43, 180, 0, 232, 21, 6, 47, 80, 132, 6, 1]
abbrev dktX9_pivots_4 : List UInt8 := dkwX9_pivots_4 ++ dktX9_pivots_5
def dkwX9_pivots_3 : List UInt8 := [180, 0, 175, 21, 6, 43, 180, 0, 229, 21, 6, 47, 80, 132, 6, 1, 167, 255, 228, 3, 54, 6, 21, 6]
abbrev dktX9_pivots_3 : List UInt8 := dkwX9_pivots_3 ++ dktX9_pivots_4
def dkwX9_pivots_2 : List UInt8 := [43, 180, 0, 197, 109, 181, 0, 193, 3, 54, 6, 21, 6, 8, 43, 180, 0, 178, 104, 162, 0, 23, 43]
abbrev dktX9_pivots_2 : List UInt8 := dkwX9_pivots_2 ++ dktX9_pivots_3
def dkwX9_pivots_1 : List UInt8 := [55, 4, 43, 22, 4, 43, 180, 0, 193, 105, 43, 180, 0, 203, 29, 47, 43, 180, 0, 184, 28, 47, 105, 101]
abbrev dktX9_pivots_1 : List UInt8 := dkwX9_pivots_1 ++ dktX9_pivots_2
def dkwX9_pivots_0 : List UInt8 := [42, 43, 28, 29, 182, 0, 238, 154, 0, 5, 3, 172, 43, 180, 0, 175, 8, 28, 104, 29, 96, 47, 117]
abbrev dktX9_pivots_0 : List UInt8 := dkwX9_pivots_0 ++ dktX9_pivots_1
theorem dksX9_pivots_0 : cX9_pivots.data.toList.drop 0 = dktX9_pivots_0 := by decide +kernel
theorem dksX9_pivots_1 : cX9_pivots.data.toList.drop 23 = dktX9_pivots_1 := dk_seg dksX9_pivots_0 23 rfl rfl
theorem dksX9_pivots_2 : cX9_pivots.data.toList.drop 47 = dktX9_pivots_2 := dk_seg dksX9_pivots_1 24 rfl rfl
theorem dksX9_pivots_3 : cX9_pivots.data.toList.drop 70 = dktX9_pivots_3 := dk_seg dksX9_pivots_2 23 rfl rfl
theorem dksX9_pivots_4 : cX9_pivots.data.toList.drop 94 = dktX9_pivots_4 := dk_seg dksX9_pivots_3 24 rfl rfl
theorem dksX9_pivots_5 : cX9_pivots.data.toList.drop 118 = dktX9_pivots_5 := dk_seg dksX9_pivots_4 24 rfl rfl
theorem dksX9_pivots_6 : cX9_pivots.data.toList.drop 140 = dktX9_pivots_6 := dk_seg dksX9_pivots_5 22 rfl rfl
theorem dksX9_pivots_7 : cX9_pivots.data.toList.drop 164 = dktX9_pivots_7 := dk_seg dksX9_pivots_6 24 rfl rfl
theorem dksX9_pivots_8 : cX9_pivots.data.toList.drop 188 = dktX9_pivots_8 := dk_seg dksX9_pivots_7 24 rfl rfl
theorem dX9_pivots_0 : decode cX9_pivots 0 = .ok (.aload_n 0, 1) := dk_42 (dk_at dksX9_pivots_0 0 rfl rfl)
theorem dX9_pivots_1 : decode cX9_pivots 1 = .ok (.aload_n 1, 1) := dk_43 (dk_at dksX9_pivots_0 1 rfl rfl)
theorem dX9_pivots_2 : decode cX9_pivots 2 = .ok (.iload_n 2, 1) := dk_28 (dk_at dksX9_pivots_0 2 rfl rfl)
theorem dX9_pivots_3 : decode cX9_pivots 3 = .ok (.iload_n 3, 1) := dk_29 (dk_at dksX9_pivots_0 3 rfl rfl)
theorem dX9_pivots_4 : decode cX9_pivots 4 = .ok (.invokevirtual 238, 3) := dk_182 0 238 (dk_at dksX9_pivots_0 4 rfl rfl)
theorem dX9_pivots_7 : decode cX9_pivots 7 = .ok (.ifCond .ne 5, 3) := dk_154 0 5 (dk_at dksX9_pivots_0 7 rfl rfl)
theorem dX9_pivots_10 : decode cX9_pivots 10 = .ok (.iconst 0, 1) := dk_3 (dk_at dksX9_pivots_0 10 rfl rfl)
theorem dX9_pivots_11 : decode cX9_pivots 11 = .ok (.ireturn, 1) := dk_172 (dk_at dksX9_pivots_0 11 rfl rfl)
theorem dX9_pivots_12 : decode cX9_pivots 12 = .ok (.aload_n 1, 1) := dk_43 (dk_at dksX9_pivots_0 12 rfl rfl)
theorem dX9_pivots_13 : decode cX9_pivots 13 = .ok (.getfield 175, 3) := dk_180 0 175 (dk_at dksX9_pivots_0 13 rfl rfl)
theorem dX9_pivots_16 : decode cX9_pivots 16 = .ok (.iconst 5, 1) := dk_8 (dk_at dksX9_pivots_0 16 rfl rfl)
theorem dX9_pivots_17 : decode cX9_pivots 17 = .ok (.iload_n 2, 1) := dk_28 (dk_at dksX9_pivots_0 17 rfl rfl)
theorem dX9_pivots_18 : decode cX9_pivots 18 = .ok (.imul, 1) := dk_104 (dk_at dksX9_pivots_0 18 rfl rfl)
theorem dX9_pivots_19 : decode cX9_pivots 19 = .ok (.iload_n 3, 1) := dk_29 (dk_at dksX9_pivots_0 19 rfl rfl)
theorem dX9_pivots_20 : decode cX9_pivots 20 = .ok (.iadd, 1) := dk_96 (dk_at dksX9_pivots_0 20 rfl rfl)
theorem dX9_pivots_21 : decode cX9_pivots 21 = .ok (.laload, 1) := dk_47 (dk_at dksX9_pivots_0 21 rfl rfl)
theorem dX9_pivots_22 : decode cX9_pivots 22 = .ok (.lneg, 1) := dk_117 (dk_at dksX9_pivots_0 22 rfl rfl)
theorem dX9_pivots_23 : decode cX9_pivots 23 = .ok (.lstore 4, 2) := dk_55 4 (dk_at dksX9_pivots_1 0 rfl rfl)
theorem dX9_pivots_25 : decode cX9_pivots 25 = .ok (.aload_n 1, 1) := dk_43 (dk_at dksX9_pivots_1 2 rfl rfl)
theorem dX9_pivots_26 : decode cX9_pivots 26 = .ok (.lload 4, 2) := dk_22 4 (dk_at dksX9_pivots_1 3 rfl rfl)
theorem dX9_pivots_28 : decode cX9_pivots 28 = .ok (.aload_n 1, 1) := dk_43 (dk_at dksX9_pivots_1 5 rfl rfl)
theorem dX9_pivots_29 : decode cX9_pivots 29 = .ok (.getfield 193, 3) := dk_180 0 193 (dk_at dksX9_pivots_1 6 rfl rfl)
theorem dX9_pivots_32 : decode cX9_pivots 32 = .ok (.lmul, 1) := dk_105 (dk_at dksX9_pivots_1 9 rfl rfl)
theorem dX9_pivots_33 : decode cX9_pivots 33 = .ok (.aload_n 1, 1) := dk_43 (dk_at dksX9_pivots_1 10 rfl rfl)
theorem dX9_pivots_34 : decode cX9_pivots 34 = .ok (.getfield 203, 3) := dk_180 0 203 (dk_at dksX9_pivots_1 11 rfl rfl)
theorem dX9_pivots_37 : decode cX9_pivots 37 = .ok (.iload_n 3, 1) := dk_29 (dk_at dksX9_pivots_1 14 rfl rfl)
theorem dX9_pivots_38 : decode cX9_pivots 38 = .ok (.laload, 1) := dk_47 (dk_at dksX9_pivots_1 15 rfl rfl)
theorem dX9_pivots_39 : decode cX9_pivots 39 = .ok (.aload_n 1, 1) := dk_43 (dk_at dksX9_pivots_1 16 rfl rfl)
theorem dX9_pivots_40 : decode cX9_pivots 40 = .ok (.getfield 184, 3) := dk_180 0 184 (dk_at dksX9_pivots_1 17 rfl rfl)
theorem dX9_pivots_43 : decode cX9_pivots 43 = .ok (.iload_n 2, 1) := dk_28 (dk_at dksX9_pivots_1 20 rfl rfl)
theorem dX9_pivots_44 : decode cX9_pivots 44 = .ok (.laload, 1) := dk_47 (dk_at dksX9_pivots_1 21 rfl rfl)
theorem dX9_pivots_45 : decode cX9_pivots 45 = .ok (.lmul, 1) := dk_105 (dk_at dksX9_pivots_1 22 rfl rfl)
theorem dX9_pivots_46 : decode cX9_pivots 46 = .ok (.lsub, 1) := dk_101 (dk_at dksX9_pivots_1 23 rfl rfl)
theorem dX9_pivots_47 : decode cX9_pivots 47 = .ok (.aload_n 1, 1) := dk_43 (dk_at dksX9_pivots_2 0 rfl rfl)
theorem dX9_pivots_48 : decode cX9_pivots 48 = .ok (.getfield 197, 3) := dk_180 0 197 (dk_at dksX9_pivots_2 1 rfl rfl)
theorem dX9_pivots_51 : decode cX9_pivots 51 = .ok (.ldiv, 1) := dk_109 (dk_at dksX9_pivots_2 4 rfl rfl)
theorem dX9_pivots_52 : decode cX9_pivots 52 = .ok (.putfield 193, 3) := dk_181 0 193 (dk_at dksX9_pivots_2 5 rfl rfl)
theorem dX9_pivots_55 : decode cX9_pivots 55 = .ok (.iconst 0, 1) := dk_3 (dk_at dksX9_pivots_2 8 rfl rfl)
theorem dX9_pivots_56 : decode cX9_pivots 56 = .ok (.istore 6, 2) := dk_54 6 (dk_at dksX9_pivots_2 9 rfl rfl)
theorem dX9_pivots_58 : decode cX9_pivots 58 = .ok (.iload 6, 2) := dk_21 6 (dk_at dksX9_pivots_2 11 rfl rfl)
theorem dX9_pivots_60 : decode cX9_pivots 60 = .ok (.iconst 5, 1) := dk_8 (dk_at dksX9_pivots_2 13 rfl rfl)
theorem dX9_pivots_61 : decode cX9_pivots 61 = .ok (.aload_n 1, 1) := dk_43 (dk_at dksX9_pivots_2 14 rfl rfl)
theorem dX9_pivots_62 : decode cX9_pivots 62 = .ok (.getfield 178, 3) := dk_180 0 178 (dk_at dksX9_pivots_2 15 rfl rfl)
theorem dX9_pivots_65 : decode cX9_pivots 65 = .ok (.imul, 1) := dk_104 (dk_at dksX9_pivots_2 18 rfl rfl)
theorem dX9_pivots_66 : decode cX9_pivots 66 = .ok (.if_icmp .ge 23, 3) := dk_162 0 23 (dk_at dksX9_pivots_2 19 rfl rfl)
theorem dX9_pivots_69 : decode cX9_pivots 69 = .ok (.aload_n 1, 1) := dk_43 (dk_at dksX9_pivots_2 22 rfl rfl)
theorem dX9_pivots_70 : decode cX9_pivots 70 = .ok (.getfield 175, 3) := dk_180 0 175 (dk_at dksX9_pivots_3 0 rfl rfl)
theorem dX9_pivots_73 : decode cX9_pivots 73 = .ok (.iload 6, 2) := dk_21 6 (dk_at dksX9_pivots_3 3 rfl rfl)
theorem dX9_pivots_75 : decode cX9_pivots 75 = .ok (.aload_n 1, 1) := dk_43 (dk_at dksX9_pivots_3 5 rfl rfl)
theorem dX9_pivots_76 : decode cX9_pivots 76 = .ok (.getfield 229, 3) := dk_180 0 229 (dk_at dksX9_pivots_3 6 rfl rfl)
theorem dX9_pivots_79 : decode cX9_pivots 79 = .ok (.iload 6, 2) := dk_21 6 (dk_at dksX9_pivots_3 9 rfl rfl)
theorem dX9_pivots_81 : decode cX9_pivots 81 = .ok (.laload, 1) := dk_47 (dk_at dksX9_pivots_3 11 rfl rfl)
theorem dX9_pivots_82 : decode cX9_pivots 82 = .ok (.lastore, 1) := dk_80 (dk_at dksX9_pivots_3 12 rfl rfl)
theorem dX9_pivots_83 : decode cX9_pivots 83 = .ok (.iinc 6 1, 3) := dk_132 6 1 (dk_at dksX9_pivots_3 13 rfl rfl)
theorem dX9_pivots_86 : decode cX9_pivots 86 = .ok (.goto (-28), 3) := dk_167 255 228 (dk_at dksX9_pivots_3 16 rfl rfl)
theorem dX9_pivots_89 : decode cX9_pivots 89 = .ok (.iconst 0, 1) := dk_3 (dk_at dksX9_pivots_3 19 rfl rfl)
theorem dX9_pivots_90 : decode cX9_pivots 90 = .ok (.istore 6, 2) := dk_54 6 (dk_at dksX9_pivots_3 20 rfl rfl)
theorem dX9_pivots_92 : decode cX9_pivots 92 = .ok (.iload 6, 2) := dk_21 6 (dk_at dksX9_pivots_3 22 rfl rfl)
theorem dX9_pivots_94 : decode cX9_pivots 94 = .ok (.aload_n 1, 1) := dk_43 (dk_at dksX9_pivots_4 0 rfl rfl)
theorem dX9_pivots_95 : decode cX9_pivots 95 = .ok (.getfield 178, 3) := dk_180 0 178 (dk_at dksX9_pivots_4 1 rfl rfl)
theorem dX9_pivots_98 : decode cX9_pivots 98 = .ok (.if_icmp .ge 23, 3) := dk_162 0 23 (dk_at dksX9_pivots_4 4 rfl rfl)
theorem dX9_pivots_101 : decode cX9_pivots 101 = .ok (.aload_n 1, 1) := dk_43 (dk_at dksX9_pivots_4 7 rfl rfl)
theorem dX9_pivots_102 : decode cX9_pivots 102 = .ok (.getfield 184, 3) := dk_180 0 184 (dk_at dksX9_pivots_4 8 rfl rfl)
theorem dX9_pivots_105 : decode cX9_pivots 105 = .ok (.iload 6, 2) := dk_21 6 (dk_at dksX9_pivots_4 11 rfl rfl)
theorem dX9_pivots_107 : decode cX9_pivots 107 = .ok (.aload_n 1, 1) := dk_43 (dk_at dksX9_pivots_4 13 rfl rfl)
theorem dX9_pivots_108 : decode cX9_pivots 108 = .ok (.getfield 232, 3) := dk_180 0 232 (dk_at dksX9_pivots_4 14 rfl rfl)
theorem dX9_pivots_111 : decode cX9_pivots 111 = .ok (.iload 6, 2) := dk_21 6 (dk_at dksX9_pivots_4 17 rfl rfl)
theorem dX9_pivots_113 : decode cX9_pivots 113 = .ok (.laload, 1) := dk_47 (dk_at dksX9_pivots_4 19 rfl rfl)
theorem dX9_pivots_114 : decode cX9_pivots 114 = .ok (.lastore, 1) := dk_80 (dk_at dksX9_pivots_4 20 rfl rfl)
theorem dX9_pivots_115 : decode cX9_pivots 115 = .ok (.iinc 6 1, 3) := dk_132 6 1 (dk_at dksX9_pivots_4 21 rfl rfl)
theorem dX9_pivots_118 : decode cX9_pivots 118 = .ok (.goto (-26), 3) := dk_167 255 230 (dk_at dksX9_pivots_5 0 rfl rfl)
theorem dX9_pivots_121 : decode cX9_pivots 121 = .ok (.iconst 0, 1) := dk_3 (dk_at dksX9_pivots_5 3 rfl rfl)
theorem dX9_pivots_122 : decode cX9_pivots 122 = .ok (.istore 6, 2) := dk_54 6 (dk_at dksX9_pivots_5 4 rfl rfl)
theorem dX9_pivots_124 : decode cX9_pivots 124 = .ok (.iload 6, 2) := dk_21 6 (dk_at dksX9_pivots_5 6 rfl rfl)
theorem dX9_pivots_126 : decode cX9_pivots 126 = .ok (.aload_n 1, 1) := dk_43 (dk_at dksX9_pivots_5 8 rfl rfl)
theorem dX9_pivots_127 : decode cX9_pivots 127 = .ok (.getfield 172, 3) := dk_180 0 172 (dk_at dksX9_pivots_5 9 rfl rfl)
theorem dX9_pivots_130 : decode cX9_pivots 130 = .ok (.if_icmp .ge 23, 3) := dk_162 0 23 (dk_at dksX9_pivots_5 12 rfl rfl)
theorem dX9_pivots_133 : decode cX9_pivots 133 = .ok (.aload_n 1, 1) := dk_43 (dk_at dksX9_pivots_5 15 rfl rfl)
theorem dX9_pivots_134 : decode cX9_pivots 134 = .ok (.getfield 203, 3) := dk_180 0 203 (dk_at dksX9_pivots_5 16 rfl rfl)
theorem dX9_pivots_137 : decode cX9_pivots 137 = .ok (.iload 6, 2) := dk_21 6 (dk_at dksX9_pivots_5 19 rfl rfl)
theorem dX9_pivots_139 : decode cX9_pivots 139 = .ok (.aload_n 1, 1) := dk_43 (dk_at dksX9_pivots_5 21 rfl rfl)
theorem dX9_pivots_140 : decode cX9_pivots 140 = .ok (.getfield 235, 3) := dk_180 0 235 (dk_at dksX9_pivots_6 0 rfl rfl)
theorem dX9_pivots_143 : decode cX9_pivots 143 = .ok (.iload 6, 2) := dk_21 6 (dk_at dksX9_pivots_6 3 rfl rfl)
theorem dX9_pivots_145 : decode cX9_pivots 145 = .ok (.laload, 1) := dk_47 (dk_at dksX9_pivots_6 5 rfl rfl)
theorem dX9_pivots_146 : decode cX9_pivots 146 = .ok (.lastore, 1) := dk_80 (dk_at dksX9_pivots_6 6 rfl rfl)
theorem dX9_pivots_147 : decode cX9_pivots 147 = .ok (.iinc 6 1, 3) := dk_132 6 1 (dk_at dksX9_pivots_6 7 rfl rfl)
theorem dX9_pivots_150 : decode cX9_pivots 150 = .ok (.goto (-26), 3) := dk_167 255 230 (dk_at dksX9_pivots_6 10 rfl rfl)
theorem dX9_pivots_153 : decode cX9_pivots 153 = .ok (.aload_n 1, 1) := dk_43 (dk_at dksX9_pivots_6 13 rfl rfl)
theorem dX9_pivots_154 : decode cX9_pivots 154 = .ok (.lload 4, 2) := dk_22 4 (dk_at dksX9_pivots_6 14 rfl rfl)
theorem dX9_pivots_156 : decode cX9_pivots 156 = .ok (.putfield 197, 3) := dk_181 0 197 (dk_at dksX9_pivots_6 16 rfl rfl)
theorem dX9_pivots_159 : decode cX9_pivots 159 = .ok (.aload_n 1, 1) := dk_43 (dk_at dksX9_pivots_6 19 rfl rfl)
theorem dX9_pivots_160 : decode cX9_pivots 160 = .ok (.getfield 181, 3) := dk_180 0 181 (dk_at dksX9_pivots_6 20 rfl rfl)
theorem dX9_pivots_163 : decode cX9_pivots 163 = .ok (.iload_n 2, 1) := dk_28 (dk_at dksX9_pivots_6 23 rfl rfl)
theorem dX9_pivots_164 : decode cX9_pivots 164 = .ok (.iaload, 1) := dk_46 (dk_at dksX9_pivots_7 0 rfl rfl)
theorem dX9_pivots_165 : decode cX9_pivots 165 = .ok (.istore 6, 2) := dk_54 6 (dk_at dksX9_pivots_7 1 rfl rfl)
theorem dX9_pivots_167 : decode cX9_pivots 167 = .ok (.aload_n 1, 1) := dk_43 (dk_at dksX9_pivots_7 3 rfl rfl)
theorem dX9_pivots_168 : decode cX9_pivots 168 = .ok (.getfield 181, 3) := dk_180 0 181 (dk_at dksX9_pivots_7 4 rfl rfl)
theorem dX9_pivots_171 : decode cX9_pivots 171 = .ok (.iload_n 2, 1) := dk_28 (dk_at dksX9_pivots_7 7 rfl rfl)
theorem dX9_pivots_172 : decode cX9_pivots 172 = .ok (.aload_n 1, 1) := dk_43 (dk_at dksX9_pivots_7 8 rfl rfl)
theorem dX9_pivots_173 : decode cX9_pivots 173 = .ok (.getfield 206, 3) := dk_180 0 206 (dk_at dksX9_pivots_7 9 rfl rfl)
theorem dX9_pivots_176 : decode cX9_pivots 176 = .ok (.iload_n 3, 1) := dk_29 (dk_at dksX9_pivots_7 12 rfl rfl)
theorem dX9_pivots_177 : decode cX9_pivots 177 = .ok (.iaload, 1) := dk_46 (dk_at dksX9_pivots_7 13 rfl rfl)
theorem dX9_pivots_178 : decode cX9_pivots 178 = .ok (.iastore, 1) := dk_79 (dk_at dksX9_pivots_7 14 rfl rfl)
theorem dX9_pivots_179 : decode cX9_pivots 179 = .ok (.aload_n 1, 1) := dk_43 (dk_at dksX9_pivots_7 15 rfl rfl)
theorem dX9_pivots_180 : decode cX9_pivots 180 = .ok (.getfield 206, 3) := dk_180 0 206 (dk_at dksX9_pivots_7 16 rfl rfl)
theorem dX9_pivots_183 : decode cX9_pivots 183 = .ok (.iload_n 3, 1) := dk_29 (dk_at dksX9_pivots_7 19 rfl rfl)
theorem dX9_pivots_184 : decode cX9_pivots 184 = .ok (.iload 6, 2) := dk_21 6 (dk_at dksX9_pivots_7 20 rfl rfl)
theorem dX9_pivots_186 : decode cX9_pivots 186 = .ok (.iastore, 1) := dk_79 (dk_at dksX9_pivots_7 22 rfl rfl)
theorem dX9_pivots_187 : decode cX9_pivots 187 = .ok (.aload_n 1, 1) := dk_43 (dk_at dksX9_pivots_7 23 rfl rfl)
theorem dX9_pivots_188 : decode cX9_pivots 188 = .ok (.dup, 1) := dk_89 (dk_at dksX9_pivots_8 0 rfl rfl)
theorem dX9_pivots_189 : decode cX9_pivots 189 = .ok (.getfield 190, 3) := dk_180 0 190 (dk_at dksX9_pivots_8 1 rfl rfl)
theorem dX9_pivots_192 : decode cX9_pivots 192 = .ok (.iconst 1, 1) := dk_4 (dk_at dksX9_pivots_8 4 rfl rfl)
theorem dX9_pivots_193 : decode cX9_pivots 193 = .ok (.iadd, 1) := dk_96 (dk_at dksX9_pivots_8 5 rfl rfl)
theorem dX9_pivots_194 : decode cX9_pivots 194 = .ok (.putfield 190, 3) := dk_181 0 190 (dk_at dksX9_pivots_8 6 rfl rfl)
theorem dX9_pivots_197 : decode cX9_pivots 197 = .ok (.iconst 1, 1) := dk_4 (dk_at dksX9_pivots_8 9 rfl rfl)
theorem dX9_pivots_198 : decode cX9_pivots 198 = .ok (.ireturn, 1) := dk_172 (dk_at dksX9_pivots_8 10 rfl rfl)
abbrev cX9_tries : ByteArray := prog_19_method_33_code
def yX9_tries : MethodName := ⟨RX9, "tries", "(LWholePacksModel$Table;II)Z"⟩
def dkwX9_tries_15 : List UInt8 := [180, 0, 184, 28, 47, 105, 101, 43, 180, 0, 197, 109, 184, 0, 225, 153, 0, 7, 4, 167, 0, 4, 3, 172]
abbrev dktX9_tries_15 : List UInt8 := dkwX9_tries_15 ++ []
def dkwX9_tries_14 : List UInt8 := [167, 255, 172, 21, 6, 153, 0, 39, 22, 4, 43, 180, 0, 193, 105, 43, 180, 0, 203, 29, 47, 43]
abbrev dktX9_tries_14 : List UInt8 := dkwX9_tries_14 ++ dktX9_tries_15
def dkwX9_tries_13 : List UInt8 := [180, 0, 197, 109, 80, 21, 6, 43, 180, 0, 235, 21, 7, 47, 184, 0, 225, 126, 54, 6, 132, 7, 1]
abbrev dktX9_tries_13 : List UInt8 := dkwX9_tries_13 ++ dktX9_tries_14
def dkwX9_tries_12 : List UInt8 := [47, 105, 43, 180, 0, 203, 29, 47, 43, 180, 0, 175, 8, 28, 104, 21, 7, 96, 47, 105, 97, 43]
abbrev dktX9_tries_12 : List UInt8 := dkwX9_tries_12 ++ dktX9_tries_13
def dkwX9_tries_11 : List UInt8 := [21, 7, 29, 160, 0, 13, 43, 180, 0, 203, 21, 7, 47, 167, 0, 37, 22, 4, 43, 180, 0, 203, 21, 7]
abbrev dktX9_tries_11 : List UInt8 := dkwX9_tries_11 ++ dktX9_tries_12
def dkwX9_tries_10 : List UInt8 := [132, 7, 1, 167, 255, 41, 3, 54, 7, 21, 7, 43, 180, 0, 172, 162, 0, 81, 43, 180, 0, 235, 21, 7]
abbrev dktX9_tries_10 : List UInt8 := dkwX9_tries_10 ++ dktX9_tries_11
def dkwX9_tries_9 : List UInt8 := [97, 43, 180, 0, 197, 109, 80, 21, 6, 43, 180, 0, 232, 21, 7, 47, 184, 0, 225, 126, 54, 6]
abbrev dktX9_tries_9 : List UInt8 := dkwX9_tries_9 ++ dktX9_tries_10
def dkwX9_tries_8 : List UInt8 := [47, 117, 167, 0, 28, 22, 4, 43, 180, 0, 184, 21, 7, 47, 105, 22, 8, 43, 180, 0, 184, 28, 47, 105]
abbrev dktX9_tries_8 : List UInt8 := dkwX9_tries_8 ++ dktX9_tries_9
def dkwX9_tries_7 : List UInt8 := [132, 10, 1, 167, 255, 136, 43, 180, 0, 232, 21, 7, 21, 7, 28, 160, 0, 14, 43, 180, 0, 184, 21, 7]
abbrev dktX9_tries_7 : List UInt8 := dkwX9_tries_7 ++ dktX9_tries_8
def dkwX9_tries_6 : List UInt8 := [43, 180, 0, 229, 8, 21, 7, 104, 21, 10, 96, 22, 11, 80, 21, 6, 22, 11, 184, 0, 225, 126, 54, 6]
abbrev dktX9_tries_6 : List UInt8 := dkwX9_tries_6 ++ dktX9_tries_7
def dkwX9_tries_5 : List UInt8 := [47, 105, 22, 8, 43, 180, 0, 175, 8, 28, 104, 21, 10, 96, 47, 105, 97, 43, 180, 0, 197, 109, 55, 11]
abbrev dktX9_tries_5 : List UInt8 := dkwX9_tries_5 ++ dktX9_tries_6
def dkwX9_tries_4 : List UInt8 := [21, 10, 29, 160, 0, 8, 22, 8, 167, 0, 38, 22, 4, 43, 180, 0, 175, 8, 21, 7, 104, 21, 10, 96]
abbrev dktX9_tries_4 : List UInt8 := dkwX9_tries_4 ++ dktX9_tries_5
def dkwX9_tries_3 : List UInt8 := [180, 0, 197, 117, 167, 0, 65, 43, 180, 0, 175, 8, 21, 7, 104, 21, 10, 96, 47, 117, 167, 0, 49]
abbrev dktX9_tries_3 : List UInt8 := dkwX9_tries_3 ++ dktX9_tries_4
def dkwX9_tries_2 : List UInt8 := [54, 10, 21, 10, 43, 180, 0, 172, 162, 0, 117, 21, 7, 28, 160, 0, 33, 21, 10, 29, 160, 0, 11, 43]
abbrev dktX9_tries_2 : List UInt8 := dkwX9_tries_2 ++ dktX9_tries_3
def dkwX9_tries_1 : List UInt8 := [21, 7, 43, 180, 0, 178, 162, 0, 212, 43, 180, 0, 175, 8, 21, 7, 104, 29, 96, 47, 55, 8, 3]
abbrev dktX9_tries_1 : List UInt8 := dkwX9_tries_1 ++ dktX9_tries_2
def dkwX9_tries_0 : List UInt8 := [43, 180, 0, 175, 8, 28, 104, 29, 96, 47, 117, 55, 4, 22, 4, 184, 0, 225, 54, 6, 3, 54, 7]
abbrev dktX9_tries_0 : List UInt8 := dkwX9_tries_0 ++ dktX9_tries_1
theorem dksX9_tries_0 : cX9_tries.data.toList.drop 0 = dktX9_tries_0 := by decide +kernel
theorem dksX9_tries_1 : cX9_tries.data.toList.drop 23 = dktX9_tries_1 := dk_seg dksX9_tries_0 23 rfl rfl
theorem dksX9_tries_2 : cX9_tries.data.toList.drop 46 = dktX9_tries_2 := dk_seg dksX9_tries_1 23 rfl rfl
theorem dksX9_tries_3 : cX9_tries.data.toList.drop 70 = dktX9_tries_3 := dk_seg dksX9_tries_2 24 rfl rfl
theorem dksX9_tries_4 : cX9_tries.data.toList.drop 93 = dktX9_tries_4 := dk_seg dksX9_tries_3 23 rfl rfl
theorem dksX9_tries_5 : cX9_tries.data.toList.drop 117 = dktX9_tries_5 := dk_seg dksX9_tries_4 24 rfl rfl
theorem dksX9_tries_6 : cX9_tries.data.toList.drop 141 = dktX9_tries_6 := dk_seg dksX9_tries_5 24 rfl rfl
theorem dksX9_tries_7 : cX9_tries.data.toList.drop 165 = dktX9_tries_7 := dk_seg dksX9_tries_6 24 rfl rfl
theorem dksX9_tries_8 : cX9_tries.data.toList.drop 189 = dktX9_tries_8 := dk_seg dksX9_tries_7 24 rfl rfl
theorem dksX9_tries_9 : cX9_tries.data.toList.drop 213 = dktX9_tries_9 := dk_seg dksX9_tries_8 24 rfl rfl
theorem dksX9_tries_10 : cX9_tries.data.toList.drop 235 = dktX9_tries_10 := dk_seg dksX9_tries_9 22 rfl rfl
theorem dksX9_tries_11 : cX9_tries.data.toList.drop 259 = dktX9_tries_11 := dk_seg dksX9_tries_10 24 rfl rfl
theorem dksX9_tries_12 : cX9_tries.data.toList.drop 283 = dktX9_tries_12 := dk_seg dksX9_tries_11 24 rfl rfl
theorem dksX9_tries_13 : cX9_tries.data.toList.drop 305 = dktX9_tries_13 := dk_seg dksX9_tries_12 22 rfl rfl
theorem dksX9_tries_14 : cX9_tries.data.toList.drop 328 = dktX9_tries_14 := dk_seg dksX9_tries_13 23 rfl rfl
theorem dksX9_tries_15 : cX9_tries.data.toList.drop 350 = dktX9_tries_15 := dk_seg dksX9_tries_14 22 rfl rfl
theorem dX9_tries_0 : decode cX9_tries 0 = .ok (.aload_n 1, 1) := dk_43 (dk_at dksX9_tries_0 0 rfl rfl)
theorem dX9_tries_1 : decode cX9_tries 1 = .ok (.getfield 175, 3) := dk_180 0 175 (dk_at dksX9_tries_0 1 rfl rfl)
theorem dX9_tries_4 : decode cX9_tries 4 = .ok (.iconst 5, 1) := dk_8 (dk_at dksX9_tries_0 4 rfl rfl)
theorem dX9_tries_5 : decode cX9_tries 5 = .ok (.iload_n 2, 1) := dk_28 (dk_at dksX9_tries_0 5 rfl rfl)
theorem dX9_tries_6 : decode cX9_tries 6 = .ok (.imul, 1) := dk_104 (dk_at dksX9_tries_0 6 rfl rfl)
theorem dX9_tries_7 : decode cX9_tries 7 = .ok (.iload_n 3, 1) := dk_29 (dk_at dksX9_tries_0 7 rfl rfl)
theorem dX9_tries_8 : decode cX9_tries 8 = .ok (.iadd, 1) := dk_96 (dk_at dksX9_tries_0 8 rfl rfl)
theorem dX9_tries_9 : decode cX9_tries 9 = .ok (.laload, 1) := dk_47 (dk_at dksX9_tries_0 9 rfl rfl)
theorem dX9_tries_10 : decode cX9_tries 10 = .ok (.lneg, 1) := dk_117 (dk_at dksX9_tries_0 10 rfl rfl)
theorem dX9_tries_11 : decode cX9_tries 11 = .ok (.lstore 4, 2) := dk_55 4 (dk_at dksX9_tries_0 11 rfl rfl)
theorem dX9_tries_13 : decode cX9_tries 13 = .ok (.lload 4, 2) := dk_22 4 (dk_at dksX9_tries_0 13 rfl rfl)
theorem dX9_tries_15 : decode cX9_tries 15 = .ok (.invokestatic 225, 3) := dk_184 0 225 (dk_at dksX9_tries_0 15 rfl rfl)
theorem dX9_tries_18 : decode cX9_tries 18 = .ok (.istore 6, 2) := dk_54 6 (dk_at dksX9_tries_0 18 rfl rfl)
theorem dX9_tries_20 : decode cX9_tries 20 = .ok (.iconst 0, 1) := dk_3 (dk_at dksX9_tries_0 20 rfl rfl)
theorem dX9_tries_21 : decode cX9_tries 21 = .ok (.istore 7, 2) := dk_54 7 (dk_at dksX9_tries_0 21 rfl rfl)
theorem dX9_tries_23 : decode cX9_tries 23 = .ok (.iload 7, 2) := dk_21 7 (dk_at dksX9_tries_1 0 rfl rfl)
theorem dX9_tries_25 : decode cX9_tries 25 = .ok (.aload_n 1, 1) := dk_43 (dk_at dksX9_tries_1 2 rfl rfl)
theorem dX9_tries_26 : decode cX9_tries 26 = .ok (.getfield 178, 3) := dk_180 0 178 (dk_at dksX9_tries_1 3 rfl rfl)
theorem dX9_tries_29 : decode cX9_tries 29 = .ok (.if_icmp .ge 212, 3) := dk_162 0 212 (dk_at dksX9_tries_1 6 rfl rfl)
theorem dX9_tries_32 : decode cX9_tries 32 = .ok (.aload_n 1, 1) := dk_43 (dk_at dksX9_tries_1 9 rfl rfl)
theorem dX9_tries_33 : decode cX9_tries 33 = .ok (.getfield 175, 3) := dk_180 0 175 (dk_at dksX9_tries_1 10 rfl rfl)
theorem dX9_tries_36 : decode cX9_tries 36 = .ok (.iconst 5, 1) := dk_8 (dk_at dksX9_tries_1 13 rfl rfl)
theorem dX9_tries_37 : decode cX9_tries 37 = .ok (.iload 7, 2) := dk_21 7 (dk_at dksX9_tries_1 14 rfl rfl)
theorem dX9_tries_39 : decode cX9_tries 39 = .ok (.imul, 1) := dk_104 (dk_at dksX9_tries_1 16 rfl rfl)
theorem dX9_tries_40 : decode cX9_tries 40 = .ok (.iload_n 3, 1) := dk_29 (dk_at dksX9_tries_1 17 rfl rfl)
theorem dX9_tries_41 : decode cX9_tries 41 = .ok (.iadd, 1) := dk_96 (dk_at dksX9_tries_1 18 rfl rfl)
theorem dX9_tries_42 : decode cX9_tries 42 = .ok (.laload, 1) := dk_47 (dk_at dksX9_tries_1 19 rfl rfl)
theorem dX9_tries_43 : decode cX9_tries 43 = .ok (.lstore 8, 2) := dk_55 8 (dk_at dksX9_tries_1 20 rfl rfl)
theorem dX9_tries_45 : decode cX9_tries 45 = .ok (.iconst 0, 1) := dk_3 (dk_at dksX9_tries_1 22 rfl rfl)
theorem dX9_tries_46 : decode cX9_tries 46 = .ok (.istore 10, 2) := dk_54 10 (dk_at dksX9_tries_2 0 rfl rfl)
theorem dX9_tries_48 : decode cX9_tries 48 = .ok (.iload 10, 2) := dk_21 10 (dk_at dksX9_tries_2 2 rfl rfl)
theorem dX9_tries_50 : decode cX9_tries 50 = .ok (.aload_n 1, 1) := dk_43 (dk_at dksX9_tries_2 4 rfl rfl)
theorem dX9_tries_51 : decode cX9_tries 51 = .ok (.getfield 172, 3) := dk_180 0 172 (dk_at dksX9_tries_2 5 rfl rfl)
theorem dX9_tries_54 : decode cX9_tries 54 = .ok (.if_icmp .ge 117, 3) := dk_162 0 117 (dk_at dksX9_tries_2 8 rfl rfl)
theorem dX9_tries_57 : decode cX9_tries 57 = .ok (.iload 7, 2) := dk_21 7 (dk_at dksX9_tries_2 11 rfl rfl)
theorem dX9_tries_59 : decode cX9_tries 59 = .ok (.iload_n 2, 1) := dk_28 (dk_at dksX9_tries_2 13 rfl rfl)
theorem dX9_tries_60 : decode cX9_tries 60 = .ok (.if_icmp .ne 33, 3) := dk_160 0 33 (dk_at dksX9_tries_2 14 rfl rfl)
theorem dX9_tries_63 : decode cX9_tries 63 = .ok (.iload 10, 2) := dk_21 10 (dk_at dksX9_tries_2 17 rfl rfl)
theorem dX9_tries_65 : decode cX9_tries 65 = .ok (.iload_n 3, 1) := dk_29 (dk_at dksX9_tries_2 19 rfl rfl)
theorem dX9_tries_66 : decode cX9_tries 66 = .ok (.if_icmp .ne 11, 3) := dk_160 0 11 (dk_at dksX9_tries_2 20 rfl rfl)
theorem dX9_tries_69 : decode cX9_tries 69 = .ok (.aload_n 1, 1) := dk_43 (dk_at dksX9_tries_2 23 rfl rfl)
theorem dX9_tries_70 : decode cX9_tries 70 = .ok (.getfield 197, 3) := dk_180 0 197 (dk_at dksX9_tries_3 0 rfl rfl)
theorem dX9_tries_73 : decode cX9_tries 73 = .ok (.lneg, 1) := dk_117 (dk_at dksX9_tries_3 3 rfl rfl)
theorem dX9_tries_74 : decode cX9_tries 74 = .ok (.goto 65, 3) := dk_167 0 65 (dk_at dksX9_tries_3 4 rfl rfl)
theorem dX9_tries_77 : decode cX9_tries 77 = .ok (.aload_n 1, 1) := dk_43 (dk_at dksX9_tries_3 7 rfl rfl)
theorem dX9_tries_78 : decode cX9_tries 78 = .ok (.getfield 175, 3) := dk_180 0 175 (dk_at dksX9_tries_3 8 rfl rfl)
theorem dX9_tries_81 : decode cX9_tries 81 = .ok (.iconst 5, 1) := dk_8 (dk_at dksX9_tries_3 11 rfl rfl)
theorem dX9_tries_82 : decode cX9_tries 82 = .ok (.iload 7, 2) := dk_21 7 (dk_at dksX9_tries_3 12 rfl rfl)
theorem dX9_tries_84 : decode cX9_tries 84 = .ok (.imul, 1) := dk_104 (dk_at dksX9_tries_3 14 rfl rfl)
theorem dX9_tries_85 : decode cX9_tries 85 = .ok (.iload 10, 2) := dk_21 10 (dk_at dksX9_tries_3 15 rfl rfl)
theorem dX9_tries_87 : decode cX9_tries 87 = .ok (.iadd, 1) := dk_96 (dk_at dksX9_tries_3 17 rfl rfl)
theorem dX9_tries_88 : decode cX9_tries 88 = .ok (.laload, 1) := dk_47 (dk_at dksX9_tries_3 18 rfl rfl)
theorem dX9_tries_89 : decode cX9_tries 89 = .ok (.lneg, 1) := dk_117 (dk_at dksX9_tries_3 19 rfl rfl)
theorem dX9_tries_90 : decode cX9_tries 90 = .ok (.goto 49, 3) := dk_167 0 49 (dk_at dksX9_tries_3 20 rfl rfl)
theorem dX9_tries_93 : decode cX9_tries 93 = .ok (.iload 10, 2) := dk_21 10 (dk_at dksX9_tries_4 0 rfl rfl)
theorem dX9_tries_95 : decode cX9_tries 95 = .ok (.iload_n 3, 1) := dk_29 (dk_at dksX9_tries_4 2 rfl rfl)
theorem dX9_tries_96 : decode cX9_tries 96 = .ok (.if_icmp .ne 8, 3) := dk_160 0 8 (dk_at dksX9_tries_4 3 rfl rfl)
theorem dX9_tries_99 : decode cX9_tries 99 = .ok (.lload 8, 2) := dk_22 8 (dk_at dksX9_tries_4 6 rfl rfl)
theorem dX9_tries_101 : decode cX9_tries 101 = .ok (.goto 38, 3) := dk_167 0 38 (dk_at dksX9_tries_4 8 rfl rfl)
theorem dX9_tries_104 : decode cX9_tries 104 = .ok (.lload 4, 2) := dk_22 4 (dk_at dksX9_tries_4 11 rfl rfl)
theorem dX9_tries_106 : decode cX9_tries 106 = .ok (.aload_n 1, 1) := dk_43 (dk_at dksX9_tries_4 13 rfl rfl)
theorem dX9_tries_107 : decode cX9_tries 107 = .ok (.getfield 175, 3) := dk_180 0 175 (dk_at dksX9_tries_4 14 rfl rfl)
theorem dX9_tries_110 : decode cX9_tries 110 = .ok (.iconst 5, 1) := dk_8 (dk_at dksX9_tries_4 17 rfl rfl)
theorem dX9_tries_111 : decode cX9_tries 111 = .ok (.iload 7, 2) := dk_21 7 (dk_at dksX9_tries_4 18 rfl rfl)
theorem dX9_tries_113 : decode cX9_tries 113 = .ok (.imul, 1) := dk_104 (dk_at dksX9_tries_4 20 rfl rfl)
theorem dX9_tries_114 : decode cX9_tries 114 = .ok (.iload 10, 2) := dk_21 10 (dk_at dksX9_tries_4 21 rfl rfl)
theorem dX9_tries_116 : decode cX9_tries 116 = .ok (.iadd, 1) := dk_96 (dk_at dksX9_tries_4 23 rfl rfl)
theorem dX9_tries_117 : decode cX9_tries 117 = .ok (.laload, 1) := dk_47 (dk_at dksX9_tries_5 0 rfl rfl)
theorem dX9_tries_118 : decode cX9_tries 118 = .ok (.lmul, 1) := dk_105 (dk_at dksX9_tries_5 1 rfl rfl)
theorem dX9_tries_119 : decode cX9_tries 119 = .ok (.lload 8, 2) := dk_22 8 (dk_at dksX9_tries_5 2 rfl rfl)
theorem dX9_tries_121 : decode cX9_tries 121 = .ok (.aload_n 1, 1) := dk_43 (dk_at dksX9_tries_5 4 rfl rfl)
theorem dX9_tries_122 : decode cX9_tries 122 = .ok (.getfield 175, 3) := dk_180 0 175 (dk_at dksX9_tries_5 5 rfl rfl)
theorem dX9_tries_125 : decode cX9_tries 125 = .ok (.iconst 5, 1) := dk_8 (dk_at dksX9_tries_5 8 rfl rfl)
theorem dX9_tries_126 : decode cX9_tries 126 = .ok (.iload_n 2, 1) := dk_28 (dk_at dksX9_tries_5 9 rfl rfl)
theorem dX9_tries_127 : decode cX9_tries 127 = .ok (.imul, 1) := dk_104 (dk_at dksX9_tries_5 10 rfl rfl)
theorem dX9_tries_128 : decode cX9_tries 128 = .ok (.iload 10, 2) := dk_21 10 (dk_at dksX9_tries_5 11 rfl rfl)
theorem dX9_tries_130 : decode cX9_tries 130 = .ok (.iadd, 1) := dk_96 (dk_at dksX9_tries_5 13 rfl rfl)
theorem dX9_tries_131 : decode cX9_tries 131 = .ok (.laload, 1) := dk_47 (dk_at dksX9_tries_5 14 rfl rfl)
theorem dX9_tries_132 : decode cX9_tries 132 = .ok (.lmul, 1) := dk_105 (dk_at dksX9_tries_5 15 rfl rfl)
theorem dX9_tries_133 : decode cX9_tries 133 = .ok (.ladd, 1) := dk_97 (dk_at dksX9_tries_5 16 rfl rfl)
theorem dX9_tries_134 : decode cX9_tries 134 = .ok (.aload_n 1, 1) := dk_43 (dk_at dksX9_tries_5 17 rfl rfl)
theorem dX9_tries_135 : decode cX9_tries 135 = .ok (.getfield 197, 3) := dk_180 0 197 (dk_at dksX9_tries_5 18 rfl rfl)
theorem dX9_tries_138 : decode cX9_tries 138 = .ok (.ldiv, 1) := dk_109 (dk_at dksX9_tries_5 21 rfl rfl)
theorem dX9_tries_139 : decode cX9_tries 139 = .ok (.lstore 11, 2) := dk_55 11 (dk_at dksX9_tries_5 22 rfl rfl)
theorem dX9_tries_141 : decode cX9_tries 141 = .ok (.aload_n 1, 1) := dk_43 (dk_at dksX9_tries_6 0 rfl rfl)
theorem dX9_tries_142 : decode cX9_tries 142 = .ok (.getfield 229, 3) := dk_180 0 229 (dk_at dksX9_tries_6 1 rfl rfl)
theorem dX9_tries_145 : decode cX9_tries 145 = .ok (.iconst 5, 1) := dk_8 (dk_at dksX9_tries_6 4 rfl rfl)
theorem dX9_tries_146 : decode cX9_tries 146 = .ok (.iload 7, 2) := dk_21 7 (dk_at dksX9_tries_6 5 rfl rfl)
theorem dX9_tries_148 : decode cX9_tries 148 = .ok (.imul, 1) := dk_104 (dk_at dksX9_tries_6 7 rfl rfl)
theorem dX9_tries_149 : decode cX9_tries 149 = .ok (.iload 10, 2) := dk_21 10 (dk_at dksX9_tries_6 8 rfl rfl)
theorem dX9_tries_151 : decode cX9_tries 151 = .ok (.iadd, 1) := dk_96 (dk_at dksX9_tries_6 10 rfl rfl)
theorem dX9_tries_152 : decode cX9_tries 152 = .ok (.lload 11, 2) := dk_22 11 (dk_at dksX9_tries_6 11 rfl rfl)
theorem dX9_tries_154 : decode cX9_tries 154 = .ok (.lastore, 1) := dk_80 (dk_at dksX9_tries_6 13 rfl rfl)
theorem dX9_tries_155 : decode cX9_tries 155 = .ok (.iload 6, 2) := dk_21 6 (dk_at dksX9_tries_6 14 rfl rfl)
theorem dX9_tries_157 : decode cX9_tries 157 = .ok (.lload 11, 2) := dk_22 11 (dk_at dksX9_tries_6 16 rfl rfl)
theorem dX9_tries_159 : decode cX9_tries 159 = .ok (.invokestatic 225, 3) := dk_184 0 225 (dk_at dksX9_tries_6 18 rfl rfl)
theorem dX9_tries_162 : decode cX9_tries 162 = .ok (.iand, 1) := dk_126 (dk_at dksX9_tries_6 21 rfl rfl)
theorem dX9_tries_163 : decode cX9_tries 163 = .ok (.istore 6, 2) := dk_54 6 (dk_at dksX9_tries_6 22 rfl rfl)
theorem dX9_tries_165 : decode cX9_tries 165 = .ok (.iinc 10 1, 3) := dk_132 10 1 (dk_at dksX9_tries_7 0 rfl rfl)
theorem dX9_tries_168 : decode cX9_tries 168 = .ok (.goto (-120), 3) := dk_167 255 136 (dk_at dksX9_tries_7 3 rfl rfl)
theorem dX9_tries_171 : decode cX9_tries 171 = .ok (.aload_n 1, 1) := dk_43 (dk_at dksX9_tries_7 6 rfl rfl)
theorem dX9_tries_172 : decode cX9_tries 172 = .ok (.getfield 232, 3) := dk_180 0 232 (dk_at dksX9_tries_7 7 rfl rfl)
theorem dX9_tries_175 : decode cX9_tries 175 = .ok (.iload 7, 2) := dk_21 7 (dk_at dksX9_tries_7 10 rfl rfl)
theorem dX9_tries_177 : decode cX9_tries 177 = .ok (.iload 7, 2) := dk_21 7 (dk_at dksX9_tries_7 12 rfl rfl)
theorem dX9_tries_179 : decode cX9_tries 179 = .ok (.iload_n 2, 1) := dk_28 (dk_at dksX9_tries_7 14 rfl rfl)
theorem dX9_tries_180 : decode cX9_tries 180 = .ok (.if_icmp .ne 14, 3) := dk_160 0 14 (dk_at dksX9_tries_7 15 rfl rfl)
theorem dX9_tries_183 : decode cX9_tries 183 = .ok (.aload_n 1, 1) := dk_43 (dk_at dksX9_tries_7 18 rfl rfl)
theorem dX9_tries_184 : decode cX9_tries 184 = .ok (.getfield 184, 3) := dk_180 0 184 (dk_at dksX9_tries_7 19 rfl rfl)
theorem dX9_tries_187 : decode cX9_tries 187 = .ok (.iload 7, 2) := dk_21 7 (dk_at dksX9_tries_7 22 rfl rfl)
theorem dX9_tries_189 : decode cX9_tries 189 = .ok (.laload, 1) := dk_47 (dk_at dksX9_tries_8 0 rfl rfl)
theorem dX9_tries_190 : decode cX9_tries 190 = .ok (.lneg, 1) := dk_117 (dk_at dksX9_tries_8 1 rfl rfl)
theorem dX9_tries_191 : decode cX9_tries 191 = .ok (.goto 28, 3) := dk_167 0 28 (dk_at dksX9_tries_8 2 rfl rfl)
theorem dX9_tries_194 : decode cX9_tries 194 = .ok (.lload 4, 2) := dk_22 4 (dk_at dksX9_tries_8 5 rfl rfl)
theorem dX9_tries_196 : decode cX9_tries 196 = .ok (.aload_n 1, 1) := dk_43 (dk_at dksX9_tries_8 7 rfl rfl)
theorem dX9_tries_197 : decode cX9_tries 197 = .ok (.getfield 184, 3) := dk_180 0 184 (dk_at dksX9_tries_8 8 rfl rfl)
theorem dX9_tries_200 : decode cX9_tries 200 = .ok (.iload 7, 2) := dk_21 7 (dk_at dksX9_tries_8 11 rfl rfl)
theorem dX9_tries_202 : decode cX9_tries 202 = .ok (.laload, 1) := dk_47 (dk_at dksX9_tries_8 13 rfl rfl)
theorem dX9_tries_203 : decode cX9_tries 203 = .ok (.lmul, 1) := dk_105 (dk_at dksX9_tries_8 14 rfl rfl)
theorem dX9_tries_204 : decode cX9_tries 204 = .ok (.lload 8, 2) := dk_22 8 (dk_at dksX9_tries_8 15 rfl rfl)
theorem dX9_tries_206 : decode cX9_tries 206 = .ok (.aload_n 1, 1) := dk_43 (dk_at dksX9_tries_8 17 rfl rfl)
theorem dX9_tries_207 : decode cX9_tries 207 = .ok (.getfield 184, 3) := dk_180 0 184 (dk_at dksX9_tries_8 18 rfl rfl)
theorem dX9_tries_210 : decode cX9_tries 210 = .ok (.iload_n 2, 1) := dk_28 (dk_at dksX9_tries_8 21 rfl rfl)
theorem dX9_tries_211 : decode cX9_tries 211 = .ok (.laload, 1) := dk_47 (dk_at dksX9_tries_8 22 rfl rfl)
theorem dX9_tries_212 : decode cX9_tries 212 = .ok (.lmul, 1) := dk_105 (dk_at dksX9_tries_8 23 rfl rfl)
theorem dX9_tries_213 : decode cX9_tries 213 = .ok (.ladd, 1) := dk_97 (dk_at dksX9_tries_9 0 rfl rfl)
theorem dX9_tries_214 : decode cX9_tries 214 = .ok (.aload_n 1, 1) := dk_43 (dk_at dksX9_tries_9 1 rfl rfl)
theorem dX9_tries_215 : decode cX9_tries 215 = .ok (.getfield 197, 3) := dk_180 0 197 (dk_at dksX9_tries_9 2 rfl rfl)
theorem dX9_tries_218 : decode cX9_tries 218 = .ok (.ldiv, 1) := dk_109 (dk_at dksX9_tries_9 5 rfl rfl)
theorem dX9_tries_219 : decode cX9_tries 219 = .ok (.lastore, 1) := dk_80 (dk_at dksX9_tries_9 6 rfl rfl)
theorem dX9_tries_220 : decode cX9_tries 220 = .ok (.iload 6, 2) := dk_21 6 (dk_at dksX9_tries_9 7 rfl rfl)
theorem dX9_tries_222 : decode cX9_tries 222 = .ok (.aload_n 1, 1) := dk_43 (dk_at dksX9_tries_9 9 rfl rfl)
theorem dX9_tries_223 : decode cX9_tries 223 = .ok (.getfield 232, 3) := dk_180 0 232 (dk_at dksX9_tries_9 10 rfl rfl)
theorem dX9_tries_226 : decode cX9_tries 226 = .ok (.iload 7, 2) := dk_21 7 (dk_at dksX9_tries_9 13 rfl rfl)
theorem dX9_tries_228 : decode cX9_tries 228 = .ok (.laload, 1) := dk_47 (dk_at dksX9_tries_9 15 rfl rfl)
theorem dX9_tries_229 : decode cX9_tries 229 = .ok (.invokestatic 225, 3) := dk_184 0 225 (dk_at dksX9_tries_9 16 rfl rfl)
theorem dX9_tries_232 : decode cX9_tries 232 = .ok (.iand, 1) := dk_126 (dk_at dksX9_tries_9 19 rfl rfl)
theorem dX9_tries_233 : decode cX9_tries 233 = .ok (.istore 6, 2) := dk_54 6 (dk_at dksX9_tries_9 20 rfl rfl)
theorem dX9_tries_235 : decode cX9_tries 235 = .ok (.iinc 7 1, 3) := dk_132 7 1 (dk_at dksX9_tries_10 0 rfl rfl)
theorem dX9_tries_238 : decode cX9_tries 238 = .ok (.goto (-215), 3) := dk_167 255 41 (dk_at dksX9_tries_10 3 rfl rfl)
theorem dX9_tries_241 : decode cX9_tries 241 = .ok (.iconst 0, 1) := dk_3 (dk_at dksX9_tries_10 6 rfl rfl)
theorem dX9_tries_242 : decode cX9_tries 242 = .ok (.istore 7, 2) := dk_54 7 (dk_at dksX9_tries_10 7 rfl rfl)
theorem dX9_tries_244 : decode cX9_tries 244 = .ok (.iload 7, 2) := dk_21 7 (dk_at dksX9_tries_10 9 rfl rfl)
theorem dX9_tries_246 : decode cX9_tries 246 = .ok (.aload_n 1, 1) := dk_43 (dk_at dksX9_tries_10 11 rfl rfl)
theorem dX9_tries_247 : decode cX9_tries 247 = .ok (.getfield 172, 3) := dk_180 0 172 (dk_at dksX9_tries_10 12 rfl rfl)
theorem dX9_tries_250 : decode cX9_tries 250 = .ok (.if_icmp .ge 81, 3) := dk_162 0 81 (dk_at dksX9_tries_10 15 rfl rfl)
theorem dX9_tries_253 : decode cX9_tries 253 = .ok (.aload_n 1, 1) := dk_43 (dk_at dksX9_tries_10 18 rfl rfl)
theorem dX9_tries_254 : decode cX9_tries 254 = .ok (.getfield 235, 3) := dk_180 0 235 (dk_at dksX9_tries_10 19 rfl rfl)
theorem dX9_tries_257 : decode cX9_tries 257 = .ok (.iload 7, 2) := dk_21 7 (dk_at dksX9_tries_10 22 rfl rfl)
theorem dX9_tries_259 : decode cX9_tries 259 = .ok (.iload 7, 2) := dk_21 7 (dk_at dksX9_tries_11 0 rfl rfl)
theorem dX9_tries_261 : decode cX9_tries 261 = .ok (.iload_n 3, 1) := dk_29 (dk_at dksX9_tries_11 2 rfl rfl)
theorem dX9_tries_262 : decode cX9_tries 262 = .ok (.if_icmp .ne 13, 3) := dk_160 0 13 (dk_at dksX9_tries_11 3 rfl rfl)
theorem dX9_tries_265 : decode cX9_tries 265 = .ok (.aload_n 1, 1) := dk_43 (dk_at dksX9_tries_11 6 rfl rfl)
theorem dX9_tries_266 : decode cX9_tries 266 = .ok (.getfield 203, 3) := dk_180 0 203 (dk_at dksX9_tries_11 7 rfl rfl)
theorem dX9_tries_269 : decode cX9_tries 269 = .ok (.iload 7, 2) := dk_21 7 (dk_at dksX9_tries_11 10 rfl rfl)
theorem dX9_tries_271 : decode cX9_tries 271 = .ok (.laload, 1) := dk_47 (dk_at dksX9_tries_11 12 rfl rfl)
theorem dX9_tries_272 : decode cX9_tries 272 = .ok (.goto 37, 3) := dk_167 0 37 (dk_at dksX9_tries_11 13 rfl rfl)
theorem dX9_tries_275 : decode cX9_tries 275 = .ok (.lload 4, 2) := dk_22 4 (dk_at dksX9_tries_11 16 rfl rfl)
theorem dX9_tries_277 : decode cX9_tries 277 = .ok (.aload_n 1, 1) := dk_43 (dk_at dksX9_tries_11 18 rfl rfl)
theorem dX9_tries_278 : decode cX9_tries 278 = .ok (.getfield 203, 3) := dk_180 0 203 (dk_at dksX9_tries_11 19 rfl rfl)
theorem dX9_tries_281 : decode cX9_tries 281 = .ok (.iload 7, 2) := dk_21 7 (dk_at dksX9_tries_11 22 rfl rfl)
theorem dX9_tries_283 : decode cX9_tries 283 = .ok (.laload, 1) := dk_47 (dk_at dksX9_tries_12 0 rfl rfl)
theorem dX9_tries_284 : decode cX9_tries 284 = .ok (.lmul, 1) := dk_105 (dk_at dksX9_tries_12 1 rfl rfl)
theorem dX9_tries_285 : decode cX9_tries 285 = .ok (.aload_n 1, 1) := dk_43 (dk_at dksX9_tries_12 2 rfl rfl)
theorem dX9_tries_286 : decode cX9_tries 286 = .ok (.getfield 203, 3) := dk_180 0 203 (dk_at dksX9_tries_12 3 rfl rfl)
theorem dX9_tries_289 : decode cX9_tries 289 = .ok (.iload_n 3, 1) := dk_29 (dk_at dksX9_tries_12 6 rfl rfl)
theorem dX9_tries_290 : decode cX9_tries 290 = .ok (.laload, 1) := dk_47 (dk_at dksX9_tries_12 7 rfl rfl)
theorem dX9_tries_291 : decode cX9_tries 291 = .ok (.aload_n 1, 1) := dk_43 (dk_at dksX9_tries_12 8 rfl rfl)
theorem dX9_tries_292 : decode cX9_tries 292 = .ok (.getfield 175, 3) := dk_180 0 175 (dk_at dksX9_tries_12 9 rfl rfl)
theorem dX9_tries_295 : decode cX9_tries 295 = .ok (.iconst 5, 1) := dk_8 (dk_at dksX9_tries_12 12 rfl rfl)
theorem dX9_tries_296 : decode cX9_tries 296 = .ok (.iload_n 2, 1) := dk_28 (dk_at dksX9_tries_12 13 rfl rfl)
theorem dX9_tries_297 : decode cX9_tries 297 = .ok (.imul, 1) := dk_104 (dk_at dksX9_tries_12 14 rfl rfl)
theorem dX9_tries_298 : decode cX9_tries 298 = .ok (.iload 7, 2) := dk_21 7 (dk_at dksX9_tries_12 15 rfl rfl)
theorem dX9_tries_300 : decode cX9_tries 300 = .ok (.iadd, 1) := dk_96 (dk_at dksX9_tries_12 17 rfl rfl)
theorem dX9_tries_301 : decode cX9_tries 301 = .ok (.laload, 1) := dk_47 (dk_at dksX9_tries_12 18 rfl rfl)
theorem dX9_tries_302 : decode cX9_tries 302 = .ok (.lmul, 1) := dk_105 (dk_at dksX9_tries_12 19 rfl rfl)
theorem dX9_tries_303 : decode cX9_tries 303 = .ok (.ladd, 1) := dk_97 (dk_at dksX9_tries_12 20 rfl rfl)
theorem dX9_tries_304 : decode cX9_tries 304 = .ok (.aload_n 1, 1) := dk_43 (dk_at dksX9_tries_12 21 rfl rfl)
theorem dX9_tries_305 : decode cX9_tries 305 = .ok (.getfield 197, 3) := dk_180 0 197 (dk_at dksX9_tries_13 0 rfl rfl)
theorem dX9_tries_308 : decode cX9_tries 308 = .ok (.ldiv, 1) := dk_109 (dk_at dksX9_tries_13 3 rfl rfl)
theorem dX9_tries_309 : decode cX9_tries 309 = .ok (.lastore, 1) := dk_80 (dk_at dksX9_tries_13 4 rfl rfl)
theorem dX9_tries_310 : decode cX9_tries 310 = .ok (.iload 6, 2) := dk_21 6 (dk_at dksX9_tries_13 5 rfl rfl)
theorem dX9_tries_312 : decode cX9_tries 312 = .ok (.aload_n 1, 1) := dk_43 (dk_at dksX9_tries_13 7 rfl rfl)
theorem dX9_tries_313 : decode cX9_tries 313 = .ok (.getfield 235, 3) := dk_180 0 235 (dk_at dksX9_tries_13 8 rfl rfl)
theorem dX9_tries_316 : decode cX9_tries 316 = .ok (.iload 7, 2) := dk_21 7 (dk_at dksX9_tries_13 11 rfl rfl)
theorem dX9_tries_318 : decode cX9_tries 318 = .ok (.laload, 1) := dk_47 (dk_at dksX9_tries_13 13 rfl rfl)
theorem dX9_tries_319 : decode cX9_tries 319 = .ok (.invokestatic 225, 3) := dk_184 0 225 (dk_at dksX9_tries_13 14 rfl rfl)
theorem dX9_tries_322 : decode cX9_tries 322 = .ok (.iand, 1) := dk_126 (dk_at dksX9_tries_13 17 rfl rfl)
theorem dX9_tries_323 : decode cX9_tries 323 = .ok (.istore 6, 2) := dk_54 6 (dk_at dksX9_tries_13 18 rfl rfl)
theorem dX9_tries_325 : decode cX9_tries 325 = .ok (.iinc 7 1, 3) := dk_132 7 1 (dk_at dksX9_tries_13 20 rfl rfl)
theorem dX9_tries_328 : decode cX9_tries 328 = .ok (.goto (-84), 3) := dk_167 255 172 (dk_at dksX9_tries_14 0 rfl rfl)
theorem dX9_tries_331 : decode cX9_tries 331 = .ok (.iload 6, 2) := dk_21 6 (dk_at dksX9_tries_14 3 rfl rfl)
theorem dX9_tries_333 : decode cX9_tries 333 = .ok (.ifCond .eq 39, 3) := dk_153 0 39 (dk_at dksX9_tries_14 5 rfl rfl)
theorem dX9_tries_336 : decode cX9_tries 336 = .ok (.lload 4, 2) := dk_22 4 (dk_at dksX9_tries_14 8 rfl rfl)
theorem dX9_tries_338 : decode cX9_tries 338 = .ok (.aload_n 1, 1) := dk_43 (dk_at dksX9_tries_14 10 rfl rfl)
theorem dX9_tries_339 : decode cX9_tries 339 = .ok (.getfield 193, 3) := dk_180 0 193 (dk_at dksX9_tries_14 11 rfl rfl)
theorem dX9_tries_342 : decode cX9_tries 342 = .ok (.lmul, 1) := dk_105 (dk_at dksX9_tries_14 14 rfl rfl)
theorem dX9_tries_343 : decode cX9_tries 343 = .ok (.aload_n 1, 1) := dk_43 (dk_at dksX9_tries_14 15 rfl rfl)
theorem dX9_tries_344 : decode cX9_tries 344 = .ok (.getfield 203, 3) := dk_180 0 203 (dk_at dksX9_tries_14 16 rfl rfl)
theorem dX9_tries_347 : decode cX9_tries 347 = .ok (.iload_n 3, 1) := dk_29 (dk_at dksX9_tries_14 19 rfl rfl)
theorem dX9_tries_348 : decode cX9_tries 348 = .ok (.laload, 1) := dk_47 (dk_at dksX9_tries_14 20 rfl rfl)
theorem dX9_tries_349 : decode cX9_tries 349 = .ok (.aload_n 1, 1) := dk_43 (dk_at dksX9_tries_14 21 rfl rfl)
theorem dX9_tries_350 : decode cX9_tries 350 = .ok (.getfield 184, 3) := dk_180 0 184 (dk_at dksX9_tries_15 0 rfl rfl)
theorem dX9_tries_353 : decode cX9_tries 353 = .ok (.iload_n 2, 1) := dk_28 (dk_at dksX9_tries_15 3 rfl rfl)
theorem dX9_tries_354 : decode cX9_tries 354 = .ok (.laload, 1) := dk_47 (dk_at dksX9_tries_15 4 rfl rfl)
theorem dX9_tries_355 : decode cX9_tries 355 = .ok (.lmul, 1) := dk_105 (dk_at dksX9_tries_15 5 rfl rfl)
theorem dX9_tries_356 : decode cX9_tries 356 = .ok (.lsub, 1) := dk_101 (dk_at dksX9_tries_15 6 rfl rfl)
theorem dX9_tries_357 : decode cX9_tries 357 = .ok (.aload_n 1, 1) := dk_43 (dk_at dksX9_tries_15 7 rfl rfl)
theorem dX9_tries_358 : decode cX9_tries 358 = .ok (.getfield 197, 3) := dk_180 0 197 (dk_at dksX9_tries_15 8 rfl rfl)
theorem dX9_tries_361 : decode cX9_tries 361 = .ok (.ldiv, 1) := dk_109 (dk_at dksX9_tries_15 11 rfl rfl)
theorem dX9_tries_362 : decode cX9_tries 362 = .ok (.invokestatic 225, 3) := dk_184 0 225 (dk_at dksX9_tries_15 12 rfl rfl)
theorem dX9_tries_365 : decode cX9_tries 365 = .ok (.ifCond .eq 7, 3) := dk_153 0 7 (dk_at dksX9_tries_15 15 rfl rfl)
theorem dX9_tries_368 : decode cX9_tries 368 = .ok (.iconst 1, 1) := dk_4 (dk_at dksX9_tries_15 18 rfl rfl)
theorem dX9_tries_369 : decode cX9_tries 369 = .ok (.goto 4, 3) := dk_167 0 4 (dk_at dksX9_tries_15 19 rfl rfl)
theorem dX9_tries_372 : decode cX9_tries 372 = .ok (.iconst 0, 1) := dk_3 (dk_at dksX9_tries_15 22 rfl rfl)
theorem dX9_tries_373 : decode cX9_tries 373 = .ok (.ireturn, 1) := dk_172 (dk_at dksX9_tries_15 23 rfl rfl)
abbrev cX9_isNear : ByteArray := prog_19_method_32_code
def yX9_isNear : MethodName := ⟨RX9, "isNear", "(J)Z"⟩
def dkwX9_isNear_0 : List UInt8 := [30, 20, 0, 221, 148, 155, 0, 15, 30, 20, 0, 223, 148, 157, 0, 7, 4, 167, 0, 4, 3, 172]
abbrev dktX9_isNear_0 : List UInt8 := dkwX9_isNear_0 ++ []
theorem dksX9_isNear_0 : cX9_isNear.data.toList.drop 0 = dktX9_isNear_0 := by decide +kernel
theorem dX9_isNear_0 : decode cX9_isNear 0 = .ok (.lload_n 0, 1) := dk_30 (dk_at dksX9_isNear_0 0 rfl rfl)
theorem dX9_isNear_1 : decode cX9_isNear 1 = .ok (.ldc2_w 221, 3) := dk_20 0 221 (dk_at dksX9_isNear_0 1 rfl rfl)
theorem dX9_isNear_4 : decode cX9_isNear 4 = .ok (.lcmp, 1) := dk_148 (dk_at dksX9_isNear_0 4 rfl rfl)
theorem dX9_isNear_5 : decode cX9_isNear 5 = .ok (.ifCond .lt 15, 3) := dk_155 0 15 (dk_at dksX9_isNear_0 5 rfl rfl)
theorem dX9_isNear_8 : decode cX9_isNear 8 = .ok (.lload_n 0, 1) := dk_30 (dk_at dksX9_isNear_0 8 rfl rfl)
theorem dX9_isNear_9 : decode cX9_isNear 9 = .ok (.ldc2_w 223, 3) := dk_20 0 223 (dk_at dksX9_isNear_0 9 rfl rfl)
theorem dX9_isNear_12 : decode cX9_isNear 12 = .ok (.lcmp, 1) := dk_148 (dk_at dksX9_isNear_0 12 rfl rfl)
theorem dX9_isNear_13 : decode cX9_isNear 13 = .ok (.ifCond .gt 7, 3) := dk_157 0 7 (dk_at dksX9_isNear_0 13 rfl rfl)
theorem dX9_isNear_16 : decode cX9_isNear 16 = .ok (.iconst 1, 1) := dk_4 (dk_at dksX9_isNear_0 16 rfl rfl)
theorem dX9_isNear_17 : decode cX9_isNear 17 = .ok (.goto 4, 3) := dk_167 0 4 (dk_at dksX9_isNear_0 17 rfl rfl)
theorem dX9_isNear_20 : decode cX9_isNear 20 = .ok (.iconst 0, 1) := dk_3 (dk_at dksX9_isNear_0 20 rfl rfl)
theorem dX9_isNear_21 : decode cX9_isNear 21 = .ok (.ireturn, 1) := dk_172 (dk_at dksX9_isNear_0 21 rfl rfl)
abbrev cX9_partly : ByteArray := prog_19_method_38_code
def yX9_partly : MethodName := ⟨RX9, "partly", "(LWholePacksModel$Table;)I"⟩
def dkwX9_partly_2 : List UInt8 := [172]
abbrev dktX9_partly_2 : List UInt8 := dkwX9_partly_2 ++ []
def dkwX9_partly_1 : List UInt8 := [180, 0, 184, 28, 47, 43, 180, 0, 197, 113, 9, 148, 153, 0, 5, 28, 172, 132, 2, 1, 167, 255, 216, 2]
abbrev dktX9_partly_1 : List UInt8 := dkwX9_partly_1 ++ dktX9_partly_2
def dkwX9_partly_0 : List UInt8 := [3, 61, 28, 43, 180, 0, 178, 162, 0, 38, 43, 180, 0, 181, 28, 46, 16, 10, 162, 0, 21, 43]
abbrev dktX9_partly_0 : List UInt8 := dkwX9_partly_0 ++ dktX9_partly_1
theorem dksX9_partly_0 : cX9_partly.data.toList.drop 0 = dktX9_partly_0 := by decide +kernel
theorem dksX9_partly_1 : cX9_partly.data.toList.drop 22 = dktX9_partly_1 := dk_seg dksX9_partly_0 22 rfl rfl
theorem dksX9_partly_2 : cX9_partly.data.toList.drop 46 = dktX9_partly_2 := dk_seg dksX9_partly_1 24 rfl rfl
theorem dX9_partly_0 : decode cX9_partly 0 = .ok (.iconst 0, 1) := dk_3 (dk_at dksX9_partly_0 0 rfl rfl)
theorem dX9_partly_1 : decode cX9_partly 1 = .ok (.istore_n 2, 1) := dk_61 (dk_at dksX9_partly_0 1 rfl rfl)
theorem dX9_partly_2 : decode cX9_partly 2 = .ok (.iload_n 2, 1) := dk_28 (dk_at dksX9_partly_0 2 rfl rfl)
theorem dX9_partly_3 : decode cX9_partly 3 = .ok (.aload_n 1, 1) := dk_43 (dk_at dksX9_partly_0 3 rfl rfl)
theorem dX9_partly_4 : decode cX9_partly 4 = .ok (.getfield 178, 3) := dk_180 0 178 (dk_at dksX9_partly_0 4 rfl rfl)
theorem dX9_partly_7 : decode cX9_partly 7 = .ok (.if_icmp .ge 38, 3) := dk_162 0 38 (dk_at dksX9_partly_0 7 rfl rfl)
theorem dX9_partly_10 : decode cX9_partly 10 = .ok (.aload_n 1, 1) := dk_43 (dk_at dksX9_partly_0 10 rfl rfl)
theorem dX9_partly_11 : decode cX9_partly 11 = .ok (.getfield 181, 3) := dk_180 0 181 (dk_at dksX9_partly_0 11 rfl rfl)
theorem dX9_partly_14 : decode cX9_partly 14 = .ok (.iload_n 2, 1) := dk_28 (dk_at dksX9_partly_0 14 rfl rfl)
theorem dX9_partly_15 : decode cX9_partly 15 = .ok (.iaload, 1) := dk_46 (dk_at dksX9_partly_0 15 rfl rfl)
theorem dX9_partly_16 : decode cX9_partly 16 = .ok (.bipush 10, 2) := dk_16 10 (dk_at dksX9_partly_0 16 rfl rfl)
theorem dX9_partly_18 : decode cX9_partly 18 = .ok (.if_icmp .ge 21, 3) := dk_162 0 21 (dk_at dksX9_partly_0 18 rfl rfl)
theorem dX9_partly_21 : decode cX9_partly 21 = .ok (.aload_n 1, 1) := dk_43 (dk_at dksX9_partly_0 21 rfl rfl)
theorem dX9_partly_22 : decode cX9_partly 22 = .ok (.getfield 184, 3) := dk_180 0 184 (dk_at dksX9_partly_1 0 rfl rfl)
theorem dX9_partly_25 : decode cX9_partly 25 = .ok (.iload_n 2, 1) := dk_28 (dk_at dksX9_partly_1 3 rfl rfl)
theorem dX9_partly_26 : decode cX9_partly 26 = .ok (.laload, 1) := dk_47 (dk_at dksX9_partly_1 4 rfl rfl)
theorem dX9_partly_27 : decode cX9_partly 27 = .ok (.aload_n 1, 1) := dk_43 (dk_at dksX9_partly_1 5 rfl rfl)
theorem dX9_partly_28 : decode cX9_partly 28 = .ok (.getfield 197, 3) := dk_180 0 197 (dk_at dksX9_partly_1 6 rfl rfl)
theorem dX9_partly_31 : decode cX9_partly 31 = .ok (.lrem, 1) := dk_113 (dk_at dksX9_partly_1 9 rfl rfl)
theorem dX9_partly_32 : decode cX9_partly 32 = .ok (.lconst 0, 1) := dk_9 (dk_at dksX9_partly_1 10 rfl rfl)
theorem dX9_partly_33 : decode cX9_partly 33 = .ok (.lcmp, 1) := dk_148 (dk_at dksX9_partly_1 11 rfl rfl)
theorem dX9_partly_34 : decode cX9_partly 34 = .ok (.ifCond .eq 5, 3) := dk_153 0 5 (dk_at dksX9_partly_1 12 rfl rfl)
theorem dX9_partly_37 : decode cX9_partly 37 = .ok (.iload_n 2, 1) := dk_28 (dk_at dksX9_partly_1 15 rfl rfl)
theorem dX9_partly_38 : decode cX9_partly 38 = .ok (.ireturn, 1) := dk_172 (dk_at dksX9_partly_1 16 rfl rfl)
theorem dX9_partly_39 : decode cX9_partly 39 = .ok (.iinc 2 1, 3) := dk_132 2 1 (dk_at dksX9_partly_1 17 rfl rfl)
theorem dX9_partly_42 : decode cX9_partly 42 = .ok (.goto (-40), 3) := dk_167 255 216 (dk_at dksX9_partly_1 20 rfl rfl)
theorem dX9_partly_45 : decode cX9_partly 45 = .ok (.iconst (-1), 1) := dk_2 (dk_at dksX9_partly_1 23 rfl rfl)
theorem dX9_partly_46 : decode cX9_partly 46 = .ok (.ireturn, 1) := dk_172 (dk_at dksX9_partly_2 0 rfl rfl)
abbrev cX9_cuts : ByteArray := prog_19_method_42_code
def yX9_cuts : MethodName := ⟨RX9, "cuts", "(LWholePacksModel$Table;I)Z"⟩
def dkwX9_cuts_7 : List UInt8 := [80, 132, 4, 1, 167, 255, 171, 43, 89, 180, 0, 187, 4, 96, 181, 0, 187, 4, 172]
abbrev dktX9_cuts_7 : List UInt8 := dkwX9_cuts_7 ++ []
def dkwX9_cuts_6 : List UInt8 := [161, 0, 25, 43, 180, 1, 18, 16, 20, 29, 104, 43, 180, 0, 206, 21, 4, 46, 184, 1, 27, 96, 22, 5]
abbrev dktX9_cuts_6 : List UInt8 := dkwX9_cuts_6 ++ dktX9_cuts_7
def dkwX9_cuts_5 : List UInt8 := [43, 180, 0, 178, 4, 100, 104, 21, 4, 96, 22, 5, 117, 80, 43, 180, 0, 206, 21, 4, 46, 16, 10]
abbrev dktX9_cuts_5 : List UInt8 := dkwX9_cuts_5 ++ dktX9_cuts_6
def dkwX9_cuts_4 : List UInt8 := [180, 0, 175, 8, 28, 104, 21, 4, 96, 47, 43, 180, 0, 197, 184, 1, 24, 55, 5, 43, 180, 0, 175, 8]
abbrev dktX9_cuts_4 : List UInt8 := dkwX9_cuts_4 ++ dktX9_cuts_5
def dkwX9_cuts_3 : List UInt8 := [180, 0, 197, 184, 1, 24, 117, 182, 0, 213, 3, 54, 4, 21, 4, 43, 180, 0, 172, 162, 0, 82, 43]
abbrev dktX9_cuts_3 : List UInt8 := dkwX9_cuts_3 ++ dktX9_cuts_4
def dkwX9_cuts_2 : List UInt8 := [180, 1, 21, 29, 43, 180, 0, 197, 80, 42, 43, 16, 20, 29, 96, 43, 180, 0, 184, 28, 47, 43]
abbrev dktX9_cuts_2 : List UInt8 := dkwX9_cuts_2 ++ dktX9_cuts_3
def dkwX9_cuts_1 : List UInt8 := [162, 0, 22, 43, 180, 1, 18, 16, 20, 29, 104, 21, 4, 96, 9, 80, 132, 4, 1, 167, 255, 233, 43]
abbrev dktX9_cuts_1 : List UInt8 := dkwX9_cuts_1 ++ dktX9_cuts_2
def dkwX9_cuts_0 : List UInt8 := [42, 43, 28, 182, 1, 14, 154, 0, 5, 3, 172, 43, 180, 0, 187, 62, 3, 54, 4, 21, 4, 16, 20]
abbrev dktX9_cuts_0 : List UInt8 := dkwX9_cuts_0 ++ dktX9_cuts_1
theorem dksX9_cuts_0 : cX9_cuts.data.toList.drop 0 = dktX9_cuts_0 := by decide +kernel
theorem dksX9_cuts_1 : cX9_cuts.data.toList.drop 23 = dktX9_cuts_1 := dk_seg dksX9_cuts_0 23 rfl rfl
theorem dksX9_cuts_2 : cX9_cuts.data.toList.drop 46 = dktX9_cuts_2 := dk_seg dksX9_cuts_1 23 rfl rfl
theorem dksX9_cuts_3 : cX9_cuts.data.toList.drop 68 = dktX9_cuts_3 := dk_seg dksX9_cuts_2 22 rfl rfl
theorem dksX9_cuts_4 : cX9_cuts.data.toList.drop 91 = dktX9_cuts_4 := dk_seg dksX9_cuts_3 23 rfl rfl
theorem dksX9_cuts_5 : cX9_cuts.data.toList.drop 115 = dktX9_cuts_5 := dk_seg dksX9_cuts_4 24 rfl rfl
theorem dksX9_cuts_6 : cX9_cuts.data.toList.drop 138 = dktX9_cuts_6 := dk_seg dksX9_cuts_5 23 rfl rfl
theorem dksX9_cuts_7 : cX9_cuts.data.toList.drop 162 = dktX9_cuts_7 := dk_seg dksX9_cuts_6 24 rfl rfl
theorem dX9_cuts_0 : decode cX9_cuts 0 = .ok (.aload_n 0, 1) := dk_42 (dk_at dksX9_cuts_0 0 rfl rfl)
theorem dX9_cuts_1 : decode cX9_cuts 1 = .ok (.aload_n 1, 1) := dk_43 (dk_at dksX9_cuts_0 1 rfl rfl)
theorem dX9_cuts_2 : decode cX9_cuts 2 = .ok (.iload_n 2, 1) := dk_28 (dk_at dksX9_cuts_0 2 rfl rfl)
theorem dX9_cuts_3 : decode cX9_cuts 3 = .ok (.invokevirtual 270, 3) := dk_182 1 14 (dk_at dksX9_cuts_0 3 rfl rfl)
theorem dX9_cuts_6 : decode cX9_cuts 6 = .ok (.ifCond .ne 5, 3) := dk_154 0 5 (dk_at dksX9_cuts_0 6 rfl rfl)
theorem dX9_cuts_9 : decode cX9_cuts 9 = .ok (.iconst 0, 1) := dk_3 (dk_at dksX9_cuts_0 9 rfl rfl)
theorem dX9_cuts_10 : decode cX9_cuts 10 = .ok (.ireturn, 1) := dk_172 (dk_at dksX9_cuts_0 10 rfl rfl)
theorem dX9_cuts_11 : decode cX9_cuts 11 = .ok (.aload_n 1, 1) := dk_43 (dk_at dksX9_cuts_0 11 rfl rfl)
theorem dX9_cuts_12 : decode cX9_cuts 12 = .ok (.getfield 187, 3) := dk_180 0 187 (dk_at dksX9_cuts_0 12 rfl rfl)
theorem dX9_cuts_15 : decode cX9_cuts 15 = .ok (.istore_n 3, 1) := dk_62 (dk_at dksX9_cuts_0 15 rfl rfl)
theorem dX9_cuts_16 : decode cX9_cuts 16 = .ok (.iconst 0, 1) := dk_3 (dk_at dksX9_cuts_0 16 rfl rfl)
theorem dX9_cuts_17 : decode cX9_cuts 17 = .ok (.istore 4, 2) := dk_54 4 (dk_at dksX9_cuts_0 17 rfl rfl)
theorem dX9_cuts_19 : decode cX9_cuts 19 = .ok (.iload 4, 2) := dk_21 4 (dk_at dksX9_cuts_0 19 rfl rfl)
theorem dX9_cuts_21 : decode cX9_cuts 21 = .ok (.bipush 20, 2) := dk_16 20 (dk_at dksX9_cuts_0 21 rfl rfl)
theorem dX9_cuts_23 : decode cX9_cuts 23 = .ok (.if_icmp .ge 22, 3) := dk_162 0 22 (dk_at dksX9_cuts_1 0 rfl rfl)
theorem dX9_cuts_26 : decode cX9_cuts 26 = .ok (.aload_n 1, 1) := dk_43 (dk_at dksX9_cuts_1 3 rfl rfl)
theorem dX9_cuts_27 : decode cX9_cuts 27 = .ok (.getfield 274, 3) := dk_180 1 18 (dk_at dksX9_cuts_1 4 rfl rfl)
theorem dX9_cuts_30 : decode cX9_cuts 30 = .ok (.bipush 20, 2) := dk_16 20 (dk_at dksX9_cuts_1 7 rfl rfl)
theorem dX9_cuts_32 : decode cX9_cuts 32 = .ok (.iload_n 3, 1) := dk_29 (dk_at dksX9_cuts_1 9 rfl rfl)
theorem dX9_cuts_33 : decode cX9_cuts 33 = .ok (.imul, 1) := dk_104 (dk_at dksX9_cuts_1 10 rfl rfl)
theorem dX9_cuts_34 : decode cX9_cuts 34 = .ok (.iload 4, 2) := dk_21 4 (dk_at dksX9_cuts_1 11 rfl rfl)
theorem dX9_cuts_36 : decode cX9_cuts 36 = .ok (.iadd, 1) := dk_96 (dk_at dksX9_cuts_1 13 rfl rfl)
theorem dX9_cuts_37 : decode cX9_cuts 37 = .ok (.lconst 0, 1) := dk_9 (dk_at dksX9_cuts_1 14 rfl rfl)
theorem dX9_cuts_38 : decode cX9_cuts 38 = .ok (.lastore, 1) := dk_80 (dk_at dksX9_cuts_1 15 rfl rfl)
theorem dX9_cuts_39 : decode cX9_cuts 39 = .ok (.iinc 4 1, 3) := dk_132 4 1 (dk_at dksX9_cuts_1 16 rfl rfl)
theorem dX9_cuts_42 : decode cX9_cuts 42 = .ok (.goto (-23), 3) := dk_167 255 233 (dk_at dksX9_cuts_1 19 rfl rfl)
theorem dX9_cuts_45 : decode cX9_cuts 45 = .ok (.aload_n 1, 1) := dk_43 (dk_at dksX9_cuts_1 22 rfl rfl)
theorem dX9_cuts_46 : decode cX9_cuts 46 = .ok (.getfield 277, 3) := dk_180 1 21 (dk_at dksX9_cuts_2 0 rfl rfl)
theorem dX9_cuts_49 : decode cX9_cuts 49 = .ok (.iload_n 3, 1) := dk_29 (dk_at dksX9_cuts_2 3 rfl rfl)
theorem dX9_cuts_50 : decode cX9_cuts 50 = .ok (.aload_n 1, 1) := dk_43 (dk_at dksX9_cuts_2 4 rfl rfl)
theorem dX9_cuts_51 : decode cX9_cuts 51 = .ok (.getfield 197, 3) := dk_180 0 197 (dk_at dksX9_cuts_2 5 rfl rfl)
theorem dX9_cuts_54 : decode cX9_cuts 54 = .ok (.lastore, 1) := dk_80 (dk_at dksX9_cuts_2 8 rfl rfl)
theorem dX9_cuts_55 : decode cX9_cuts 55 = .ok (.aload_n 0, 1) := dk_42 (dk_at dksX9_cuts_2 9 rfl rfl)
theorem dX9_cuts_56 : decode cX9_cuts 56 = .ok (.aload_n 1, 1) := dk_43 (dk_at dksX9_cuts_2 10 rfl rfl)
theorem dX9_cuts_57 : decode cX9_cuts 57 = .ok (.bipush 20, 2) := dk_16 20 (dk_at dksX9_cuts_2 11 rfl rfl)
theorem dX9_cuts_59 : decode cX9_cuts 59 = .ok (.iload_n 3, 1) := dk_29 (dk_at dksX9_cuts_2 13 rfl rfl)
theorem dX9_cuts_60 : decode cX9_cuts 60 = .ok (.iadd, 1) := dk_96 (dk_at dksX9_cuts_2 14 rfl rfl)
theorem dX9_cuts_61 : decode cX9_cuts 61 = .ok (.aload_n 1, 1) := dk_43 (dk_at dksX9_cuts_2 15 rfl rfl)
theorem dX9_cuts_62 : decode cX9_cuts 62 = .ok (.getfield 184, 3) := dk_180 0 184 (dk_at dksX9_cuts_2 16 rfl rfl)
theorem dX9_cuts_65 : decode cX9_cuts 65 = .ok (.iload_n 2, 1) := dk_28 (dk_at dksX9_cuts_2 19 rfl rfl)
theorem dX9_cuts_66 : decode cX9_cuts 66 = .ok (.laload, 1) := dk_47 (dk_at dksX9_cuts_2 20 rfl rfl)
theorem dX9_cuts_67 : decode cX9_cuts 67 = .ok (.aload_n 1, 1) := dk_43 (dk_at dksX9_cuts_2 21 rfl rfl)
theorem dX9_cuts_68 : decode cX9_cuts 68 = .ok (.getfield 197, 3) := dk_180 0 197 (dk_at dksX9_cuts_3 0 rfl rfl)
theorem dX9_cuts_71 : decode cX9_cuts 71 = .ok (.invokestatic 280, 3) := dk_184 1 24 (dk_at dksX9_cuts_3 3 rfl rfl)
theorem dX9_cuts_74 : decode cX9_cuts 74 = .ok (.lneg, 1) := dk_117 (dk_at dksX9_cuts_3 6 rfl rfl)
theorem dX9_cuts_75 : decode cX9_cuts 75 = .ok (.invokevirtual 213, 3) := dk_182 0 213 (dk_at dksX9_cuts_3 7 rfl rfl)
theorem dX9_cuts_78 : decode cX9_cuts 78 = .ok (.iconst 0, 1) := dk_3 (dk_at dksX9_cuts_3 10 rfl rfl)
theorem dX9_cuts_79 : decode cX9_cuts 79 = .ok (.istore 4, 2) := dk_54 4 (dk_at dksX9_cuts_3 11 rfl rfl)
theorem dX9_cuts_81 : decode cX9_cuts 81 = .ok (.iload 4, 2) := dk_21 4 (dk_at dksX9_cuts_3 13 rfl rfl)
theorem dX9_cuts_83 : decode cX9_cuts 83 = .ok (.aload_n 1, 1) := dk_43 (dk_at dksX9_cuts_3 15 rfl rfl)
theorem dX9_cuts_84 : decode cX9_cuts 84 = .ok (.getfield 172, 3) := dk_180 0 172 (dk_at dksX9_cuts_3 16 rfl rfl)
theorem dX9_cuts_87 : decode cX9_cuts 87 = .ok (.if_icmp .ge 82, 3) := dk_162 0 82 (dk_at dksX9_cuts_3 19 rfl rfl)
theorem dX9_cuts_90 : decode cX9_cuts 90 = .ok (.aload_n 1, 1) := dk_43 (dk_at dksX9_cuts_3 22 rfl rfl)
theorem dX9_cuts_91 : decode cX9_cuts 91 = .ok (.getfield 175, 3) := dk_180 0 175 (dk_at dksX9_cuts_4 0 rfl rfl)
theorem dX9_cuts_94 : decode cX9_cuts 94 = .ok (.iconst 5, 1) := dk_8 (dk_at dksX9_cuts_4 3 rfl rfl)
theorem dX9_cuts_95 : decode cX9_cuts 95 = .ok (.iload_n 2, 1) := dk_28 (dk_at dksX9_cuts_4 4 rfl rfl)
theorem dX9_cuts_96 : decode cX9_cuts 96 = .ok (.imul, 1) := dk_104 (dk_at dksX9_cuts_4 5 rfl rfl)
theorem dX9_cuts_97 : decode cX9_cuts 97 = .ok (.iload 4, 2) := dk_21 4 (dk_at dksX9_cuts_4 6 rfl rfl)
theorem dX9_cuts_99 : decode cX9_cuts 99 = .ok (.iadd, 1) := dk_96 (dk_at dksX9_cuts_4 8 rfl rfl)
theorem dX9_cuts_100 : decode cX9_cuts 100 = .ok (.laload, 1) := dk_47 (dk_at dksX9_cuts_4 9 rfl rfl)
theorem dX9_cuts_101 : decode cX9_cuts 101 = .ok (.aload_n 1, 1) := dk_43 (dk_at dksX9_cuts_4 10 rfl rfl)
theorem dX9_cuts_102 : decode cX9_cuts 102 = .ok (.getfield 197, 3) := dk_180 0 197 (dk_at dksX9_cuts_4 11 rfl rfl)
theorem dX9_cuts_105 : decode cX9_cuts 105 = .ok (.invokestatic 280, 3) := dk_184 1 24 (dk_at dksX9_cuts_4 14 rfl rfl)
theorem dX9_cuts_108 : decode cX9_cuts 108 = .ok (.lstore 5, 2) := dk_55 5 (dk_at dksX9_cuts_4 17 rfl rfl)
theorem dX9_cuts_110 : decode cX9_cuts 110 = .ok (.aload_n 1, 1) := dk_43 (dk_at dksX9_cuts_4 19 rfl rfl)
theorem dX9_cuts_111 : decode cX9_cuts 111 = .ok (.getfield 175, 3) := dk_180 0 175 (dk_at dksX9_cuts_4 20 rfl rfl)
theorem dX9_cuts_114 : decode cX9_cuts 114 = .ok (.iconst 5, 1) := dk_8 (dk_at dksX9_cuts_4 23 rfl rfl)
theorem dX9_cuts_115 : decode cX9_cuts 115 = .ok (.aload_n 1, 1) := dk_43 (dk_at dksX9_cuts_5 0 rfl rfl)
theorem dX9_cuts_116 : decode cX9_cuts 116 = .ok (.getfield 178, 3) := dk_180 0 178 (dk_at dksX9_cuts_5 1 rfl rfl)
theorem dX9_cuts_119 : decode cX9_cuts 119 = .ok (.iconst 1, 1) := dk_4 (dk_at dksX9_cuts_5 4 rfl rfl)
theorem dX9_cuts_120 : decode cX9_cuts 120 = .ok (.isub, 1) := dk_100 (dk_at dksX9_cuts_5 5 rfl rfl)
theorem dX9_cuts_121 : decode cX9_cuts 121 = .ok (.imul, 1) := dk_104 (dk_at dksX9_cuts_5 6 rfl rfl)
theorem dX9_cuts_122 : decode cX9_cuts 122 = .ok (.iload 4, 2) := dk_21 4 (dk_at dksX9_cuts_5 7 rfl rfl)
theorem dX9_cuts_124 : decode cX9_cuts 124 = .ok (.iadd, 1) := dk_96 (dk_at dksX9_cuts_5 9 rfl rfl)
theorem dX9_cuts_125 : decode cX9_cuts 125 = .ok (.lload 5, 2) := dk_22 5 (dk_at dksX9_cuts_5 10 rfl rfl)
theorem dX9_cuts_127 : decode cX9_cuts 127 = .ok (.lneg, 1) := dk_117 (dk_at dksX9_cuts_5 12 rfl rfl)
theorem dX9_cuts_128 : decode cX9_cuts 128 = .ok (.lastore, 1) := dk_80 (dk_at dksX9_cuts_5 13 rfl rfl)
theorem dX9_cuts_129 : decode cX9_cuts 129 = .ok (.aload_n 1, 1) := dk_43 (dk_at dksX9_cuts_5 14 rfl rfl)
theorem dX9_cuts_130 : decode cX9_cuts 130 = .ok (.getfield 206, 3) := dk_180 0 206 (dk_at dksX9_cuts_5 15 rfl rfl)
theorem dX9_cuts_133 : decode cX9_cuts 133 = .ok (.iload 4, 2) := dk_21 4 (dk_at dksX9_cuts_5 18 rfl rfl)
theorem dX9_cuts_135 : decode cX9_cuts 135 = .ok (.iaload, 1) := dk_46 (dk_at dksX9_cuts_5 20 rfl rfl)
theorem dX9_cuts_136 : decode cX9_cuts 136 = .ok (.bipush 10, 2) := dk_16 10 (dk_at dksX9_cuts_5 21 rfl rfl)
theorem dX9_cuts_138 : decode cX9_cuts 138 = .ok (.if_icmp .lt 25, 3) := dk_161 0 25 (dk_at dksX9_cuts_6 0 rfl rfl)
theorem dX9_cuts_141 : decode cX9_cuts 141 = .ok (.aload_n 1, 1) := dk_43 (dk_at dksX9_cuts_6 3 rfl rfl)
theorem dX9_cuts_142 : decode cX9_cuts 142 = .ok (.getfield 274, 3) := dk_180 1 18 (dk_at dksX9_cuts_6 4 rfl rfl)
theorem dX9_cuts_145 : decode cX9_cuts 145 = .ok (.bipush 20, 2) := dk_16 20 (dk_at dksX9_cuts_6 7 rfl rfl)
theorem dX9_cuts_147 : decode cX9_cuts 147 = .ok (.iload_n 3, 1) := dk_29 (dk_at dksX9_cuts_6 9 rfl rfl)
theorem dX9_cuts_148 : decode cX9_cuts 148 = .ok (.imul, 1) := dk_104 (dk_at dksX9_cuts_6 10 rfl rfl)
theorem dX9_cuts_149 : decode cX9_cuts 149 = .ok (.aload_n 1, 1) := dk_43 (dk_at dksX9_cuts_6 11 rfl rfl)
theorem dX9_cuts_150 : decode cX9_cuts 150 = .ok (.getfield 206, 3) := dk_180 0 206 (dk_at dksX9_cuts_6 12 rfl rfl)
theorem dX9_cuts_153 : decode cX9_cuts 153 = .ok (.iload 4, 2) := dk_21 4 (dk_at dksX9_cuts_6 15 rfl rfl)
theorem dX9_cuts_155 : decode cX9_cuts 155 = .ok (.iaload, 1) := dk_46 (dk_at dksX9_cuts_6 17 rfl rfl)
theorem dX9_cuts_156 : decode cX9_cuts 156 = .ok (.invokestatic 283, 3) := dk_184 1 27 (dk_at dksX9_cuts_6 18 rfl rfl)
theorem dX9_cuts_159 : decode cX9_cuts 159 = .ok (.iadd, 1) := dk_96 (dk_at dksX9_cuts_6 21 rfl rfl)
theorem dX9_cuts_160 : decode cX9_cuts 160 = .ok (.lload 5, 2) := dk_22 5 (dk_at dksX9_cuts_6 22 rfl rfl)
theorem dX9_cuts_162 : decode cX9_cuts 162 = .ok (.lastore, 1) := dk_80 (dk_at dksX9_cuts_7 0 rfl rfl)
theorem dX9_cuts_163 : decode cX9_cuts 163 = .ok (.iinc 4 1, 3) := dk_132 4 1 (dk_at dksX9_cuts_7 1 rfl rfl)
theorem dX9_cuts_166 : decode cX9_cuts 166 = .ok (.goto (-85), 3) := dk_167 255 171 (dk_at dksX9_cuts_7 4 rfl rfl)
theorem dX9_cuts_169 : decode cX9_cuts 169 = .ok (.aload_n 1, 1) := dk_43 (dk_at dksX9_cuts_7 7 rfl rfl)
theorem dX9_cuts_170 : decode cX9_cuts 170 = .ok (.dup, 1) := dk_89 (dk_at dksX9_cuts_7 8 rfl rfl)
theorem dX9_cuts_171 : decode cX9_cuts 171 = .ok (.getfield 187, 3) := dk_180 0 187 (dk_at dksX9_cuts_7 9 rfl rfl)
theorem dX9_cuts_174 : decode cX9_cuts 174 = .ok (.iconst 1, 1) := dk_4 (dk_at dksX9_cuts_7 12 rfl rfl)
theorem dX9_cuts_175 : decode cX9_cuts 175 = .ok (.iadd, 1) := dk_96 (dk_at dksX9_cuts_7 13 rfl rfl)
theorem dX9_cuts_176 : decode cX9_cuts 176 = .ok (.putfield 187, 3) := dk_181 0 187 (dk_at dksX9_cuts_7 14 rfl rfl)
theorem dX9_cuts_179 : decode cX9_cuts 179 = .ok (.iconst 1, 1) := dk_4 (dk_at dksX9_cuts_7 17 rfl rfl)
theorem dX9_cuts_180 : decode cX9_cuts 180 = .ok (.ireturn, 1) := dk_172 (dk_at dksX9_cuts_7 18 rfl rfl)
abbrev cX9_tells : ByteArray := prog_19_method_41_code
def yX9_tells : MethodName := ⟨RX9, "tells", "(LWholePacksModel$Table;I)Z"⟩
def dkwX9_tells_11 : List UInt8 := [153, 0, 7, 4, 167, 0, 4, 3, 172]
abbrev dktX9_tells_11 : List UInt8 := dkwX9_tells_11 ++ []
def dkwX9_tells_10 : List UInt8 := [132, 7, 1, 167, 255, 196, 43, 180, 0, 253, 29, 22, 5, 80, 21, 4, 153, 0, 15, 22, 5, 184, 0, 225]
abbrev dktX9_tells_10 : List UInt8 := dkwX9_tells_10 ++ dktX9_tells_11
def dkwX9_tells_9 : List UInt8 := [43, 180, 0, 197, 184, 1, 0, 42, 43, 43, 180, 0, 206, 21, 7, 46, 182, 1, 10, 105, 101, 55, 5]
abbrev dktX9_tells_9 : List UInt8 := dkwX9_tells_9 ++ dktX9_tells_10
def dkwX9_tells_8 : List UInt8 := [180, 0, 206, 21, 7, 46, 16, 10, 161, 0, 39, 22, 5, 43, 180, 0, 175, 8, 28, 104, 21, 7, 96, 47]
abbrev dktX9_tells_8 : List UInt8 := dkwX9_tells_8 ++ dktX9_tells_9
def dkwX9_tells_7 : List UInt8 := [28, 47, 43, 180, 0, 197, 184, 1, 0, 55, 5, 3, 54, 7, 21, 7, 43, 180, 0, 172, 162, 0, 57, 43]
abbrev dktX9_tells_7 : List UInt8 := dkwX9_tells_7 ++ dktX9_tells_8
def dkwX9_tells_6 : List UInt8 := [96, 22, 6, 80, 21, 4, 22, 6, 184, 0, 225, 126, 54, 4, 132, 5, 1, 167, 255, 109, 43, 180, 0, 184]
abbrev dktX9_tells_6 : List UInt8 := dkwX9_tells_6 ++ dktX9_tells_7
def dkwX9_tells_5 : List UInt8 := [21, 5, 182, 1, 6, 105, 97, 55, 6, 132, 8, 1, 167, 255, 168, 43, 180, 0, 250, 8, 29, 104, 21, 5]
abbrev dktX9_tells_5 : List UInt8 := dkwX9_tells_5 ++ dktX9_tells_6
def dkwX9_tells_4 : List UInt8 := [160, 0, 8, 22, 9, 167, 0, 25, 9, 167, 0, 21, 22, 9, 117, 42, 43, 43, 180, 0, 206, 21, 8, 46]
abbrev dktX9_tells_4 : List UInt8 := dkwX9_tells_4 ++ dktX9_tells_5
def dkwX9_tells_3 : List UInt8 := [22, 6, 43, 180, 0, 206, 21, 8, 46, 16, 10, 162, 0, 24, 43, 180, 0, 206, 21, 8, 46, 21, 5]
abbrev dktX9_tells_3 : List UInt8 := dkwX9_tells_3 ++ dktX9_tells_4
def dkwX9_tells_2 : List UInt8 := [162, 0, 85, 43, 180, 0, 175, 8, 28, 104, 21, 8, 96, 47, 43, 180, 0, 197, 184, 1, 0, 55, 9]
abbrev dktX9_tells_2 : List UInt8 := dkwX9_tells_2 ++ dktX9_tells_3
def dkwX9_tells_1 : List UInt8 := [28, 46, 21, 5, 160, 0, 7, 10, 167, 0, 4, 9, 55, 6, 3, 54, 8, 21, 8, 43, 180, 0, 172]
abbrev dktX9_tells_1 : List UInt8 := dkwX9_tells_1 ++ dktX9_tells_2
def dkwX9_tells_0 : List UInt8 := [43, 180, 0, 187, 62, 4, 54, 4, 3, 54, 5, 21, 5, 43, 180, 0, 172, 162, 0, 144, 43, 180, 0, 181]
abbrev dktX9_tells_0 : List UInt8 := dkwX9_tells_0 ++ dktX9_tells_1
theorem dksX9_tells_0 : cX9_tells.data.toList.drop 0 = dktX9_tells_0 := by decide +kernel
theorem dksX9_tells_1 : cX9_tells.data.toList.drop 24 = dktX9_tells_1 := dk_seg dksX9_tells_0 24 rfl rfl
theorem dksX9_tells_2 : cX9_tells.data.toList.drop 47 = dktX9_tells_2 := dk_seg dksX9_tells_1 23 rfl rfl
theorem dksX9_tells_3 : cX9_tells.data.toList.drop 70 = dktX9_tells_3 := dk_seg dksX9_tells_2 23 rfl rfl
theorem dksX9_tells_4 : cX9_tells.data.toList.drop 93 = dktX9_tells_4 := dk_seg dksX9_tells_3 23 rfl rfl
theorem dksX9_tells_5 : cX9_tells.data.toList.drop 117 = dktX9_tells_5 := dk_seg dksX9_tells_4 24 rfl rfl
theorem dksX9_tells_6 : cX9_tells.data.toList.drop 141 = dktX9_tells_6 := dk_seg dksX9_tells_5 24 rfl rfl
theorem dksX9_tells_7 : cX9_tells.data.toList.drop 165 = dktX9_tells_7 := dk_seg dksX9_tells_6 24 rfl rfl
theorem dksX9_tells_8 : cX9_tells.data.toList.drop 189 = dktX9_tells_8 := dk_seg dksX9_tells_7 24 rfl rfl
theorem dksX9_tells_9 : cX9_tells.data.toList.drop 213 = dktX9_tells_9 := dk_seg dksX9_tells_8 24 rfl rfl
theorem dksX9_tells_10 : cX9_tells.data.toList.drop 236 = dktX9_tells_10 := dk_seg dksX9_tells_9 23 rfl rfl
theorem dksX9_tells_11 : cX9_tells.data.toList.drop 260 = dktX9_tells_11 := dk_seg dksX9_tells_10 24 rfl rfl
theorem dX9_tells_0 : decode cX9_tells 0 = .ok (.aload_n 1, 1) := dk_43 (dk_at dksX9_tells_0 0 rfl rfl)
theorem dX9_tells_1 : decode cX9_tells 1 = .ok (.getfield 187, 3) := dk_180 0 187 (dk_at dksX9_tells_0 1 rfl rfl)
theorem dX9_tells_4 : decode cX9_tells 4 = .ok (.istore_n 3, 1) := dk_62 (dk_at dksX9_tells_0 4 rfl rfl)
theorem dX9_tells_5 : decode cX9_tells 5 = .ok (.iconst 1, 1) := dk_4 (dk_at dksX9_tells_0 5 rfl rfl)
theorem dX9_tells_6 : decode cX9_tells 6 = .ok (.istore 4, 2) := dk_54 4 (dk_at dksX9_tells_0 6 rfl rfl)
theorem dX9_tells_8 : decode cX9_tells 8 = .ok (.iconst 0, 1) := dk_3 (dk_at dksX9_tells_0 8 rfl rfl)
theorem dX9_tells_9 : decode cX9_tells 9 = .ok (.istore 5, 2) := dk_54 5 (dk_at dksX9_tells_0 9 rfl rfl)
theorem dX9_tells_11 : decode cX9_tells 11 = .ok (.iload 5, 2) := dk_21 5 (dk_at dksX9_tells_0 11 rfl rfl)
theorem dX9_tells_13 : decode cX9_tells 13 = .ok (.aload_n 1, 1) := dk_43 (dk_at dksX9_tells_0 13 rfl rfl)
theorem dX9_tells_14 : decode cX9_tells 14 = .ok (.getfield 172, 3) := dk_180 0 172 (dk_at dksX9_tells_0 14 rfl rfl)
theorem dX9_tells_17 : decode cX9_tells 17 = .ok (.if_icmp .ge 144, 3) := dk_162 0 144 (dk_at dksX9_tells_0 17 rfl rfl)
theorem dX9_tells_20 : decode cX9_tells 20 = .ok (.aload_n 1, 1) := dk_43 (dk_at dksX9_tells_0 20 rfl rfl)
theorem dX9_tells_21 : decode cX9_tells 21 = .ok (.getfield 181, 3) := dk_180 0 181 (dk_at dksX9_tells_0 21 rfl rfl)
theorem dX9_tells_24 : decode cX9_tells 24 = .ok (.iload_n 2, 1) := dk_28 (dk_at dksX9_tells_1 0 rfl rfl)
theorem dX9_tells_25 : decode cX9_tells 25 = .ok (.iaload, 1) := dk_46 (dk_at dksX9_tells_1 1 rfl rfl)
theorem dX9_tells_26 : decode cX9_tells 26 = .ok (.iload 5, 2) := dk_21 5 (dk_at dksX9_tells_1 2 rfl rfl)
theorem dX9_tells_28 : decode cX9_tells 28 = .ok (.if_icmp .ne 7, 3) := dk_160 0 7 (dk_at dksX9_tells_1 4 rfl rfl)
theorem dX9_tells_31 : decode cX9_tells 31 = .ok (.lconst 1, 1) := dk_10 (dk_at dksX9_tells_1 7 rfl rfl)
theorem dX9_tells_32 : decode cX9_tells 32 = .ok (.goto 4, 3) := dk_167 0 4 (dk_at dksX9_tells_1 8 rfl rfl)
theorem dX9_tells_35 : decode cX9_tells 35 = .ok (.lconst 0, 1) := dk_9 (dk_at dksX9_tells_1 11 rfl rfl)
theorem dX9_tells_36 : decode cX9_tells 36 = .ok (.lstore 6, 2) := dk_55 6 (dk_at dksX9_tells_1 12 rfl rfl)
theorem dX9_tells_38 : decode cX9_tells 38 = .ok (.iconst 0, 1) := dk_3 (dk_at dksX9_tells_1 14 rfl rfl)
theorem dX9_tells_39 : decode cX9_tells 39 = .ok (.istore 8, 2) := dk_54 8 (dk_at dksX9_tells_1 15 rfl rfl)
theorem dX9_tells_41 : decode cX9_tells 41 = .ok (.iload 8, 2) := dk_21 8 (dk_at dksX9_tells_1 17 rfl rfl)
theorem dX9_tells_43 : decode cX9_tells 43 = .ok (.aload_n 1, 1) := dk_43 (dk_at dksX9_tells_1 19 rfl rfl)
theorem dX9_tells_44 : decode cX9_tells 44 = .ok (.getfield 172, 3) := dk_180 0 172 (dk_at dksX9_tells_1 20 rfl rfl)
theorem dX9_tells_47 : decode cX9_tells 47 = .ok (.if_icmp .ge 85, 3) := dk_162 0 85 (dk_at dksX9_tells_2 0 rfl rfl)
theorem dX9_tells_50 : decode cX9_tells 50 = .ok (.aload_n 1, 1) := dk_43 (dk_at dksX9_tells_2 3 rfl rfl)
theorem dX9_tells_51 : decode cX9_tells 51 = .ok (.getfield 175, 3) := dk_180 0 175 (dk_at dksX9_tells_2 4 rfl rfl)
theorem dX9_tells_54 : decode cX9_tells 54 = .ok (.iconst 5, 1) := dk_8 (dk_at dksX9_tells_2 7 rfl rfl)
theorem dX9_tells_55 : decode cX9_tells 55 = .ok (.iload_n 2, 1) := dk_28 (dk_at dksX9_tells_2 8 rfl rfl)
theorem dX9_tells_56 : decode cX9_tells 56 = .ok (.imul, 1) := dk_104 (dk_at dksX9_tells_2 9 rfl rfl)
theorem dX9_tells_57 : decode cX9_tells 57 = .ok (.iload 8, 2) := dk_21 8 (dk_at dksX9_tells_2 10 rfl rfl)
theorem dX9_tells_59 : decode cX9_tells 59 = .ok (.iadd, 1) := dk_96 (dk_at dksX9_tells_2 12 rfl rfl)
theorem dX9_tells_60 : decode cX9_tells 60 = .ok (.laload, 1) := dk_47 (dk_at dksX9_tells_2 13 rfl rfl)
theorem dX9_tells_61 : decode cX9_tells 61 = .ok (.aload_n 1, 1) := dk_43 (dk_at dksX9_tells_2 14 rfl rfl)
theorem dX9_tells_62 : decode cX9_tells 62 = .ok (.getfield 197, 3) := dk_180 0 197 (dk_at dksX9_tells_2 15 rfl rfl)
theorem dX9_tells_65 : decode cX9_tells 65 = .ok (.invokestatic 256, 3) := dk_184 1 0 (dk_at dksX9_tells_2 18 rfl rfl)
theorem dX9_tells_68 : decode cX9_tells 68 = .ok (.lstore 9, 2) := dk_55 9 (dk_at dksX9_tells_2 21 rfl rfl)
theorem dX9_tells_70 : decode cX9_tells 70 = .ok (.lload 6, 2) := dk_22 6 (dk_at dksX9_tells_3 0 rfl rfl)
theorem dX9_tells_72 : decode cX9_tells 72 = .ok (.aload_n 1, 1) := dk_43 (dk_at dksX9_tells_3 2 rfl rfl)
theorem dX9_tells_73 : decode cX9_tells 73 = .ok (.getfield 206, 3) := dk_180 0 206 (dk_at dksX9_tells_3 3 rfl rfl)
theorem dX9_tells_76 : decode cX9_tells 76 = .ok (.iload 8, 2) := dk_21 8 (dk_at dksX9_tells_3 6 rfl rfl)
theorem dX9_tells_78 : decode cX9_tells 78 = .ok (.iaload, 1) := dk_46 (dk_at dksX9_tells_3 8 rfl rfl)
theorem dX9_tells_79 : decode cX9_tells 79 = .ok (.bipush 10, 2) := dk_16 10 (dk_at dksX9_tells_3 9 rfl rfl)
theorem dX9_tells_81 : decode cX9_tells 81 = .ok (.if_icmp .ge 24, 3) := dk_162 0 24 (dk_at dksX9_tells_3 11 rfl rfl)
theorem dX9_tells_84 : decode cX9_tells 84 = .ok (.aload_n 1, 1) := dk_43 (dk_at dksX9_tells_3 14 rfl rfl)
theorem dX9_tells_85 : decode cX9_tells 85 = .ok (.getfield 206, 3) := dk_180 0 206 (dk_at dksX9_tells_3 15 rfl rfl)
theorem dX9_tells_88 : decode cX9_tells 88 = .ok (.iload 8, 2) := dk_21 8 (dk_at dksX9_tells_3 18 rfl rfl)
theorem dX9_tells_90 : decode cX9_tells 90 = .ok (.iaload, 1) := dk_46 (dk_at dksX9_tells_3 20 rfl rfl)
theorem dX9_tells_91 : decode cX9_tells 91 = .ok (.iload 5, 2) := dk_21 5 (dk_at dksX9_tells_3 21 rfl rfl)
theorem dX9_tells_93 : decode cX9_tells 93 = .ok (.if_icmp .ne 8, 3) := dk_160 0 8 (dk_at dksX9_tells_4 0 rfl rfl)
theorem dX9_tells_96 : decode cX9_tells 96 = .ok (.lload 9, 2) := dk_22 9 (dk_at dksX9_tells_4 3 rfl rfl)
theorem dX9_tells_98 : decode cX9_tells 98 = .ok (.goto 25, 3) := dk_167 0 25 (dk_at dksX9_tells_4 5 rfl rfl)
theorem dX9_tells_101 : decode cX9_tells 101 = .ok (.lconst 0, 1) := dk_9 (dk_at dksX9_tells_4 8 rfl rfl)
theorem dX9_tells_102 : decode cX9_tells 102 = .ok (.goto 21, 3) := dk_167 0 21 (dk_at dksX9_tells_4 9 rfl rfl)
theorem dX9_tells_105 : decode cX9_tells 105 = .ok (.lload 9, 2) := dk_22 9 (dk_at dksX9_tells_4 12 rfl rfl)
theorem dX9_tells_107 : decode cX9_tells 107 = .ok (.lneg, 1) := dk_117 (dk_at dksX9_tells_4 14 rfl rfl)
theorem dX9_tells_108 : decode cX9_tells 108 = .ok (.aload_n 0, 1) := dk_42 (dk_at dksX9_tells_4 15 rfl rfl)
theorem dX9_tells_109 : decode cX9_tells 109 = .ok (.aload_n 1, 1) := dk_43 (dk_at dksX9_tells_4 16 rfl rfl)
theorem dX9_tells_110 : decode cX9_tells 110 = .ok (.aload_n 1, 1) := dk_43 (dk_at dksX9_tells_4 17 rfl rfl)
theorem dX9_tells_111 : decode cX9_tells 111 = .ok (.getfield 206, 3) := dk_180 0 206 (dk_at dksX9_tells_4 18 rfl rfl)
theorem dX9_tells_114 : decode cX9_tells 114 = .ok (.iload 8, 2) := dk_21 8 (dk_at dksX9_tells_4 21 rfl rfl)
theorem dX9_tells_116 : decode cX9_tells 116 = .ok (.iaload, 1) := dk_46 (dk_at dksX9_tells_4 23 rfl rfl)
theorem dX9_tells_117 : decode cX9_tells 117 = .ok (.iload 5, 2) := dk_21 5 (dk_at dksX9_tells_5 0 rfl rfl)
theorem dX9_tells_119 : decode cX9_tells 119 = .ok (.invokevirtual 262, 3) := dk_182 1 6 (dk_at dksX9_tells_5 2 rfl rfl)
theorem dX9_tells_122 : decode cX9_tells 122 = .ok (.lmul, 1) := dk_105 (dk_at dksX9_tells_5 5 rfl rfl)
theorem dX9_tells_123 : decode cX9_tells 123 = .ok (.ladd, 1) := dk_97 (dk_at dksX9_tells_5 6 rfl rfl)
theorem dX9_tells_124 : decode cX9_tells 124 = .ok (.lstore 6, 2) := dk_55 6 (dk_at dksX9_tells_5 7 rfl rfl)
theorem dX9_tells_126 : decode cX9_tells 126 = .ok (.iinc 8 1, 3) := dk_132 8 1 (dk_at dksX9_tells_5 9 rfl rfl)
theorem dX9_tells_129 : decode cX9_tells 129 = .ok (.goto (-88), 3) := dk_167 255 168 (dk_at dksX9_tells_5 12 rfl rfl)
theorem dX9_tells_132 : decode cX9_tells 132 = .ok (.aload_n 1, 1) := dk_43 (dk_at dksX9_tells_5 15 rfl rfl)
theorem dX9_tells_133 : decode cX9_tells 133 = .ok (.getfield 250, 3) := dk_180 0 250 (dk_at dksX9_tells_5 16 rfl rfl)
theorem dX9_tells_136 : decode cX9_tells 136 = .ok (.iconst 5, 1) := dk_8 (dk_at dksX9_tells_5 19 rfl rfl)
theorem dX9_tells_137 : decode cX9_tells 137 = .ok (.iload_n 3, 1) := dk_29 (dk_at dksX9_tells_5 20 rfl rfl)
theorem dX9_tells_138 : decode cX9_tells 138 = .ok (.imul, 1) := dk_104 (dk_at dksX9_tells_5 21 rfl rfl)
theorem dX9_tells_139 : decode cX9_tells 139 = .ok (.iload 5, 2) := dk_21 5 (dk_at dksX9_tells_5 22 rfl rfl)
theorem dX9_tells_141 : decode cX9_tells 141 = .ok (.iadd, 1) := dk_96 (dk_at dksX9_tells_6 0 rfl rfl)
theorem dX9_tells_142 : decode cX9_tells 142 = .ok (.lload 6, 2) := dk_22 6 (dk_at dksX9_tells_6 1 rfl rfl)
theorem dX9_tells_144 : decode cX9_tells 144 = .ok (.lastore, 1) := dk_80 (dk_at dksX9_tells_6 3 rfl rfl)
theorem dX9_tells_145 : decode cX9_tells 145 = .ok (.iload 4, 2) := dk_21 4 (dk_at dksX9_tells_6 4 rfl rfl)
theorem dX9_tells_147 : decode cX9_tells 147 = .ok (.lload 6, 2) := dk_22 6 (dk_at dksX9_tells_6 6 rfl rfl)
theorem dX9_tells_149 : decode cX9_tells 149 = .ok (.invokestatic 225, 3) := dk_184 0 225 (dk_at dksX9_tells_6 8 rfl rfl)
theorem dX9_tells_152 : decode cX9_tells 152 = .ok (.iand, 1) := dk_126 (dk_at dksX9_tells_6 11 rfl rfl)
theorem dX9_tells_153 : decode cX9_tells 153 = .ok (.istore 4, 2) := dk_54 4 (dk_at dksX9_tells_6 12 rfl rfl)
theorem dX9_tells_155 : decode cX9_tells 155 = .ok (.iinc 5 1, 3) := dk_132 5 1 (dk_at dksX9_tells_6 14 rfl rfl)
theorem dX9_tells_158 : decode cX9_tells 158 = .ok (.goto (-147), 3) := dk_167 255 109 (dk_at dksX9_tells_6 17 rfl rfl)
theorem dX9_tells_161 : decode cX9_tells 161 = .ok (.aload_n 1, 1) := dk_43 (dk_at dksX9_tells_6 20 rfl rfl)
theorem dX9_tells_162 : decode cX9_tells 162 = .ok (.getfield 184, 3) := dk_180 0 184 (dk_at dksX9_tells_6 21 rfl rfl)
theorem dX9_tells_165 : decode cX9_tells 165 = .ok (.iload_n 2, 1) := dk_28 (dk_at dksX9_tells_7 0 rfl rfl)
theorem dX9_tells_166 : decode cX9_tells 166 = .ok (.laload, 1) := dk_47 (dk_at dksX9_tells_7 1 rfl rfl)
theorem dX9_tells_167 : decode cX9_tells 167 = .ok (.aload_n 1, 1) := dk_43 (dk_at dksX9_tells_7 2 rfl rfl)
theorem dX9_tells_168 : decode cX9_tells 168 = .ok (.getfield 197, 3) := dk_180 0 197 (dk_at dksX9_tells_7 3 rfl rfl)
theorem dX9_tells_171 : decode cX9_tells 171 = .ok (.invokestatic 256, 3) := dk_184 1 0 (dk_at dksX9_tells_7 6 rfl rfl)
theorem dX9_tells_174 : decode cX9_tells 174 = .ok (.lstore 5, 2) := dk_55 5 (dk_at dksX9_tells_7 9 rfl rfl)
theorem dX9_tells_176 : decode cX9_tells 176 = .ok (.iconst 0, 1) := dk_3 (dk_at dksX9_tells_7 11 rfl rfl)
theorem dX9_tells_177 : decode cX9_tells 177 = .ok (.istore 7, 2) := dk_54 7 (dk_at dksX9_tells_7 12 rfl rfl)
theorem dX9_tells_179 : decode cX9_tells 179 = .ok (.iload 7, 2) := dk_21 7 (dk_at dksX9_tells_7 14 rfl rfl)
theorem dX9_tells_181 : decode cX9_tells 181 = .ok (.aload_n 1, 1) := dk_43 (dk_at dksX9_tells_7 16 rfl rfl)
theorem dX9_tells_182 : decode cX9_tells 182 = .ok (.getfield 172, 3) := dk_180 0 172 (dk_at dksX9_tells_7 17 rfl rfl)
theorem dX9_tells_185 : decode cX9_tells 185 = .ok (.if_icmp .ge 57, 3) := dk_162 0 57 (dk_at dksX9_tells_7 20 rfl rfl)
theorem dX9_tells_188 : decode cX9_tells 188 = .ok (.aload_n 1, 1) := dk_43 (dk_at dksX9_tells_7 23 rfl rfl)
theorem dX9_tells_189 : decode cX9_tells 189 = .ok (.getfield 206, 3) := dk_180 0 206 (dk_at dksX9_tells_8 0 rfl rfl)
theorem dX9_tells_192 : decode cX9_tells 192 = .ok (.iload 7, 2) := dk_21 7 (dk_at dksX9_tells_8 3 rfl rfl)
theorem dX9_tells_194 : decode cX9_tells 194 = .ok (.iaload, 1) := dk_46 (dk_at dksX9_tells_8 5 rfl rfl)
theorem dX9_tells_195 : decode cX9_tells 195 = .ok (.bipush 10, 2) := dk_16 10 (dk_at dksX9_tells_8 6 rfl rfl)
theorem dX9_tells_197 : decode cX9_tells 197 = .ok (.if_icmp .lt 39, 3) := dk_161 0 39 (dk_at dksX9_tells_8 8 rfl rfl)
theorem dX9_tells_200 : decode cX9_tells 200 = .ok (.lload 5, 2) := dk_22 5 (dk_at dksX9_tells_8 11 rfl rfl)
theorem dX9_tells_202 : decode cX9_tells 202 = .ok (.aload_n 1, 1) := dk_43 (dk_at dksX9_tells_8 13 rfl rfl)
theorem dX9_tells_203 : decode cX9_tells 203 = .ok (.getfield 175, 3) := dk_180 0 175 (dk_at dksX9_tells_8 14 rfl rfl)
theorem dX9_tells_206 : decode cX9_tells 206 = .ok (.iconst 5, 1) := dk_8 (dk_at dksX9_tells_8 17 rfl rfl)
theorem dX9_tells_207 : decode cX9_tells 207 = .ok (.iload_n 2, 1) := dk_28 (dk_at dksX9_tells_8 18 rfl rfl)
theorem dX9_tells_208 : decode cX9_tells 208 = .ok (.imul, 1) := dk_104 (dk_at dksX9_tells_8 19 rfl rfl)
theorem dX9_tells_209 : decode cX9_tells 209 = .ok (.iload 7, 2) := dk_21 7 (dk_at dksX9_tells_8 20 rfl rfl)
theorem dX9_tells_211 : decode cX9_tells 211 = .ok (.iadd, 1) := dk_96 (dk_at dksX9_tells_8 22 rfl rfl)
theorem dX9_tells_212 : decode cX9_tells 212 = .ok (.laload, 1) := dk_47 (dk_at dksX9_tells_8 23 rfl rfl)
theorem dX9_tells_213 : decode cX9_tells 213 = .ok (.aload_n 1, 1) := dk_43 (dk_at dksX9_tells_9 0 rfl rfl)
theorem dX9_tells_214 : decode cX9_tells 214 = .ok (.getfield 197, 3) := dk_180 0 197 (dk_at dksX9_tells_9 1 rfl rfl)
theorem dX9_tells_217 : decode cX9_tells 217 = .ok (.invokestatic 256, 3) := dk_184 1 0 (dk_at dksX9_tells_9 4 rfl rfl)
theorem dX9_tells_220 : decode cX9_tells 220 = .ok (.aload_n 0, 1) := dk_42 (dk_at dksX9_tells_9 7 rfl rfl)
theorem dX9_tells_221 : decode cX9_tells 221 = .ok (.aload_n 1, 1) := dk_43 (dk_at dksX9_tells_9 8 rfl rfl)
theorem dX9_tells_222 : decode cX9_tells 222 = .ok (.aload_n 1, 1) := dk_43 (dk_at dksX9_tells_9 9 rfl rfl)
theorem dX9_tells_223 : decode cX9_tells 223 = .ok (.getfield 206, 3) := dk_180 0 206 (dk_at dksX9_tells_9 10 rfl rfl)
theorem dX9_tells_226 : decode cX9_tells 226 = .ok (.iload 7, 2) := dk_21 7 (dk_at dksX9_tells_9 13 rfl rfl)
theorem dX9_tells_228 : decode cX9_tells 228 = .ok (.iaload, 1) := dk_46 (dk_at dksX9_tells_9 15 rfl rfl)
theorem dX9_tells_229 : decode cX9_tells 229 = .ok (.invokevirtual 266, 3) := dk_182 1 10 (dk_at dksX9_tells_9 16 rfl rfl)
theorem dX9_tells_232 : decode cX9_tells 232 = .ok (.lmul, 1) := dk_105 (dk_at dksX9_tells_9 19 rfl rfl)
theorem dX9_tells_233 : decode cX9_tells 233 = .ok (.lsub, 1) := dk_101 (dk_at dksX9_tells_9 20 rfl rfl)
theorem dX9_tells_234 : decode cX9_tells 234 = .ok (.lstore 5, 2) := dk_55 5 (dk_at dksX9_tells_9 21 rfl rfl)
theorem dX9_tells_236 : decode cX9_tells 236 = .ok (.iinc 7 1, 3) := dk_132 7 1 (dk_at dksX9_tells_10 0 rfl rfl)
theorem dX9_tells_239 : decode cX9_tells 239 = .ok (.goto (-60), 3) := dk_167 255 196 (dk_at dksX9_tells_10 3 rfl rfl)
theorem dX9_tells_242 : decode cX9_tells 242 = .ok (.aload_n 1, 1) := dk_43 (dk_at dksX9_tells_10 6 rfl rfl)
theorem dX9_tells_243 : decode cX9_tells 243 = .ok (.getfield 253, 3) := dk_180 0 253 (dk_at dksX9_tells_10 7 rfl rfl)
theorem dX9_tells_246 : decode cX9_tells 246 = .ok (.iload_n 3, 1) := dk_29 (dk_at dksX9_tells_10 10 rfl rfl)
theorem dX9_tells_247 : decode cX9_tells 247 = .ok (.lload 5, 2) := dk_22 5 (dk_at dksX9_tells_10 11 rfl rfl)
theorem dX9_tells_249 : decode cX9_tells 249 = .ok (.lastore, 1) := dk_80 (dk_at dksX9_tells_10 13 rfl rfl)
theorem dX9_tells_250 : decode cX9_tells 250 = .ok (.iload 4, 2) := dk_21 4 (dk_at dksX9_tells_10 14 rfl rfl)
theorem dX9_tells_252 : decode cX9_tells 252 = .ok (.ifCond .eq 15, 3) := dk_153 0 15 (dk_at dksX9_tells_10 16 rfl rfl)
theorem dX9_tells_255 : decode cX9_tells 255 = .ok (.lload 5, 2) := dk_22 5 (dk_at dksX9_tells_10 19 rfl rfl)
theorem dX9_tells_257 : decode cX9_tells 257 = .ok (.invokestatic 225, 3) := dk_184 0 225 (dk_at dksX9_tells_10 21 rfl rfl)
theorem dX9_tells_260 : decode cX9_tells 260 = .ok (.ifCond .eq 7, 3) := dk_153 0 7 (dk_at dksX9_tells_11 0 rfl rfl)
theorem dX9_tells_263 : decode cX9_tells 263 = .ok (.iconst 1, 1) := dk_4 (dk_at dksX9_tells_11 3 rfl rfl)
theorem dX9_tells_264 : decode cX9_tells 264 = .ok (.goto 4, 3) := dk_167 0 4 (dk_at dksX9_tells_11 4 rfl rfl)
theorem dX9_tells_267 : decode cX9_tells 267 = .ok (.iconst 0, 1) := dk_3 (dk_at dksX9_tells_11 7 rfl rfl)
theorem dX9_tells_268 : decode cX9_tells 268 = .ok (.ireturn, 1) := dk_172 (dk_at dksX9_tells_11 8 rfl rfl)
abbrev cX9_leftPoint : ByteArray := prog_19_method_39_code
def yX9_leftPoint : MethodName := ⟨RX9, "leftPoint", "(LWholePacksModel$Table;II)J"⟩
def dkwX9_leftPoint_1 : List UInt8 := [16, 20, 100, 104, 29, 96, 47, 173]
abbrev dktX9_leftPoint_1 : List UInt8 := dkwX9_leftPoint_1 ++ []
def dkwX9_leftPoint_0 : List UInt8 := [28, 16, 20, 162, 0, 15, 42, 28, 16, 10, 100, 29, 182, 0, 217, 167, 0, 16, 43, 180, 0, 250, 8, 28]
abbrev dktX9_leftPoint_0 : List UInt8 := dkwX9_leftPoint_0 ++ dktX9_leftPoint_1
theorem dksX9_leftPoint_0 : cX9_leftPoint.data.toList.drop 0 = dktX9_leftPoint_0 := by decide +kernel
theorem dksX9_leftPoint_1 : cX9_leftPoint.data.toList.drop 24 = dktX9_leftPoint_1 := dk_seg dksX9_leftPoint_0 24 rfl rfl
theorem dX9_leftPoint_0 : decode cX9_leftPoint 0 = .ok (.iload_n 2, 1) := dk_28 (dk_at dksX9_leftPoint_0 0 rfl rfl)
theorem dX9_leftPoint_1 : decode cX9_leftPoint 1 = .ok (.bipush 20, 2) := dk_16 20 (dk_at dksX9_leftPoint_0 1 rfl rfl)
theorem dX9_leftPoint_3 : decode cX9_leftPoint 3 = .ok (.if_icmp .ge 15, 3) := dk_162 0 15 (dk_at dksX9_leftPoint_0 3 rfl rfl)
theorem dX9_leftPoint_6 : decode cX9_leftPoint 6 = .ok (.aload_n 0, 1) := dk_42 (dk_at dksX9_leftPoint_0 6 rfl rfl)
theorem dX9_leftPoint_7 : decode cX9_leftPoint 7 = .ok (.iload_n 2, 1) := dk_28 (dk_at dksX9_leftPoint_0 7 rfl rfl)
theorem dX9_leftPoint_8 : decode cX9_leftPoint 8 = .ok (.bipush 10, 2) := dk_16 10 (dk_at dksX9_leftPoint_0 8 rfl rfl)
theorem dX9_leftPoint_10 : decode cX9_leftPoint 10 = .ok (.isub, 1) := dk_100 (dk_at dksX9_leftPoint_0 10 rfl rfl)
theorem dX9_leftPoint_11 : decode cX9_leftPoint 11 = .ok (.iload_n 3, 1) := dk_29 (dk_at dksX9_leftPoint_0 11 rfl rfl)
theorem dX9_leftPoint_12 : decode cX9_leftPoint 12 = .ok (.invokevirtual 217, 3) := dk_182 0 217 (dk_at dksX9_leftPoint_0 12 rfl rfl)
theorem dX9_leftPoint_15 : decode cX9_leftPoint 15 = .ok (.goto 16, 3) := dk_167 0 16 (dk_at dksX9_leftPoint_0 15 rfl rfl)
theorem dX9_leftPoint_18 : decode cX9_leftPoint 18 = .ok (.aload_n 1, 1) := dk_43 (dk_at dksX9_leftPoint_0 18 rfl rfl)
theorem dX9_leftPoint_19 : decode cX9_leftPoint 19 = .ok (.getfield 250, 3) := dk_180 0 250 (dk_at dksX9_leftPoint_0 19 rfl rfl)
theorem dX9_leftPoint_22 : decode cX9_leftPoint 22 = .ok (.iconst 5, 1) := dk_8 (dk_at dksX9_leftPoint_0 22 rfl rfl)
theorem dX9_leftPoint_23 : decode cX9_leftPoint 23 = .ok (.iload_n 2, 1) := dk_28 (dk_at dksX9_leftPoint_0 23 rfl rfl)
theorem dX9_leftPoint_24 : decode cX9_leftPoint 24 = .ok (.bipush 20, 2) := dk_16 20 (dk_at dksX9_leftPoint_1 0 rfl rfl)
theorem dX9_leftPoint_26 : decode cX9_leftPoint 26 = .ok (.isub, 1) := dk_100 (dk_at dksX9_leftPoint_1 2 rfl rfl)
theorem dX9_leftPoint_27 : decode cX9_leftPoint 27 = .ok (.imul, 1) := dk_104 (dk_at dksX9_leftPoint_1 3 rfl rfl)
theorem dX9_leftPoint_28 : decode cX9_leftPoint 28 = .ok (.iload_n 3, 1) := dk_29 (dk_at dksX9_leftPoint_1 4 rfl rfl)
theorem dX9_leftPoint_29 : decode cX9_leftPoint 29 = .ok (.iadd, 1) := dk_96 (dk_at dksX9_leftPoint_1 5 rfl rfl)
theorem dX9_leftPoint_30 : decode cX9_leftPoint 30 = .ok (.laload, 1) := dk_47 (dk_at dksX9_leftPoint_1 6 rfl rfl)
theorem dX9_leftPoint_31 : decode cX9_leftPoint 31 = .ok (.lreturn, 1) := dk_173 (dk_at dksX9_leftPoint_1 7 rfl rfl)
abbrev cX9_leftLimit : ByteArray := prog_19_method_40_code
def yX9_leftLimit : MethodName := ⟨RX9, "leftLimit", "(LWholePacksModel$Table;I)J"⟩
def dkwX9_leftLimit_1 : List UInt8 := [100, 47, 173]
abbrev dktX9_leftLimit_1 : List UInt8 := dkwX9_leftLimit_1 ++ []
def dkwX9_leftLimit_0 : List UInt8 := [28, 16, 20, 162, 0, 14, 42, 28, 16, 10, 100, 182, 0, 209, 167, 0, 12, 43, 180, 0, 253, 28, 16, 20]
abbrev dktX9_leftLimit_0 : List UInt8 := dkwX9_leftLimit_0 ++ dktX9_leftLimit_1
theorem dksX9_leftLimit_0 : cX9_leftLimit.data.toList.drop 0 = dktX9_leftLimit_0 := by decide +kernel
theorem dksX9_leftLimit_1 : cX9_leftLimit.data.toList.drop 24 = dktX9_leftLimit_1 := dk_seg dksX9_leftLimit_0 24 rfl rfl
theorem dX9_leftLimit_0 : decode cX9_leftLimit 0 = .ok (.iload_n 2, 1) := dk_28 (dk_at dksX9_leftLimit_0 0 rfl rfl)
theorem dX9_leftLimit_1 : decode cX9_leftLimit 1 = .ok (.bipush 20, 2) := dk_16 20 (dk_at dksX9_leftLimit_0 1 rfl rfl)
theorem dX9_leftLimit_3 : decode cX9_leftLimit 3 = .ok (.if_icmp .ge 14, 3) := dk_162 0 14 (dk_at dksX9_leftLimit_0 3 rfl rfl)
theorem dX9_leftLimit_6 : decode cX9_leftLimit 6 = .ok (.aload_n 0, 1) := dk_42 (dk_at dksX9_leftLimit_0 6 rfl rfl)
theorem dX9_leftLimit_7 : decode cX9_leftLimit 7 = .ok (.iload_n 2, 1) := dk_28 (dk_at dksX9_leftLimit_0 7 rfl rfl)
theorem dX9_leftLimit_8 : decode cX9_leftLimit 8 = .ok (.bipush 10, 2) := dk_16 10 (dk_at dksX9_leftLimit_0 8 rfl rfl)
theorem dX9_leftLimit_10 : decode cX9_leftLimit 10 = .ok (.isub, 1) := dk_100 (dk_at dksX9_leftLimit_0 10 rfl rfl)
theorem dX9_leftLimit_11 : decode cX9_leftLimit 11 = .ok (.invokevirtual 209, 3) := dk_182 0 209 (dk_at dksX9_leftLimit_0 11 rfl rfl)
theorem dX9_leftLimit_14 : decode cX9_leftLimit 14 = .ok (.goto 12, 3) := dk_167 0 12 (dk_at dksX9_leftLimit_0 14 rfl rfl)
theorem dX9_leftLimit_17 : decode cX9_leftLimit 17 = .ok (.aload_n 1, 1) := dk_43 (dk_at dksX9_leftLimit_0 17 rfl rfl)
theorem dX9_leftLimit_18 : decode cX9_leftLimit 18 = .ok (.getfield 253, 3) := dk_180 0 253 (dk_at dksX9_leftLimit_0 18 rfl rfl)
theorem dX9_leftLimit_21 : decode cX9_leftLimit 21 = .ok (.iload_n 2, 1) := dk_28 (dk_at dksX9_leftLimit_0 21 rfl rfl)
theorem dX9_leftLimit_22 : decode cX9_leftLimit 22 = .ok (.bipush 20, 2) := dk_16 20 (dk_at dksX9_leftLimit_0 22 rfl rfl)
theorem dX9_leftLimit_24 : decode cX9_leftLimit 24 = .ok (.isub, 1) := dk_100 (dk_at dksX9_leftLimit_1 0 rfl rfl)
theorem dX9_leftLimit_25 : decode cX9_leftLimit 25 = .ok (.laload, 1) := dk_47 (dk_at dksX9_leftLimit_1 1 rfl rfl)
theorem dX9_leftLimit_26 : decode cX9_leftLimit 26 = .ok (.lreturn, 1) := dk_173 (dk_at dksX9_leftLimit_1 2 rfl rfl)
abbrev cX9_slot : ByteArray := prog_19_method_43_code
def yX9_slot : MethodName := ⟨RX9, "slot", "(I)I"⟩
def dkwX9_slot_0 : List UInt8 := [26, 16, 20, 162, 0, 10, 26, 16, 10, 100, 167, 0, 10, 16, 8, 26, 96, 16, 20, 100, 172]
abbrev dktX9_slot_0 : List UInt8 := dkwX9_slot_0 ++ []
theorem dksX9_slot_0 : cX9_slot.data.toList.drop 0 = dktX9_slot_0 := by decide +kernel
theorem dX9_slot_0 : decode cX9_slot 0 = .ok (.iload_n 0, 1) := dk_26 (dk_at dksX9_slot_0 0 rfl rfl)
theorem dX9_slot_1 : decode cX9_slot 1 = .ok (.bipush 20, 2) := dk_16 20 (dk_at dksX9_slot_0 1 rfl rfl)
theorem dX9_slot_3 : decode cX9_slot 3 = .ok (.if_icmp .ge 10, 3) := dk_162 0 10 (dk_at dksX9_slot_0 3 rfl rfl)
theorem dX9_slot_6 : decode cX9_slot 6 = .ok (.iload_n 0, 1) := dk_26 (dk_at dksX9_slot_0 6 rfl rfl)
theorem dX9_slot_7 : decode cX9_slot 7 = .ok (.bipush 10, 2) := dk_16 10 (dk_at dksX9_slot_0 7 rfl rfl)
theorem dX9_slot_9 : decode cX9_slot 9 = .ok (.isub, 1) := dk_100 (dk_at dksX9_slot_0 9 rfl rfl)
theorem dX9_slot_10 : decode cX9_slot 10 = .ok (.goto 10, 3) := dk_167 0 10 (dk_at dksX9_slot_0 10 rfl rfl)
theorem dX9_slot_13 : decode cX9_slot 13 = .ok (.bipush 8, 2) := dk_16 8 (dk_at dksX9_slot_0 13 rfl rfl)
theorem dX9_slot_15 : decode cX9_slot 15 = .ok (.iload_n 0, 1) := dk_26 (dk_at dksX9_slot_0 15 rfl rfl)
theorem dX9_slot_16 : decode cX9_slot 16 = .ok (.iadd, 1) := dk_96 (dk_at dksX9_slot_0 16 rfl rfl)
theorem dX9_slot_17 : decode cX9_slot 17 = .ok (.bipush 20, 2) := dk_16 20 (dk_at dksX9_slot_0 17 rfl rfl)
theorem dX9_slot_19 : decode cX9_slot 19 = .ok (.isub, 1) := dk_100 (dk_at dksX9_slot_0 19 rfl rfl)
theorem dX9_slot_20 : decode cX9_slot 20 = .ok (.ireturn, 1) := dk_172 (dk_at dksX9_slot_0 20 rfl rfl)
abbrev cX9_entry : ByteArray := prog_19_method_47_code
def yX9_entry : MethodName := ⟨RX9, "entry", "(II)J"⟩
def dkwX9_entry_7 : List UInt8 := [28, 47, 167, 0, 16, 42, 180, 0, 30, 180, 0, 175, 8, 27, 104, 28, 96, 47, 173]
abbrev dktX9_entry_7 : List UInt8 := dkwX9_entry_7 ++ []
def dkwX9_entry_6 : List UInt8 := [180, 0, 30, 180, 0, 206, 28, 46, 133, 167, 0, 33, 27, 2, 160, 0, 15, 42, 180, 0, 30, 180, 0, 203]
abbrev dktX9_entry_6 : List UInt8 := dkwX9_entry_6 ++ dktX9_entry_7
def dkwX9_entry_5 : List UInt8 := [180, 0, 197, 167, 0, 13, 42, 180, 0, 30, 180, 0, 181, 27, 46, 133, 173, 27, 16, 254, 160, 0, 16, 42]
abbrev dktX9_entry_5 : List UInt8 := dkwX9_entry_5 ++ dktX9_entry_6
def dkwX9_entry_4 : List UInt8 := [180, 0, 184, 27, 47, 173, 28, 42, 182, 0, 89, 164, 0, 28, 27, 156, 0, 13, 42, 180, 0, 30]
abbrev dktX9_entry_4 : List UInt8 := dkwX9_entry_4 ++ dktX9_entry_5
def dkwX9_entry_3 : List UInt8 := [182, 0, 89, 160, 0, 27, 27, 156, 0, 13, 42, 180, 0, 30, 180, 0, 193, 167, 0, 12, 42, 180, 0, 30]
abbrev dktX9_entry_3 : List UInt8 := dkwX9_entry_3 ++ dktX9_entry_4
def dkwX9_entry_2 : List UInt8 := [167, 0, 10, 42, 182, 0, 89, 4, 96, 133, 184, 0, 93, 154, 0, 7, 20, 1, 50, 173, 28, 42]
abbrev dktX9_entry_2 : List UInt8 := dkwX9_entry_2 ++ dktX9_entry_3
def dkwX9_entry_1 : List UInt8 := [133, 184, 0, 93, 153, 0, 35, 28, 133, 9, 27, 16, 254, 160, 0, 13, 42, 182, 0, 89, 4, 100, 133]
abbrev dktX9_entry_1 : List UInt8 := dkwX9_entry_1 ++ dktX9_entry_2
def dkwX9_entry_0 : List UInt8 := [42, 180, 0, 30, 180, 0, 85, 153, 0, 56, 27, 133, 20, 1, 48, 42, 180, 0, 30, 180, 0, 178, 4, 100]
abbrev dktX9_entry_0 : List UInt8 := dkwX9_entry_0 ++ dktX9_entry_1
theorem dksX9_entry_0 : cX9_entry.data.toList.drop 0 = dktX9_entry_0 := by decide +kernel
theorem dksX9_entry_1 : cX9_entry.data.toList.drop 24 = dktX9_entry_1 := dk_seg dksX9_entry_0 24 rfl rfl
theorem dksX9_entry_2 : cX9_entry.data.toList.drop 47 = dktX9_entry_2 := dk_seg dksX9_entry_1 23 rfl rfl
theorem dksX9_entry_3 : cX9_entry.data.toList.drop 69 = dktX9_entry_3 := dk_seg dksX9_entry_2 22 rfl rfl
theorem dksX9_entry_4 : cX9_entry.data.toList.drop 93 = dktX9_entry_4 := dk_seg dksX9_entry_3 24 rfl rfl
theorem dksX9_entry_5 : cX9_entry.data.toList.drop 115 = dktX9_entry_5 := dk_seg dksX9_entry_4 22 rfl rfl
theorem dksX9_entry_6 : cX9_entry.data.toList.drop 139 = dktX9_entry_6 := dk_seg dksX9_entry_5 24 rfl rfl
theorem dksX9_entry_7 : cX9_entry.data.toList.drop 163 = dktX9_entry_7 := dk_seg dksX9_entry_6 24 rfl rfl
theorem dX9_entry_0 : decode cX9_entry 0 = .ok (.aload_n 0, 1) := dk_42 (dk_at dksX9_entry_0 0 rfl rfl)
theorem dX9_entry_1 : decode cX9_entry 1 = .ok (.getfield 30, 3) := dk_180 0 30 (dk_at dksX9_entry_0 1 rfl rfl)
theorem dX9_entry_4 : decode cX9_entry 4 = .ok (.getfield 85, 3) := dk_180 0 85 (dk_at dksX9_entry_0 4 rfl rfl)
theorem dX9_entry_7 : decode cX9_entry 7 = .ok (.ifCond .eq 56, 3) := dk_153 0 56 (dk_at dksX9_entry_0 7 rfl rfl)
theorem dX9_entry_10 : decode cX9_entry 10 = .ok (.iload_n 1, 1) := dk_27 (dk_at dksX9_entry_0 10 rfl rfl)
theorem dX9_entry_11 : decode cX9_entry 11 = .ok (.i2l, 1) := dk_133 (dk_at dksX9_entry_0 11 rfl rfl)
theorem dX9_entry_12 : decode cX9_entry 12 = .ok (.ldc2_w 304, 3) := dk_20 1 48 (dk_at dksX9_entry_0 12 rfl rfl)
theorem dX9_entry_15 : decode cX9_entry 15 = .ok (.aload_n 0, 1) := dk_42 (dk_at dksX9_entry_0 15 rfl rfl)
theorem dX9_entry_16 : decode cX9_entry 16 = .ok (.getfield 30, 3) := dk_180 0 30 (dk_at dksX9_entry_0 16 rfl rfl)
theorem dX9_entry_19 : decode cX9_entry 19 = .ok (.getfield 178, 3) := dk_180 0 178 (dk_at dksX9_entry_0 19 rfl rfl)
theorem dX9_entry_22 : decode cX9_entry 22 = .ok (.iconst 1, 1) := dk_4 (dk_at dksX9_entry_0 22 rfl rfl)
theorem dX9_entry_23 : decode cX9_entry 23 = .ok (.isub, 1) := dk_100 (dk_at dksX9_entry_0 23 rfl rfl)
theorem dX9_entry_24 : decode cX9_entry 24 = .ok (.i2l, 1) := dk_133 (dk_at dksX9_entry_1 0 rfl rfl)
theorem dX9_entry_25 : decode cX9_entry 25 = .ok (.invokestatic 93, 3) := dk_184 0 93 (dk_at dksX9_entry_1 1 rfl rfl)
theorem dX9_entry_28 : decode cX9_entry 28 = .ok (.ifCond .eq 35, 3) := dk_153 0 35 (dk_at dksX9_entry_1 4 rfl rfl)
theorem dX9_entry_31 : decode cX9_entry 31 = .ok (.iload_n 2, 1) := dk_28 (dk_at dksX9_entry_1 7 rfl rfl)
theorem dX9_entry_32 : decode cX9_entry 32 = .ok (.i2l, 1) := dk_133 (dk_at dksX9_entry_1 8 rfl rfl)
theorem dX9_entry_33 : decode cX9_entry 33 = .ok (.lconst 0, 1) := dk_9 (dk_at dksX9_entry_1 9 rfl rfl)
theorem dX9_entry_34 : decode cX9_entry 34 = .ok (.iload_n 1, 1) := dk_27 (dk_at dksX9_entry_1 10 rfl rfl)
theorem dX9_entry_35 : decode cX9_entry 35 = .ok (.bipush (-2), 2) := dk_16 254 (dk_at dksX9_entry_1 11 rfl rfl)
theorem dX9_entry_37 : decode cX9_entry 37 = .ok (.if_icmp .ne 13, 3) := dk_160 0 13 (dk_at dksX9_entry_1 13 rfl rfl)
theorem dX9_entry_40 : decode cX9_entry 40 = .ok (.aload_n 0, 1) := dk_42 (dk_at dksX9_entry_1 16 rfl rfl)
theorem dX9_entry_41 : decode cX9_entry 41 = .ok (.invokevirtual 89, 3) := dk_182 0 89 (dk_at dksX9_entry_1 17 rfl rfl)
theorem dX9_entry_44 : decode cX9_entry 44 = .ok (.iconst 1, 1) := dk_4 (dk_at dksX9_entry_1 20 rfl rfl)
theorem dX9_entry_45 : decode cX9_entry 45 = .ok (.isub, 1) := dk_100 (dk_at dksX9_entry_1 21 rfl rfl)
theorem dX9_entry_46 : decode cX9_entry 46 = .ok (.i2l, 1) := dk_133 (dk_at dksX9_entry_1 22 rfl rfl)
theorem dX9_entry_47 : decode cX9_entry 47 = .ok (.goto 10, 3) := dk_167 0 10 (dk_at dksX9_entry_2 0 rfl rfl)
theorem dX9_entry_50 : decode cX9_entry 50 = .ok (.aload_n 0, 1) := dk_42 (dk_at dksX9_entry_2 3 rfl rfl)
theorem dX9_entry_51 : decode cX9_entry 51 = .ok (.invokevirtual 89, 3) := dk_182 0 89 (dk_at dksX9_entry_2 4 rfl rfl)
theorem dX9_entry_54 : decode cX9_entry 54 = .ok (.iconst 1, 1) := dk_4 (dk_at dksX9_entry_2 7 rfl rfl)
theorem dX9_entry_55 : decode cX9_entry 55 = .ok (.iadd, 1) := dk_96 (dk_at dksX9_entry_2 8 rfl rfl)
theorem dX9_entry_56 : decode cX9_entry 56 = .ok (.i2l, 1) := dk_133 (dk_at dksX9_entry_2 9 rfl rfl)
theorem dX9_entry_57 : decode cX9_entry 57 = .ok (.invokestatic 93, 3) := dk_184 0 93 (dk_at dksX9_entry_2 10 rfl rfl)
theorem dX9_entry_60 : decode cX9_entry 60 = .ok (.ifCond .ne 7, 3) := dk_154 0 7 (dk_at dksX9_entry_2 13 rfl rfl)
theorem dX9_entry_63 : decode cX9_entry 63 = .ok (.ldc2_w 306, 3) := dk_20 1 50 (dk_at dksX9_entry_2 16 rfl rfl)
theorem dX9_entry_66 : decode cX9_entry 66 = .ok (.lreturn, 1) := dk_173 (dk_at dksX9_entry_2 19 rfl rfl)
theorem dX9_entry_67 : decode cX9_entry 67 = .ok (.iload_n 2, 1) := dk_28 (dk_at dksX9_entry_2 20 rfl rfl)
theorem dX9_entry_68 : decode cX9_entry 68 = .ok (.aload_n 0, 1) := dk_42 (dk_at dksX9_entry_2 21 rfl rfl)
theorem dX9_entry_69 : decode cX9_entry 69 = .ok (.invokevirtual 89, 3) := dk_182 0 89 (dk_at dksX9_entry_3 0 rfl rfl)
theorem dX9_entry_72 : decode cX9_entry 72 = .ok (.if_icmp .ne 27, 3) := dk_160 0 27 (dk_at dksX9_entry_3 3 rfl rfl)
theorem dX9_entry_75 : decode cX9_entry 75 = .ok (.iload_n 1, 1) := dk_27 (dk_at dksX9_entry_3 6 rfl rfl)
theorem dX9_entry_76 : decode cX9_entry 76 = .ok (.ifCond .ge 13, 3) := dk_156 0 13 (dk_at dksX9_entry_3 7 rfl rfl)
theorem dX9_entry_79 : decode cX9_entry 79 = .ok (.aload_n 0, 1) := dk_42 (dk_at dksX9_entry_3 10 rfl rfl)
theorem dX9_entry_80 : decode cX9_entry 80 = .ok (.getfield 30, 3) := dk_180 0 30 (dk_at dksX9_entry_3 11 rfl rfl)
theorem dX9_entry_83 : decode cX9_entry 83 = .ok (.getfield 193, 3) := dk_180 0 193 (dk_at dksX9_entry_3 14 rfl rfl)
theorem dX9_entry_86 : decode cX9_entry 86 = .ok (.goto 12, 3) := dk_167 0 12 (dk_at dksX9_entry_3 17 rfl rfl)
theorem dX9_entry_89 : decode cX9_entry 89 = .ok (.aload_n 0, 1) := dk_42 (dk_at dksX9_entry_3 20 rfl rfl)
theorem dX9_entry_90 : decode cX9_entry 90 = .ok (.getfield 30, 3) := dk_180 0 30 (dk_at dksX9_entry_3 21 rfl rfl)
theorem dX9_entry_93 : decode cX9_entry 93 = .ok (.getfield 184, 3) := dk_180 0 184 (dk_at dksX9_entry_4 0 rfl rfl)
theorem dX9_entry_96 : decode cX9_entry 96 = .ok (.iload_n 1, 1) := dk_27 (dk_at dksX9_entry_4 3 rfl rfl)
theorem dX9_entry_97 : decode cX9_entry 97 = .ok (.laload, 1) := dk_47 (dk_at dksX9_entry_4 4 rfl rfl)
theorem dX9_entry_98 : decode cX9_entry 98 = .ok (.lreturn, 1) := dk_173 (dk_at dksX9_entry_4 5 rfl rfl)
theorem dX9_entry_99 : decode cX9_entry 99 = .ok (.iload_n 2, 1) := dk_28 (dk_at dksX9_entry_4 6 rfl rfl)
theorem dX9_entry_100 : decode cX9_entry 100 = .ok (.aload_n 0, 1) := dk_42 (dk_at dksX9_entry_4 7 rfl rfl)
theorem dX9_entry_101 : decode cX9_entry 101 = .ok (.invokevirtual 89, 3) := dk_182 0 89 (dk_at dksX9_entry_4 8 rfl rfl)
theorem dX9_entry_104 : decode cX9_entry 104 = .ok (.if_icmp .le 28, 3) := dk_164 0 28 (dk_at dksX9_entry_4 11 rfl rfl)
theorem dX9_entry_107 : decode cX9_entry 107 = .ok (.iload_n 1, 1) := dk_27 (dk_at dksX9_entry_4 14 rfl rfl)
theorem dX9_entry_108 : decode cX9_entry 108 = .ok (.ifCond .ge 13, 3) := dk_156 0 13 (dk_at dksX9_entry_4 15 rfl rfl)
theorem dX9_entry_111 : decode cX9_entry 111 = .ok (.aload_n 0, 1) := dk_42 (dk_at dksX9_entry_4 18 rfl rfl)
theorem dX9_entry_112 : decode cX9_entry 112 = .ok (.getfield 30, 3) := dk_180 0 30 (dk_at dksX9_entry_4 19 rfl rfl)
theorem dX9_entry_115 : decode cX9_entry 115 = .ok (.getfield 197, 3) := dk_180 0 197 (dk_at dksX9_entry_5 0 rfl rfl)
theorem dX9_entry_118 : decode cX9_entry 118 = .ok (.goto 13, 3) := dk_167 0 13 (dk_at dksX9_entry_5 3 rfl rfl)
theorem dX9_entry_121 : decode cX9_entry 121 = .ok (.aload_n 0, 1) := dk_42 (dk_at dksX9_entry_5 6 rfl rfl)
theorem dX9_entry_122 : decode cX9_entry 122 = .ok (.getfield 30, 3) := dk_180 0 30 (dk_at dksX9_entry_5 7 rfl rfl)
theorem dX9_entry_125 : decode cX9_entry 125 = .ok (.getfield 181, 3) := dk_180 0 181 (dk_at dksX9_entry_5 10 rfl rfl)
theorem dX9_entry_128 : decode cX9_entry 128 = .ok (.iload_n 1, 1) := dk_27 (dk_at dksX9_entry_5 13 rfl rfl)
theorem dX9_entry_129 : decode cX9_entry 129 = .ok (.iaload, 1) := dk_46 (dk_at dksX9_entry_5 14 rfl rfl)
theorem dX9_entry_130 : decode cX9_entry 130 = .ok (.i2l, 1) := dk_133 (dk_at dksX9_entry_5 15 rfl rfl)
theorem dX9_entry_131 : decode cX9_entry 131 = .ok (.lreturn, 1) := dk_173 (dk_at dksX9_entry_5 16 rfl rfl)
theorem dX9_entry_132 : decode cX9_entry 132 = .ok (.iload_n 1, 1) := dk_27 (dk_at dksX9_entry_5 17 rfl rfl)
theorem dX9_entry_133 : decode cX9_entry 133 = .ok (.bipush (-2), 2) := dk_16 254 (dk_at dksX9_entry_5 18 rfl rfl)
theorem dX9_entry_135 : decode cX9_entry 135 = .ok (.if_icmp .ne 16, 3) := dk_160 0 16 (dk_at dksX9_entry_5 20 rfl rfl)
theorem dX9_entry_138 : decode cX9_entry 138 = .ok (.aload_n 0, 1) := dk_42 (dk_at dksX9_entry_5 23 rfl rfl)
theorem dX9_entry_139 : decode cX9_entry 139 = .ok (.getfield 30, 3) := dk_180 0 30 (dk_at dksX9_entry_6 0 rfl rfl)
theorem dX9_entry_142 : decode cX9_entry 142 = .ok (.getfield 206, 3) := dk_180 0 206 (dk_at dksX9_entry_6 3 rfl rfl)
theorem dX9_entry_145 : decode cX9_entry 145 = .ok (.iload_n 2, 1) := dk_28 (dk_at dksX9_entry_6 6 rfl rfl)
theorem dX9_entry_146 : decode cX9_entry 146 = .ok (.iaload, 1) := dk_46 (dk_at dksX9_entry_6 7 rfl rfl)
theorem dX9_entry_147 : decode cX9_entry 147 = .ok (.i2l, 1) := dk_133 (dk_at dksX9_entry_6 8 rfl rfl)
theorem dX9_entry_148 : decode cX9_entry 148 = .ok (.goto 33, 3) := dk_167 0 33 (dk_at dksX9_entry_6 9 rfl rfl)
theorem dX9_entry_151 : decode cX9_entry 151 = .ok (.iload_n 1, 1) := dk_27 (dk_at dksX9_entry_6 12 rfl rfl)
theorem dX9_entry_152 : decode cX9_entry 152 = .ok (.iconst (-1), 1) := dk_2 (dk_at dksX9_entry_6 13 rfl rfl)
theorem dX9_entry_153 : decode cX9_entry 153 = .ok (.if_icmp .ne 15, 3) := dk_160 0 15 (dk_at dksX9_entry_6 14 rfl rfl)
theorem dX9_entry_156 : decode cX9_entry 156 = .ok (.aload_n 0, 1) := dk_42 (dk_at dksX9_entry_6 17 rfl rfl)
theorem dX9_entry_157 : decode cX9_entry 157 = .ok (.getfield 30, 3) := dk_180 0 30 (dk_at dksX9_entry_6 18 rfl rfl)
theorem dX9_entry_160 : decode cX9_entry 160 = .ok (.getfield 203, 3) := dk_180 0 203 (dk_at dksX9_entry_6 21 rfl rfl)
theorem dX9_entry_163 : decode cX9_entry 163 = .ok (.iload_n 2, 1) := dk_28 (dk_at dksX9_entry_7 0 rfl rfl)
theorem dX9_entry_164 : decode cX9_entry 164 = .ok (.laload, 1) := dk_47 (dk_at dksX9_entry_7 1 rfl rfl)
theorem dX9_entry_165 : decode cX9_entry 165 = .ok (.goto 16, 3) := dk_167 0 16 (dk_at dksX9_entry_7 2 rfl rfl)
theorem dX9_entry_168 : decode cX9_entry 168 = .ok (.aload_n 0, 1) := dk_42 (dk_at dksX9_entry_7 5 rfl rfl)
theorem dX9_entry_169 : decode cX9_entry 169 = .ok (.getfield 30, 3) := dk_180 0 30 (dk_at dksX9_entry_7 6 rfl rfl)
theorem dX9_entry_172 : decode cX9_entry 172 = .ok (.getfield 175, 3) := dk_180 0 175 (dk_at dksX9_entry_7 9 rfl rfl)
theorem dX9_entry_175 : decode cX9_entry 175 = .ok (.iconst 5, 1) := dk_8 (dk_at dksX9_entry_7 12 rfl rfl)
theorem dX9_entry_176 : decode cX9_entry 176 = .ok (.iload_n 1, 1) := dk_27 (dk_at dksX9_entry_7 13 rfl rfl)
theorem dX9_entry_177 : decode cX9_entry 177 = .ok (.imul, 1) := dk_104 (dk_at dksX9_entry_7 14 rfl rfl)
theorem dX9_entry_178 : decode cX9_entry 178 = .ok (.iload_n 2, 1) := dk_28 (dk_at dksX9_entry_7 15 rfl rfl)
theorem dX9_entry_179 : decode cX9_entry 179 = .ok (.iadd, 1) := dk_96 (dk_at dksX9_entry_7 16 rfl rfl)
theorem dX9_entry_180 : decode cX9_entry 180 = .ok (.laload, 1) := dk_47 (dk_at dksX9_entry_7 17 rfl rfl)
theorem dX9_entry_181 : decode cX9_entry 181 = .ok (.lreturn, 1) := dk_173 (dk_at dksX9_entry_7 18 rfl rfl)
abbrev cX9_amount : ByteArray := prog_19_method_51_code
def yX9_amount : MethodName := ⟨RX9, "amount", "(II)J"⟩
def dkwX9_amount_2 : List UInt8 := [167, 0, 6, 20, 1, 50, 173]
abbrev dktX9_amount_2 : List UInt8 := dkwX9_amount_2 ++ []
def dkwX9_amount_1 : List UInt8 := [153, 0, 26, 42, 42, 180, 0, 30, 27, 182, 1, 58, 42, 180, 0, 30, 180, 0, 197, 28, 184, 1, 61]
abbrev dktX9_amount_1 : List UInt8 := dkwX9_amount_1 ++ dktX9_amount_2
def dkwX9_amount_0 : List UInt8 := [42, 180, 0, 30, 180, 0, 85, 153, 0, 41, 42, 27, 182, 0, 110, 153, 0, 33, 28, 184, 1, 55]
abbrev dktX9_amount_0 : List UInt8 := dkwX9_amount_0 ++ dktX9_amount_1
theorem dksX9_amount_0 : cX9_amount.data.toList.drop 0 = dktX9_amount_0 := by decide +kernel
theorem dksX9_amount_1 : cX9_amount.data.toList.drop 22 = dktX9_amount_1 := dk_seg dksX9_amount_0 22 rfl rfl
theorem dksX9_amount_2 : cX9_amount.data.toList.drop 45 = dktX9_amount_2 := dk_seg dksX9_amount_1 23 rfl rfl
theorem dX9_amount_0 : decode cX9_amount 0 = .ok (.aload_n 0, 1) := dk_42 (dk_at dksX9_amount_0 0 rfl rfl)
theorem dX9_amount_1 : decode cX9_amount 1 = .ok (.getfield 30, 3) := dk_180 0 30 (dk_at dksX9_amount_0 1 rfl rfl)
theorem dX9_amount_4 : decode cX9_amount 4 = .ok (.getfield 85, 3) := dk_180 0 85 (dk_at dksX9_amount_0 4 rfl rfl)
theorem dX9_amount_7 : decode cX9_amount 7 = .ok (.ifCond .eq 41, 3) := dk_153 0 41 (dk_at dksX9_amount_0 7 rfl rfl)
theorem dX9_amount_10 : decode cX9_amount 10 = .ok (.aload_n 0, 1) := dk_42 (dk_at dksX9_amount_0 10 rfl rfl)
theorem dX9_amount_11 : decode cX9_amount 11 = .ok (.iload_n 1, 1) := dk_27 (dk_at dksX9_amount_0 11 rfl rfl)
theorem dX9_amount_12 : decode cX9_amount 12 = .ok (.invokevirtual 110, 3) := dk_182 0 110 (dk_at dksX9_amount_0 12 rfl rfl)
theorem dX9_amount_15 : decode cX9_amount 15 = .ok (.ifCond .eq 33, 3) := dk_153 0 33 (dk_at dksX9_amount_0 15 rfl rfl)
theorem dX9_amount_18 : decode cX9_amount 18 = .ok (.iload_n 2, 1) := dk_28 (dk_at dksX9_amount_0 18 rfl rfl)
theorem dX9_amount_19 : decode cX9_amount 19 = .ok (.invokestatic 311, 3) := dk_184 1 55 (dk_at dksX9_amount_0 19 rfl rfl)
theorem dX9_amount_22 : decode cX9_amount 22 = .ok (.ifCond .eq 26, 3) := dk_153 0 26 (dk_at dksX9_amount_1 0 rfl rfl)
theorem dX9_amount_25 : decode cX9_amount 25 = .ok (.aload_n 0, 1) := dk_42 (dk_at dksX9_amount_1 3 rfl rfl)
theorem dX9_amount_26 : decode cX9_amount 26 = .ok (.aload_n 0, 1) := dk_42 (dk_at dksX9_amount_1 4 rfl rfl)
theorem dX9_amount_27 : decode cX9_amount 27 = .ok (.getfield 30, 3) := dk_180 0 30 (dk_at dksX9_amount_1 5 rfl rfl)
theorem dX9_amount_30 : decode cX9_amount 30 = .ok (.iload_n 1, 1) := dk_27 (dk_at dksX9_amount_1 8 rfl rfl)
theorem dX9_amount_31 : decode cX9_amount 31 = .ok (.invokevirtual 314, 3) := dk_182 1 58 (dk_at dksX9_amount_1 9 rfl rfl)
theorem dX9_amount_34 : decode cX9_amount 34 = .ok (.aload_n 0, 1) := dk_42 (dk_at dksX9_amount_1 12 rfl rfl)
theorem dX9_amount_35 : decode cX9_amount 35 = .ok (.getfield 30, 3) := dk_180 0 30 (dk_at dksX9_amount_1 13 rfl rfl)
theorem dX9_amount_38 : decode cX9_amount 38 = .ok (.getfield 197, 3) := dk_180 0 197 (dk_at dksX9_amount_1 16 rfl rfl)
theorem dX9_amount_41 : decode cX9_amount 41 = .ok (.iload_n 2, 1) := dk_28 (dk_at dksX9_amount_1 19 rfl rfl)
theorem dX9_amount_42 : decode cX9_amount 42 = .ok (.invokestatic 317, 3) := dk_184 1 61 (dk_at dksX9_amount_1 20 rfl rfl)
theorem dX9_amount_45 : decode cX9_amount 45 = .ok (.goto 6, 3) := dk_167 0 6 (dk_at dksX9_amount_2 0 rfl rfl)
theorem dX9_amount_48 : decode cX9_amount 48 = .ok (.ldc2_w 306, 3) := dk_20 1 50 (dk_at dksX9_amount_2 3 rfl rfl)
theorem dX9_amount_51 : decode cX9_amount 51 = .ok (.lreturn, 1) := dk_173 (dk_at dksX9_amount_2 6 rfl rfl)
abbrev cX9_isPart : ByteArray := prog_19_method_49_code
def yX9_isPart : MethodName := ⟨RX9, "isPart", "(I)Z"⟩
def dkwX9_isPart_0 : List UInt8 := [26, 133, 9, 10, 184, 0, 93, 172]
abbrev dktX9_isPart_0 : List UInt8 := dkwX9_isPart_0 ++ []
theorem dksX9_isPart_0 : cX9_isPart.data.toList.drop 0 = dktX9_isPart_0 := by decide +kernel
theorem dX9_isPart_0 : decode cX9_isPart 0 = .ok (.iload_n 0, 1) := dk_26 (dk_at dksX9_isPart_0 0 rfl rfl)
theorem dX9_isPart_1 : decode cX9_isPart 1 = .ok (.i2l, 1) := dk_133 (dk_at dksX9_isPart_0 1 rfl rfl)
theorem dX9_isPart_2 : decode cX9_isPart 2 = .ok (.lconst 0, 1) := dk_9 (dk_at dksX9_isPart_0 2 rfl rfl)
theorem dX9_isPart_3 : decode cX9_isPart 3 = .ok (.lconst 1, 1) := dk_10 (dk_at dksX9_isPart_0 3 rfl rfl)
theorem dX9_isPart_4 : decode cX9_isPart 4 = .ok (.invokestatic 93, 3) := dk_184 0 93 (dk_at dksX9_isPart_0 4 rfl rfl)
theorem dX9_isPart_7 : decode cX9_isPart 7 = .ok (.ireturn, 1) := dk_172 (dk_at dksX9_isPart_0 7 rfl rfl)
abbrev cX9_amountIn : ByteArray := prog_19_method_50_code
def yX9_amountIn : MethodName := ⟨RX9, "amountIn", "(LWholePacksModel$Table;I)J"⟩
def dkwX9_amountIn_0 : List UInt8 := [42, 43, 28, 182, 1, 52, 62, 29, 156, 0, 7, 9, 167, 0, 9, 43, 180, 0, 184, 29, 47, 173]
abbrev dktX9_amountIn_0 : List UInt8 := dkwX9_amountIn_0 ++ []
theorem dksX9_amountIn_0 : cX9_amountIn.data.toList.drop 0 = dktX9_amountIn_0 := by decide +kernel
theorem dX9_amountIn_0 : decode cX9_amountIn 0 = .ok (.aload_n 0, 1) := dk_42 (dk_at dksX9_amountIn_0 0 rfl rfl)
theorem dX9_amountIn_1 : decode cX9_amountIn 1 = .ok (.aload_n 1, 1) := dk_43 (dk_at dksX9_amountIn_0 1 rfl rfl)
theorem dX9_amountIn_2 : decode cX9_amountIn 2 = .ok (.iload_n 2, 1) := dk_28 (dk_at dksX9_amountIn_0 2 rfl rfl)
theorem dX9_amountIn_3 : decode cX9_amountIn 3 = .ok (.invokevirtual 308, 3) := dk_182 1 52 (dk_at dksX9_amountIn_0 3 rfl rfl)
theorem dX9_amountIn_6 : decode cX9_amountIn 6 = .ok (.istore_n 3, 1) := dk_62 (dk_at dksX9_amountIn_0 6 rfl rfl)
theorem dX9_amountIn_7 : decode cX9_amountIn 7 = .ok (.iload_n 3, 1) := dk_29 (dk_at dksX9_amountIn_0 7 rfl rfl)
theorem dX9_amountIn_8 : decode cX9_amountIn 8 = .ok (.ifCond .ge 7, 3) := dk_156 0 7 (dk_at dksX9_amountIn_0 8 rfl rfl)
theorem dX9_amountIn_11 : decode cX9_amountIn 11 = .ok (.lconst 0, 1) := dk_9 (dk_at dksX9_amountIn_0 11 rfl rfl)
theorem dX9_amountIn_12 : decode cX9_amountIn 12 = .ok (.goto 9, 3) := dk_167 0 9 (dk_at dksX9_amountIn_0 12 rfl rfl)
theorem dX9_amountIn_15 : decode cX9_amountIn 15 = .ok (.aload_n 1, 1) := dk_43 (dk_at dksX9_amountIn_0 15 rfl rfl)
theorem dX9_amountIn_16 : decode cX9_amountIn 16 = .ok (.getfield 184, 3) := dk_180 0 184 (dk_at dksX9_amountIn_0 16 rfl rfl)
theorem dX9_amountIn_19 : decode cX9_amountIn 19 = .ok (.iload_n 3, 1) := dk_29 (dk_at dksX9_amountIn_0 19 rfl rfl)
theorem dX9_amountIn_20 : decode cX9_amountIn 20 = .ok (.laload, 1) := dk_47 (dk_at dksX9_amountIn_0 20 rfl rfl)
theorem dX9_amountIn_21 : decode cX9_amountIn 21 = .ok (.lreturn, 1) := dk_173 (dk_at dksX9_amountIn_0 21 rfl rfl)
abbrev cX9_rowOf : ByteArray := prog_19_method_37_code
def yX9_rowOf : MethodName := ⟨RX9, "rowOf", "(LWholePacksModel$Table;I)I"⟩
def dkwX9_rowOf_1 : List UInt8 := [132, 3, 1, 167, 255, 233, 2, 172]
abbrev dktX9_rowOf_1 : List UInt8 := dkwX9_rowOf_1 ++ []
def dkwX9_rowOf_0 : List UInt8 := [3, 62, 29, 43, 180, 0, 178, 162, 0, 21, 43, 180, 0, 181, 29, 46, 28, 160, 0, 5, 29, 172]
abbrev dktX9_rowOf_0 : List UInt8 := dkwX9_rowOf_0 ++ dktX9_rowOf_1
theorem dksX9_rowOf_0 : cX9_rowOf.data.toList.drop 0 = dktX9_rowOf_0 := by decide +kernel
theorem dksX9_rowOf_1 : cX9_rowOf.data.toList.drop 22 = dktX9_rowOf_1 := dk_seg dksX9_rowOf_0 22 rfl rfl
theorem dX9_rowOf_0 : decode cX9_rowOf 0 = .ok (.iconst 0, 1) := dk_3 (dk_at dksX9_rowOf_0 0 rfl rfl)
theorem dX9_rowOf_1 : decode cX9_rowOf 1 = .ok (.istore_n 3, 1) := dk_62 (dk_at dksX9_rowOf_0 1 rfl rfl)
theorem dX9_rowOf_2 : decode cX9_rowOf 2 = .ok (.iload_n 3, 1) := dk_29 (dk_at dksX9_rowOf_0 2 rfl rfl)
theorem dX9_rowOf_3 : decode cX9_rowOf 3 = .ok (.aload_n 1, 1) := dk_43 (dk_at dksX9_rowOf_0 3 rfl rfl)
theorem dX9_rowOf_4 : decode cX9_rowOf 4 = .ok (.getfield 178, 3) := dk_180 0 178 (dk_at dksX9_rowOf_0 4 rfl rfl)
theorem dX9_rowOf_7 : decode cX9_rowOf 7 = .ok (.if_icmp .ge 21, 3) := dk_162 0 21 (dk_at dksX9_rowOf_0 7 rfl rfl)
theorem dX9_rowOf_10 : decode cX9_rowOf 10 = .ok (.aload_n 1, 1) := dk_43 (dk_at dksX9_rowOf_0 10 rfl rfl)
theorem dX9_rowOf_11 : decode cX9_rowOf 11 = .ok (.getfield 181, 3) := dk_180 0 181 (dk_at dksX9_rowOf_0 11 rfl rfl)
theorem dX9_rowOf_14 : decode cX9_rowOf 14 = .ok (.iload_n 3, 1) := dk_29 (dk_at dksX9_rowOf_0 14 rfl rfl)
theorem dX9_rowOf_15 : decode cX9_rowOf 15 = .ok (.iaload, 1) := dk_46 (dk_at dksX9_rowOf_0 15 rfl rfl)
theorem dX9_rowOf_16 : decode cX9_rowOf 16 = .ok (.iload_n 2, 1) := dk_28 (dk_at dksX9_rowOf_0 16 rfl rfl)
theorem dX9_rowOf_17 : decode cX9_rowOf 17 = .ok (.if_icmp .ne 5, 3) := dk_160 0 5 (dk_at dksX9_rowOf_0 17 rfl rfl)
theorem dX9_rowOf_20 : decode cX9_rowOf 20 = .ok (.iload_n 3, 1) := dk_29 (dk_at dksX9_rowOf_0 20 rfl rfl)
theorem dX9_rowOf_21 : decode cX9_rowOf 21 = .ok (.ireturn, 1) := dk_172 (dk_at dksX9_rowOf_0 21 rfl rfl)
theorem dX9_rowOf_22 : decode cX9_rowOf 22 = .ok (.iinc 3 1, 3) := dk_132 3 1 (dk_at dksX9_rowOf_1 0 rfl rfl)
theorem dX9_rowOf_25 : decode cX9_rowOf 25 = .ok (.goto (-23), 3) := dk_167 255 233 (dk_at dksX9_rowOf_1 3 rfl rfl)
theorem dX9_rowOf_28 : decode cX9_rowOf 28 = .ok (.iconst (-1), 1) := dk_2 (dk_at dksX9_rowOf_1 6 rfl rfl)
theorem dX9_rowOf_29 : decode cX9_rowOf 29 = .ok (.ireturn, 1) := dk_172 (dk_at dksX9_rowOf_1 7 rfl rfl)
abbrev cX9_lowest : ByteArray := prog_19_method_48_code
def yX9_lowest : MethodName := ⟨RX9, "lowest", "(JJI)J"⟩
def dkwX9_lowest_2 : List UInt8 := [22, 5, 109, 167, 0, 7, 32, 22, 5, 109, 173]
abbrev dktX9_lowest_2 : List UInt8 := dkwX9_lowest_2 ++ []
def dkwX9_lowest_1 : List UInt8 := [22, 5, 22, 7, 113, 55, 9, 22, 7, 55, 5, 22, 9, 55, 7, 167, 255, 234, 21, 4, 154, 0, 10, 30]
abbrev dktX9_lowest_1 : List UInt8 := dkwX9_lowest_1 ++ dktX9_lowest_2
def dkwX9_lowest_0 : List UInt8 := [30, 9, 148, 156, 0, 8, 30, 117, 167, 0, 4, 30, 55, 5, 32, 55, 7, 22, 7, 9, 148, 153, 0, 21]
abbrev dktX9_lowest_0 : List UInt8 := dkwX9_lowest_0 ++ dktX9_lowest_1
theorem dksX9_lowest_0 : cX9_lowest.data.toList.drop 0 = dktX9_lowest_0 := by decide +kernel
theorem dksX9_lowest_1 : cX9_lowest.data.toList.drop 24 = dktX9_lowest_1 := dk_seg dksX9_lowest_0 24 rfl rfl
theorem dksX9_lowest_2 : cX9_lowest.data.toList.drop 48 = dktX9_lowest_2 := dk_seg dksX9_lowest_1 24 rfl rfl
theorem dX9_lowest_0 : decode cX9_lowest 0 = .ok (.lload_n 0, 1) := dk_30 (dk_at dksX9_lowest_0 0 rfl rfl)
theorem dX9_lowest_1 : decode cX9_lowest 1 = .ok (.lconst 0, 1) := dk_9 (dk_at dksX9_lowest_0 1 rfl rfl)
theorem dX9_lowest_2 : decode cX9_lowest 2 = .ok (.lcmp, 1) := dk_148 (dk_at dksX9_lowest_0 2 rfl rfl)
theorem dX9_lowest_3 : decode cX9_lowest 3 = .ok (.ifCond .ge 8, 3) := dk_156 0 8 (dk_at dksX9_lowest_0 3 rfl rfl)
theorem dX9_lowest_6 : decode cX9_lowest 6 = .ok (.lload_n 0, 1) := dk_30 (dk_at dksX9_lowest_0 6 rfl rfl)
theorem dX9_lowest_7 : decode cX9_lowest 7 = .ok (.lneg, 1) := dk_117 (dk_at dksX9_lowest_0 7 rfl rfl)
theorem dX9_lowest_8 : decode cX9_lowest 8 = .ok (.goto 4, 3) := dk_167 0 4 (dk_at dksX9_lowest_0 8 rfl rfl)
theorem dX9_lowest_11 : decode cX9_lowest 11 = .ok (.lload_n 0, 1) := dk_30 (dk_at dksX9_lowest_0 11 rfl rfl)
theorem dX9_lowest_12 : decode cX9_lowest 12 = .ok (.lstore 5, 2) := dk_55 5 (dk_at dksX9_lowest_0 12 rfl rfl)
theorem dX9_lowest_14 : decode cX9_lowest 14 = .ok (.lload_n 2, 1) := dk_32 (dk_at dksX9_lowest_0 14 rfl rfl)
theorem dX9_lowest_15 : decode cX9_lowest 15 = .ok (.lstore 7, 2) := dk_55 7 (dk_at dksX9_lowest_0 15 rfl rfl)
theorem dX9_lowest_17 : decode cX9_lowest 17 = .ok (.lload 7, 2) := dk_22 7 (dk_at dksX9_lowest_0 17 rfl rfl)
theorem dX9_lowest_19 : decode cX9_lowest 19 = .ok (.lconst 0, 1) := dk_9 (dk_at dksX9_lowest_0 19 rfl rfl)
theorem dX9_lowest_20 : decode cX9_lowest 20 = .ok (.lcmp, 1) := dk_148 (dk_at dksX9_lowest_0 20 rfl rfl)
theorem dX9_lowest_21 : decode cX9_lowest 21 = .ok (.ifCond .eq 21, 3) := dk_153 0 21 (dk_at dksX9_lowest_0 21 rfl rfl)
theorem dX9_lowest_24 : decode cX9_lowest 24 = .ok (.lload 5, 2) := dk_22 5 (dk_at dksX9_lowest_1 0 rfl rfl)
theorem dX9_lowest_26 : decode cX9_lowest 26 = .ok (.lload 7, 2) := dk_22 7 (dk_at dksX9_lowest_1 2 rfl rfl)
theorem dX9_lowest_28 : decode cX9_lowest 28 = .ok (.lrem, 1) := dk_113 (dk_at dksX9_lowest_1 4 rfl rfl)
theorem dX9_lowest_29 : decode cX9_lowest 29 = .ok (.lstore 9, 2) := dk_55 9 (dk_at dksX9_lowest_1 5 rfl rfl)
theorem dX9_lowest_31 : decode cX9_lowest 31 = .ok (.lload 7, 2) := dk_22 7 (dk_at dksX9_lowest_1 7 rfl rfl)
theorem dX9_lowest_33 : decode cX9_lowest 33 = .ok (.lstore 5, 2) := dk_55 5 (dk_at dksX9_lowest_1 9 rfl rfl)
theorem dX9_lowest_35 : decode cX9_lowest 35 = .ok (.lload 9, 2) := dk_22 9 (dk_at dksX9_lowest_1 11 rfl rfl)
theorem dX9_lowest_37 : decode cX9_lowest 37 = .ok (.lstore 7, 2) := dk_55 7 (dk_at dksX9_lowest_1 13 rfl rfl)
theorem dX9_lowest_39 : decode cX9_lowest 39 = .ok (.goto (-22), 3) := dk_167 255 234 (dk_at dksX9_lowest_1 15 rfl rfl)
theorem dX9_lowest_42 : decode cX9_lowest 42 = .ok (.iload 4, 2) := dk_21 4 (dk_at dksX9_lowest_1 18 rfl rfl)
theorem dX9_lowest_44 : decode cX9_lowest 44 = .ok (.ifCond .ne 10, 3) := dk_154 0 10 (dk_at dksX9_lowest_1 20 rfl rfl)
theorem dX9_lowest_47 : decode cX9_lowest 47 = .ok (.lload_n 0, 1) := dk_30 (dk_at dksX9_lowest_1 23 rfl rfl)
theorem dX9_lowest_48 : decode cX9_lowest 48 = .ok (.lload 5, 2) := dk_22 5 (dk_at dksX9_lowest_2 0 rfl rfl)
theorem dX9_lowest_50 : decode cX9_lowest 50 = .ok (.ldiv, 1) := dk_109 (dk_at dksX9_lowest_2 2 rfl rfl)
theorem dX9_lowest_51 : decode cX9_lowest 51 = .ok (.goto 7, 3) := dk_167 0 7 (dk_at dksX9_lowest_2 3 rfl rfl)
theorem dX9_lowest_54 : decode cX9_lowest 54 = .ok (.lload_n 2, 1) := dk_32 (dk_at dksX9_lowest_2 6 rfl rfl)
theorem dX9_lowest_55 : decode cX9_lowest 55 = .ok (.lload 5, 2) := dk_22 5 (dk_at dksX9_lowest_2 7 rfl rfl)
theorem dX9_lowest_57 : decode cX9_lowest 57 = .ok (.ldiv, 1) := dk_109 (dk_at dksX9_lowest_2 9 rfl rfl)
theorem dX9_lowest_58 : decode cX9_lowest 58 = .ok (.lreturn, 1) := dk_173 (dk_at dksX9_lowest_2 10 rfl rfl)
abbrev cX9_value : ByteArray := prog_19_method_52_code
def yX9_value : MethodName := ⟨RX9, "value", "(I)J"⟩
def dkwX9_value_1 : List UInt8 := [42, 180, 0, 30, 180, 0, 197, 27, 184, 1, 61, 167, 0, 6, 20, 1, 50, 173]
abbrev dktX9_value_1 : List UInt8 := dkwX9_value_1 ++ []
def dkwX9_value_0 : List UInt8 := [42, 180, 0, 30, 180, 0, 85, 153, 0, 31, 27, 184, 1, 55, 153, 0, 24, 42, 180, 0, 30, 180, 0, 193]
abbrev dktX9_value_0 : List UInt8 := dkwX9_value_0 ++ dktX9_value_1
theorem dksX9_value_0 : cX9_value.data.toList.drop 0 = dktX9_value_0 := by decide +kernel
theorem dksX9_value_1 : cX9_value.data.toList.drop 24 = dktX9_value_1 := dk_seg dksX9_value_0 24 rfl rfl
theorem dX9_value_0 : decode cX9_value 0 = .ok (.aload_n 0, 1) := dk_42 (dk_at dksX9_value_0 0 rfl rfl)
theorem dX9_value_1 : decode cX9_value 1 = .ok (.getfield 30, 3) := dk_180 0 30 (dk_at dksX9_value_0 1 rfl rfl)
theorem dX9_value_4 : decode cX9_value 4 = .ok (.getfield 85, 3) := dk_180 0 85 (dk_at dksX9_value_0 4 rfl rfl)
theorem dX9_value_7 : decode cX9_value 7 = .ok (.ifCond .eq 31, 3) := dk_153 0 31 (dk_at dksX9_value_0 7 rfl rfl)
theorem dX9_value_10 : decode cX9_value 10 = .ok (.iload_n 1, 1) := dk_27 (dk_at dksX9_value_0 10 rfl rfl)
theorem dX9_value_11 : decode cX9_value 11 = .ok (.invokestatic 311, 3) := dk_184 1 55 (dk_at dksX9_value_0 11 rfl rfl)
theorem dX9_value_14 : decode cX9_value 14 = .ok (.ifCond .eq 24, 3) := dk_153 0 24 (dk_at dksX9_value_0 14 rfl rfl)
theorem dX9_value_17 : decode cX9_value 17 = .ok (.aload_n 0, 1) := dk_42 (dk_at dksX9_value_0 17 rfl rfl)
theorem dX9_value_18 : decode cX9_value 18 = .ok (.getfield 30, 3) := dk_180 0 30 (dk_at dksX9_value_0 18 rfl rfl)
theorem dX9_value_21 : decode cX9_value 21 = .ok (.getfield 193, 3) := dk_180 0 193 (dk_at dksX9_value_0 21 rfl rfl)
theorem dX9_value_24 : decode cX9_value 24 = .ok (.aload_n 0, 1) := dk_42 (dk_at dksX9_value_1 0 rfl rfl)
theorem dX9_value_25 : decode cX9_value 25 = .ok (.getfield 30, 3) := dk_180 0 30 (dk_at dksX9_value_1 1 rfl rfl)
theorem dX9_value_28 : decode cX9_value 28 = .ok (.getfield 197, 3) := dk_180 0 197 (dk_at dksX9_value_1 4 rfl rfl)
theorem dX9_value_31 : decode cX9_value 31 = .ok (.iload_n 1, 1) := dk_27 (dk_at dksX9_value_1 7 rfl rfl)
theorem dX9_value_32 : decode cX9_value 32 = .ok (.invokestatic 317, 3) := dk_184 1 61 (dk_at dksX9_value_1 8 rfl rfl)
theorem dX9_value_35 : decode cX9_value 35 = .ok (.goto 6, 3) := dk_167 0 6 (dk_at dksX9_value_1 11 rfl rfl)
theorem dX9_value_38 : decode cX9_value 38 = .ok (.ldc2_w 306, 3) := dk_20 1 50 (dk_at dksX9_value_1 14 rfl rfl)
theorem dX9_value_41 : decode cX9_value 41 = .ok (.lreturn, 1) := dk_173 (dk_at dksX9_value_1 17 rfl rfl)
abbrev cX9_price : ByteArray := prog_19_method_53_code
def yX9_price : MethodName := ⟨RX9, "price", "(II)J"⟩
def dkwX9_price_3 : List UInt8 := [180, 0, 197, 28, 184, 1, 61, 173, 132, 3, 1, 167, 255, 208, 28, 133, 173]
abbrev dktX9_price_3 : List UInt8 := dkwX9_price_3 ++ []
def dkwX9_price_2 : List UInt8 := [29, 46, 16, 10, 27, 96, 160, 0, 24, 42, 180, 0, 30, 180, 0, 203, 29, 47, 42, 180, 0, 30]
abbrev dktX9_price_2 : List UInt8 := dkwX9_price_2 ++ dktX9_price_3
def dkwX9_price_1 : List UInt8 := [154, 0, 7, 20, 1, 50, 173, 3, 62, 29, 42, 182, 0, 89, 162, 0, 46, 42, 180, 0, 30, 180, 0, 206]
abbrev dktX9_price_1 : List UInt8 := dkwX9_price_1 ++ dktX9_price_2
def dkwX9_price_0 : List UInt8 := [42, 180, 0, 30, 180, 0, 85, 153, 0, 18, 42, 27, 182, 0, 124, 153, 0, 10, 28, 184, 1, 55]
abbrev dktX9_price_0 : List UInt8 := dkwX9_price_0 ++ dktX9_price_1
theorem dksX9_price_0 : cX9_price.data.toList.drop 0 = dktX9_price_0 := by decide +kernel
theorem dksX9_price_1 : cX9_price.data.toList.drop 22 = dktX9_price_1 := dk_seg dksX9_price_0 22 rfl rfl
theorem dksX9_price_2 : cX9_price.data.toList.drop 46 = dktX9_price_2 := dk_seg dksX9_price_1 24 rfl rfl
theorem dksX9_price_3 : cX9_price.data.toList.drop 68 = dktX9_price_3 := dk_seg dksX9_price_2 22 rfl rfl
theorem dX9_price_0 : decode cX9_price 0 = .ok (.aload_n 0, 1) := dk_42 (dk_at dksX9_price_0 0 rfl rfl)
theorem dX9_price_1 : decode cX9_price 1 = .ok (.getfield 30, 3) := dk_180 0 30 (dk_at dksX9_price_0 1 rfl rfl)
theorem dX9_price_4 : decode cX9_price 4 = .ok (.getfield 85, 3) := dk_180 0 85 (dk_at dksX9_price_0 4 rfl rfl)
theorem dX9_price_7 : decode cX9_price 7 = .ok (.ifCond .eq 18, 3) := dk_153 0 18 (dk_at dksX9_price_0 7 rfl rfl)
theorem dX9_price_10 : decode cX9_price 10 = .ok (.aload_n 0, 1) := dk_42 (dk_at dksX9_price_0 10 rfl rfl)
theorem dX9_price_11 : decode cX9_price 11 = .ok (.iload_n 1, 1) := dk_27 (dk_at dksX9_price_0 11 rfl rfl)
theorem dX9_price_12 : decode cX9_price 12 = .ok (.invokevirtual 124, 3) := dk_182 0 124 (dk_at dksX9_price_0 12 rfl rfl)
theorem dX9_price_15 : decode cX9_price 15 = .ok (.ifCond .eq 10, 3) := dk_153 0 10 (dk_at dksX9_price_0 15 rfl rfl)
theorem dX9_price_18 : decode cX9_price 18 = .ok (.iload_n 2, 1) := dk_28 (dk_at dksX9_price_0 18 rfl rfl)
theorem dX9_price_19 : decode cX9_price 19 = .ok (.invokestatic 311, 3) := dk_184 1 55 (dk_at dksX9_price_0 19 rfl rfl)
theorem dX9_price_22 : decode cX9_price 22 = .ok (.ifCond .ne 7, 3) := dk_154 0 7 (dk_at dksX9_price_1 0 rfl rfl)
theorem dX9_price_25 : decode cX9_price 25 = .ok (.ldc2_w 306, 3) := dk_20 1 50 (dk_at dksX9_price_1 3 rfl rfl)
theorem dX9_price_28 : decode cX9_price 28 = .ok (.lreturn, 1) := dk_173 (dk_at dksX9_price_1 6 rfl rfl)
theorem dX9_price_29 : decode cX9_price 29 = .ok (.iconst 0, 1) := dk_3 (dk_at dksX9_price_1 7 rfl rfl)
theorem dX9_price_30 : decode cX9_price 30 = .ok (.istore_n 3, 1) := dk_62 (dk_at dksX9_price_1 8 rfl rfl)
theorem dX9_price_31 : decode cX9_price 31 = .ok (.iload_n 3, 1) := dk_29 (dk_at dksX9_price_1 9 rfl rfl)
theorem dX9_price_32 : decode cX9_price 32 = .ok (.aload_n 0, 1) := dk_42 (dk_at dksX9_price_1 10 rfl rfl)
theorem dX9_price_33 : decode cX9_price 33 = .ok (.invokevirtual 89, 3) := dk_182 0 89 (dk_at dksX9_price_1 11 rfl rfl)
theorem dX9_price_36 : decode cX9_price 36 = .ok (.if_icmp .ge 46, 3) := dk_162 0 46 (dk_at dksX9_price_1 14 rfl rfl)
theorem dX9_price_39 : decode cX9_price 39 = .ok (.aload_n 0, 1) := dk_42 (dk_at dksX9_price_1 17 rfl rfl)
theorem dX9_price_40 : decode cX9_price 40 = .ok (.getfield 30, 3) := dk_180 0 30 (dk_at dksX9_price_1 18 rfl rfl)
theorem dX9_price_43 : decode cX9_price 43 = .ok (.getfield 206, 3) := dk_180 0 206 (dk_at dksX9_price_1 21 rfl rfl)
theorem dX9_price_46 : decode cX9_price 46 = .ok (.iload_n 3, 1) := dk_29 (dk_at dksX9_price_2 0 rfl rfl)
theorem dX9_price_47 : decode cX9_price 47 = .ok (.iaload, 1) := dk_46 (dk_at dksX9_price_2 1 rfl rfl)
theorem dX9_price_48 : decode cX9_price 48 = .ok (.bipush 10, 2) := dk_16 10 (dk_at dksX9_price_2 2 rfl rfl)
theorem dX9_price_50 : decode cX9_price 50 = .ok (.iload_n 1, 1) := dk_27 (dk_at dksX9_price_2 4 rfl rfl)
theorem dX9_price_51 : decode cX9_price 51 = .ok (.iadd, 1) := dk_96 (dk_at dksX9_price_2 5 rfl rfl)
theorem dX9_price_52 : decode cX9_price 52 = .ok (.if_icmp .ne 24, 3) := dk_160 0 24 (dk_at dksX9_price_2 6 rfl rfl)
theorem dX9_price_55 : decode cX9_price 55 = .ok (.aload_n 0, 1) := dk_42 (dk_at dksX9_price_2 9 rfl rfl)
theorem dX9_price_56 : decode cX9_price 56 = .ok (.getfield 30, 3) := dk_180 0 30 (dk_at dksX9_price_2 10 rfl rfl)
theorem dX9_price_59 : decode cX9_price 59 = .ok (.getfield 203, 3) := dk_180 0 203 (dk_at dksX9_price_2 13 rfl rfl)
theorem dX9_price_62 : decode cX9_price 62 = .ok (.iload_n 3, 1) := dk_29 (dk_at dksX9_price_2 16 rfl rfl)
theorem dX9_price_63 : decode cX9_price 63 = .ok (.laload, 1) := dk_47 (dk_at dksX9_price_2 17 rfl rfl)
theorem dX9_price_64 : decode cX9_price 64 = .ok (.aload_n 0, 1) := dk_42 (dk_at dksX9_price_2 18 rfl rfl)
theorem dX9_price_65 : decode cX9_price 65 = .ok (.getfield 30, 3) := dk_180 0 30 (dk_at dksX9_price_2 19 rfl rfl)
theorem dX9_price_68 : decode cX9_price 68 = .ok (.getfield 197, 3) := dk_180 0 197 (dk_at dksX9_price_3 0 rfl rfl)
theorem dX9_price_71 : decode cX9_price 71 = .ok (.iload_n 2, 1) := dk_28 (dk_at dksX9_price_3 3 rfl rfl)
theorem dX9_price_72 : decode cX9_price 72 = .ok (.invokestatic 317, 3) := dk_184 1 61 (dk_at dksX9_price_3 4 rfl rfl)
theorem dX9_price_75 : decode cX9_price 75 = .ok (.lreturn, 1) := dk_173 (dk_at dksX9_price_3 7 rfl rfl)
theorem dX9_price_76 : decode cX9_price 76 = .ok (.iinc 3 1, 3) := dk_132 3 1 (dk_at dksX9_price_3 8 rfl rfl)
theorem dX9_price_79 : decode cX9_price 79 = .ok (.goto (-48), 3) := dk_167 255 208 (dk_at dksX9_price_3 11 rfl rfl)
theorem dX9_price_82 : decode cX9_price 82 = .ok (.iload_n 2, 1) := dk_28 (dk_at dksX9_price_3 14 rfl rfl)
theorem dX9_price_83 : decode cX9_price 83 = .ok (.i2l, 1) := dk_133 (dk_at dksX9_price_3 15 rfl rfl)
theorem dX9_price_84 : decode cX9_price 84 = .ok (.lreturn, 1) := dk_173 (dk_at dksX9_price_3 16 rfl rfl)
abbrev cX9_cut : ByteArray := prog_19_method_55_code
def yX9_cut : MethodName := ⟨RX9, "cut", "(II)J"⟩
def dkwX9_cut_2 : List UInt8 := [167, 0, 16, 42, 180, 0, 30, 180, 0, 250, 8, 27, 104, 28, 96, 47, 173]
abbrev dktX9_cut_2 : List UInt8 := dkwX9_cut_2 ++ []
def dkwX9_cut_1 : List UInt8 := [20, 1, 50, 167, 0, 36, 28, 42, 182, 0, 89, 160, 0, 15, 42, 180, 0, 30, 180, 0, 253, 27, 47]
abbrev dktX9_cut_1 : List UInt8 := dkwX9_cut_1 ++ dktX9_cut_2
def dkwX9_cut_0 : List UInt8 := [42, 27, 182, 1, 65, 153, 0, 17, 28, 133, 9, 42, 182, 0, 89, 133, 184, 0, 93, 154, 0, 9]
abbrev dktX9_cut_0 : List UInt8 := dkwX9_cut_0 ++ dktX9_cut_1
theorem dksX9_cut_0 : cX9_cut.data.toList.drop 0 = dktX9_cut_0 := by decide +kernel
theorem dksX9_cut_1 : cX9_cut.data.toList.drop 22 = dktX9_cut_1 := dk_seg dksX9_cut_0 22 rfl rfl
theorem dksX9_cut_2 : cX9_cut.data.toList.drop 45 = dktX9_cut_2 := dk_seg dksX9_cut_1 23 rfl rfl
theorem dX9_cut_0 : decode cX9_cut 0 = .ok (.aload_n 0, 1) := dk_42 (dk_at dksX9_cut_0 0 rfl rfl)
theorem dX9_cut_1 : decode cX9_cut 1 = .ok (.iload_n 1, 1) := dk_27 (dk_at dksX9_cut_0 1 rfl rfl)
theorem dX9_cut_2 : decode cX9_cut 2 = .ok (.invokevirtual 321, 3) := dk_182 1 65 (dk_at dksX9_cut_0 2 rfl rfl)
theorem dX9_cut_5 : decode cX9_cut 5 = .ok (.ifCond .eq 17, 3) := dk_153 0 17 (dk_at dksX9_cut_0 5 rfl rfl)
theorem dX9_cut_8 : decode cX9_cut 8 = .ok (.iload_n 2, 1) := dk_28 (dk_at dksX9_cut_0 8 rfl rfl)
theorem dX9_cut_9 : decode cX9_cut 9 = .ok (.i2l, 1) := dk_133 (dk_at dksX9_cut_0 9 rfl rfl)
theorem dX9_cut_10 : decode cX9_cut 10 = .ok (.lconst 0, 1) := dk_9 (dk_at dksX9_cut_0 10 rfl rfl)
theorem dX9_cut_11 : decode cX9_cut 11 = .ok (.aload_n 0, 1) := dk_42 (dk_at dksX9_cut_0 11 rfl rfl)
theorem dX9_cut_12 : decode cX9_cut 12 = .ok (.invokevirtual 89, 3) := dk_182 0 89 (dk_at dksX9_cut_0 12 rfl rfl)
theorem dX9_cut_15 : decode cX9_cut 15 = .ok (.i2l, 1) := dk_133 (dk_at dksX9_cut_0 15 rfl rfl)
theorem dX9_cut_16 : decode cX9_cut 16 = .ok (.invokestatic 93, 3) := dk_184 0 93 (dk_at dksX9_cut_0 16 rfl rfl)
theorem dX9_cut_19 : decode cX9_cut 19 = .ok (.ifCond .ne 9, 3) := dk_154 0 9 (dk_at dksX9_cut_0 19 rfl rfl)
theorem dX9_cut_22 : decode cX9_cut 22 = .ok (.ldc2_w 306, 3) := dk_20 1 50 (dk_at dksX9_cut_1 0 rfl rfl)
theorem dX9_cut_25 : decode cX9_cut 25 = .ok (.goto 36, 3) := dk_167 0 36 (dk_at dksX9_cut_1 3 rfl rfl)
theorem dX9_cut_28 : decode cX9_cut 28 = .ok (.iload_n 2, 1) := dk_28 (dk_at dksX9_cut_1 6 rfl rfl)
theorem dX9_cut_29 : decode cX9_cut 29 = .ok (.aload_n 0, 1) := dk_42 (dk_at dksX9_cut_1 7 rfl rfl)
theorem dX9_cut_30 : decode cX9_cut 30 = .ok (.invokevirtual 89, 3) := dk_182 0 89 (dk_at dksX9_cut_1 8 rfl rfl)
theorem dX9_cut_33 : decode cX9_cut 33 = .ok (.if_icmp .ne 15, 3) := dk_160 0 15 (dk_at dksX9_cut_1 11 rfl rfl)
theorem dX9_cut_36 : decode cX9_cut 36 = .ok (.aload_n 0, 1) := dk_42 (dk_at dksX9_cut_1 14 rfl rfl)
theorem dX9_cut_37 : decode cX9_cut 37 = .ok (.getfield 30, 3) := dk_180 0 30 (dk_at dksX9_cut_1 15 rfl rfl)
theorem dX9_cut_40 : decode cX9_cut 40 = .ok (.getfield 253, 3) := dk_180 0 253 (dk_at dksX9_cut_1 18 rfl rfl)
theorem dX9_cut_43 : decode cX9_cut 43 = .ok (.iload_n 1, 1) := dk_27 (dk_at dksX9_cut_1 21 rfl rfl)
theorem dX9_cut_44 : decode cX9_cut 44 = .ok (.laload, 1) := dk_47 (dk_at dksX9_cut_1 22 rfl rfl)
theorem dX9_cut_45 : decode cX9_cut 45 = .ok (.goto 16, 3) := dk_167 0 16 (dk_at dksX9_cut_2 0 rfl rfl)
theorem dX9_cut_48 : decode cX9_cut 48 = .ok (.aload_n 0, 1) := dk_42 (dk_at dksX9_cut_2 3 rfl rfl)
theorem dX9_cut_49 : decode cX9_cut 49 = .ok (.getfield 30, 3) := dk_180 0 30 (dk_at dksX9_cut_2 4 rfl rfl)
theorem dX9_cut_52 : decode cX9_cut 52 = .ok (.getfield 250, 3) := dk_180 0 250 (dk_at dksX9_cut_2 7 rfl rfl)
theorem dX9_cut_55 : decode cX9_cut 55 = .ok (.iconst 5, 1) := dk_8 (dk_at dksX9_cut_2 10 rfl rfl)
theorem dX9_cut_56 : decode cX9_cut 56 = .ok (.iload_n 1, 1) := dk_27 (dk_at dksX9_cut_2 11 rfl rfl)
theorem dX9_cut_57 : decode cX9_cut 57 = .ok (.imul, 1) := dk_104 (dk_at dksX9_cut_2 12 rfl rfl)
theorem dX9_cut_58 : decode cX9_cut 58 = .ok (.iload_n 2, 1) := dk_28 (dk_at dksX9_cut_2 13 rfl rfl)
theorem dX9_cut_59 : decode cX9_cut 59 = .ok (.iadd, 1) := dk_96 (dk_at dksX9_cut_2 14 rfl rfl)
theorem dX9_cut_60 : decode cX9_cut 60 = .ok (.laload, 1) := dk_47 (dk_at dksX9_cut_2 15 rfl rfl)
theorem dX9_cut_61 : decode cX9_cut 61 = .ok (.lreturn, 1) := dk_173 (dk_at dksX9_cut_2 16 rfl rfl)
abbrev cX9_isCut : ByteArray := prog_19_method_54_code
def yX9_isCut : MethodName := ⟨RX9, "isCut", "(I)Z"⟩
def dkwX9_isCut_1 : List UInt8 := [184, 0, 93, 153, 0, 7, 4, 167, 0, 4, 3, 172]
abbrev dktX9_isCut_1 : List UInt8 := dkwX9_isCut_1 ++ []
def dkwX9_isCut_0 : List UInt8 := [42, 180, 0, 30, 180, 0, 85, 153, 0, 26, 27, 133, 9, 42, 180, 0, 30, 180, 0, 187, 4, 100, 133]
abbrev dktX9_isCut_0 : List UInt8 := dkwX9_isCut_0 ++ dktX9_isCut_1
theorem dksX9_isCut_0 : cX9_isCut.data.toList.drop 0 = dktX9_isCut_0 := by decide +kernel
theorem dksX9_isCut_1 : cX9_isCut.data.toList.drop 23 = dktX9_isCut_1 := dk_seg dksX9_isCut_0 23 rfl rfl
theorem dX9_isCut_0 : decode cX9_isCut 0 = .ok (.aload_n 0, 1) := dk_42 (dk_at dksX9_isCut_0 0 rfl rfl)
theorem dX9_isCut_1 : decode cX9_isCut 1 = .ok (.getfield 30, 3) := dk_180 0 30 (dk_at dksX9_isCut_0 1 rfl rfl)
theorem dX9_isCut_4 : decode cX9_isCut 4 = .ok (.getfield 85, 3) := dk_180 0 85 (dk_at dksX9_isCut_0 4 rfl rfl)
theorem dX9_isCut_7 : decode cX9_isCut 7 = .ok (.ifCond .eq 26, 3) := dk_153 0 26 (dk_at dksX9_isCut_0 7 rfl rfl)
theorem dX9_isCut_10 : decode cX9_isCut 10 = .ok (.iload_n 1, 1) := dk_27 (dk_at dksX9_isCut_0 10 rfl rfl)
theorem dX9_isCut_11 : decode cX9_isCut 11 = .ok (.i2l, 1) := dk_133 (dk_at dksX9_isCut_0 11 rfl rfl)
theorem dX9_isCut_12 : decode cX9_isCut 12 = .ok (.lconst 0, 1) := dk_9 (dk_at dksX9_isCut_0 12 rfl rfl)
theorem dX9_isCut_13 : decode cX9_isCut 13 = .ok (.aload_n 0, 1) := dk_42 (dk_at dksX9_isCut_0 13 rfl rfl)
theorem dX9_isCut_14 : decode cX9_isCut 14 = .ok (.getfield 30, 3) := dk_180 0 30 (dk_at dksX9_isCut_0 14 rfl rfl)
theorem dX9_isCut_17 : decode cX9_isCut 17 = .ok (.getfield 187, 3) := dk_180 0 187 (dk_at dksX9_isCut_0 17 rfl rfl)
theorem dX9_isCut_20 : decode cX9_isCut 20 = .ok (.iconst 1, 1) := dk_4 (dk_at dksX9_isCut_0 20 rfl rfl)
theorem dX9_isCut_21 : decode cX9_isCut 21 = .ok (.isub, 1) := dk_100 (dk_at dksX9_isCut_0 21 rfl rfl)
theorem dX9_isCut_22 : decode cX9_isCut 22 = .ok (.i2l, 1) := dk_133 (dk_at dksX9_isCut_0 22 rfl rfl)
theorem dX9_isCut_23 : decode cX9_isCut 23 = .ok (.invokestatic 93, 3) := dk_184 0 93 (dk_at dksX9_isCut_1 0 rfl rfl)
theorem dX9_isCut_26 : decode cX9_isCut 26 = .ok (.ifCond .eq 7, 3) := dk_153 0 7 (dk_at dksX9_isCut_1 3 rfl rfl)
theorem dX9_isCut_29 : decode cX9_isCut 29 = .ok (.iconst 1, 1) := dk_4 (dk_at dksX9_isCut_1 6 rfl rfl)
theorem dX9_isCut_30 : decode cX9_isCut 30 = .ok (.goto 4, 3) := dk_167 0 4 (dk_at dksX9_isCut_1 7 rfl rfl)
theorem dX9_isCut_33 : decode cX9_isCut 33 = .ok (.iconst 0, 1) := dk_3 (dk_at dksX9_isCut_1 10 rfl rfl)
theorem dX9_isCut_34 : decode cX9_isCut 34 = .ok (.ireturn, 1) := dk_172 (dk_at dksX9_isCut_1 11 rfl rfl)
abbrev cX9_weight : ByteArray := prog_19_method_56_code
def yX9_weight : MethodName := ⟨RX9, "weight", "(III)J"⟩
def dkwX9_weight_3 : List UInt8 := [47, 29, 184, 1, 61, 173]
abbrev dktX9_weight_3 : List UInt8 := dkwX9_weight_3 ++ []
def dkwX9_weight_2 : List UInt8 := [180, 0, 30, 180, 1, 18, 16, 20, 27, 104, 28, 184, 1, 27, 96, 47, 42, 180, 0, 30, 180, 1, 21, 27]
abbrev dktX9_weight_2 : List UInt8 := dkwX9_weight_2 ++ dktX9_weight_3
def dkwX9_weight_1 : List UInt8 := [154, 0, 23, 28, 133, 20, 1, 68, 16, 19, 27, 96, 133, 184, 0, 93, 154, 0, 7, 20, 1, 50, 173, 42]
abbrev dktX9_weight_1 : List UInt8 := dkwX9_weight_1 ++ dktX9_weight_2
def dkwX9_weight_0 : List UInt8 := [42, 27, 182, 1, 65, 153, 0, 37, 29, 184, 1, 55, 153, 0, 30, 42, 28, 16, 10, 100, 182, 0, 124]
abbrev dktX9_weight_0 : List UInt8 := dkwX9_weight_0 ++ dktX9_weight_1
theorem dksX9_weight_0 : cX9_weight.data.toList.drop 0 = dktX9_weight_0 := by decide +kernel
theorem dksX9_weight_1 : cX9_weight.data.toList.drop 23 = dktX9_weight_1 := dk_seg dksX9_weight_0 23 rfl rfl
theorem dksX9_weight_2 : cX9_weight.data.toList.drop 47 = dktX9_weight_2 := dk_seg dksX9_weight_1 24 rfl rfl
theorem dksX9_weight_3 : cX9_weight.data.toList.drop 71 = dktX9_weight_3 := dk_seg dksX9_weight_2 24 rfl rfl
theorem dX9_weight_0 : decode cX9_weight 0 = .ok (.aload_n 0, 1) := dk_42 (dk_at dksX9_weight_0 0 rfl rfl)
theorem dX9_weight_1 : decode cX9_weight 1 = .ok (.iload_n 1, 1) := dk_27 (dk_at dksX9_weight_0 1 rfl rfl)
theorem dX9_weight_2 : decode cX9_weight 2 = .ok (.invokevirtual 321, 3) := dk_182 1 65 (dk_at dksX9_weight_0 2 rfl rfl)
theorem dX9_weight_5 : decode cX9_weight 5 = .ok (.ifCond .eq 37, 3) := dk_153 0 37 (dk_at dksX9_weight_0 5 rfl rfl)
theorem dX9_weight_8 : decode cX9_weight 8 = .ok (.iload_n 3, 1) := dk_29 (dk_at dksX9_weight_0 8 rfl rfl)
theorem dX9_weight_9 : decode cX9_weight 9 = .ok (.invokestatic 311, 3) := dk_184 1 55 (dk_at dksX9_weight_0 9 rfl rfl)
theorem dX9_weight_12 : decode cX9_weight 12 = .ok (.ifCond .eq 30, 3) := dk_153 0 30 (dk_at dksX9_weight_0 12 rfl rfl)
theorem dX9_weight_15 : decode cX9_weight 15 = .ok (.aload_n 0, 1) := dk_42 (dk_at dksX9_weight_0 15 rfl rfl)
theorem dX9_weight_16 : decode cX9_weight 16 = .ok (.iload_n 2, 1) := dk_28 (dk_at dksX9_weight_0 16 rfl rfl)
theorem dX9_weight_17 : decode cX9_weight 17 = .ok (.bipush 10, 2) := dk_16 10 (dk_at dksX9_weight_0 17 rfl rfl)
theorem dX9_weight_19 : decode cX9_weight 19 = .ok (.isub, 1) := dk_100 (dk_at dksX9_weight_0 19 rfl rfl)
theorem dX9_weight_20 : decode cX9_weight 20 = .ok (.invokevirtual 124, 3) := dk_182 0 124 (dk_at dksX9_weight_0 20 rfl rfl)
theorem dX9_weight_23 : decode cX9_weight 23 = .ok (.ifCond .ne 23, 3) := dk_154 0 23 (dk_at dksX9_weight_1 0 rfl rfl)
theorem dX9_weight_26 : decode cX9_weight 26 = .ok (.iload_n 2, 1) := dk_28 (dk_at dksX9_weight_1 3 rfl rfl)
theorem dX9_weight_27 : decode cX9_weight 27 = .ok (.i2l, 1) := dk_133 (dk_at dksX9_weight_1 4 rfl rfl)
theorem dX9_weight_28 : decode cX9_weight 28 = .ok (.ldc2_w 324, 3) := dk_20 1 68 (dk_at dksX9_weight_1 5 rfl rfl)
theorem dX9_weight_31 : decode cX9_weight 31 = .ok (.bipush 19, 2) := dk_16 19 (dk_at dksX9_weight_1 8 rfl rfl)
theorem dX9_weight_33 : decode cX9_weight 33 = .ok (.iload_n 1, 1) := dk_27 (dk_at dksX9_weight_1 10 rfl rfl)
theorem dX9_weight_34 : decode cX9_weight 34 = .ok (.iadd, 1) := dk_96 (dk_at dksX9_weight_1 11 rfl rfl)
theorem dX9_weight_35 : decode cX9_weight 35 = .ok (.i2l, 1) := dk_133 (dk_at dksX9_weight_1 12 rfl rfl)
theorem dX9_weight_36 : decode cX9_weight 36 = .ok (.invokestatic 93, 3) := dk_184 0 93 (dk_at dksX9_weight_1 13 rfl rfl)
theorem dX9_weight_39 : decode cX9_weight 39 = .ok (.ifCond .ne 7, 3) := dk_154 0 7 (dk_at dksX9_weight_1 16 rfl rfl)
theorem dX9_weight_42 : decode cX9_weight 42 = .ok (.ldc2_w 306, 3) := dk_20 1 50 (dk_at dksX9_weight_1 19 rfl rfl)
theorem dX9_weight_45 : decode cX9_weight 45 = .ok (.lreturn, 1) := dk_173 (dk_at dksX9_weight_1 22 rfl rfl)
theorem dX9_weight_46 : decode cX9_weight 46 = .ok (.aload_n 0, 1) := dk_42 (dk_at dksX9_weight_1 23 rfl rfl)
theorem dX9_weight_47 : decode cX9_weight 47 = .ok (.getfield 30, 3) := dk_180 0 30 (dk_at dksX9_weight_2 0 rfl rfl)
theorem dX9_weight_50 : decode cX9_weight 50 = .ok (.getfield 274, 3) := dk_180 1 18 (dk_at dksX9_weight_2 3 rfl rfl)
theorem dX9_weight_53 : decode cX9_weight 53 = .ok (.bipush 20, 2) := dk_16 20 (dk_at dksX9_weight_2 6 rfl rfl)
theorem dX9_weight_55 : decode cX9_weight 55 = .ok (.iload_n 1, 1) := dk_27 (dk_at dksX9_weight_2 8 rfl rfl)
theorem dX9_weight_56 : decode cX9_weight 56 = .ok (.imul, 1) := dk_104 (dk_at dksX9_weight_2 9 rfl rfl)
theorem dX9_weight_57 : decode cX9_weight 57 = .ok (.iload_n 2, 1) := dk_28 (dk_at dksX9_weight_2 10 rfl rfl)
theorem dX9_weight_58 : decode cX9_weight 58 = .ok (.invokestatic 283, 3) := dk_184 1 27 (dk_at dksX9_weight_2 11 rfl rfl)
theorem dX9_weight_61 : decode cX9_weight 61 = .ok (.iadd, 1) := dk_96 (dk_at dksX9_weight_2 14 rfl rfl)
theorem dX9_weight_62 : decode cX9_weight 62 = .ok (.laload, 1) := dk_47 (dk_at dksX9_weight_2 15 rfl rfl)
theorem dX9_weight_63 : decode cX9_weight 63 = .ok (.aload_n 0, 1) := dk_42 (dk_at dksX9_weight_2 16 rfl rfl)
theorem dX9_weight_64 : decode cX9_weight 64 = .ok (.getfield 30, 3) := dk_180 0 30 (dk_at dksX9_weight_2 17 rfl rfl)
theorem dX9_weight_67 : decode cX9_weight 67 = .ok (.getfield 277, 3) := dk_180 1 21 (dk_at dksX9_weight_2 20 rfl rfl)
theorem dX9_weight_70 : decode cX9_weight 70 = .ok (.iload_n 1, 1) := dk_27 (dk_at dksX9_weight_2 23 rfl rfl)
theorem dX9_weight_71 : decode cX9_weight 71 = .ok (.laload, 1) := dk_47 (dk_at dksX9_weight_3 0 rfl rfl)
theorem dX9_weight_72 : decode cX9_weight 72 = .ok (.iload_n 3, 1) := dk_29 (dk_at dksX9_weight_3 1 rfl rfl)
theorem dX9_weight_73 : decode cX9_weight 73 = .ok (.invokestatic 317, 3) := dk_184 1 61 (dk_at dksX9_weight_3 2 rfl rfl)
theorem dX9_weight_76 : decode cX9_weight 76 = .ok (.lreturn, 1) := dk_173 (dk_at dksX9_weight_3 5 rfl rfl)
abbrev cX9_proved : ByteArray := prog_19_method_58_code
def yX9_proved : MethodName := ⟨RX9, "proved", "(I)I"⟩
def dkwX9_proved_2 : List UInt8 := [132, 3, 1, 167, 255, 221, 28, 153, 0, 7, 4, 167, 0, 4, 3, 172]
abbrev dktX9_proved_2 : List UInt8 := dkwX9_proved_2 ++ []
def dkwX9_proved_1 : List UInt8 := [27, 29, 182, 1, 73, 42, 27, 29, 182, 1, 70, 148, 154, 0, 7, 4, 167, 0, 4, 3, 126, 61]
abbrev dktX9_proved_1 : List UInt8 := dkwX9_proved_1 ++ dktX9_proved_2
def dkwX9_proved_0 : List UInt8 := [42, 27, 182, 1, 65, 154, 0, 5, 2, 172, 4, 61, 3, 62, 29, 42, 182, 0, 89, 163, 0, 33, 28, 42]
abbrev dktX9_proved_0 : List UInt8 := dkwX9_proved_0 ++ dktX9_proved_1
theorem dksX9_proved_0 : cX9_proved.data.toList.drop 0 = dktX9_proved_0 := by decide +kernel
theorem dksX9_proved_1 : cX9_proved.data.toList.drop 24 = dktX9_proved_1 := dk_seg dksX9_proved_0 24 rfl rfl
theorem dksX9_proved_2 : cX9_proved.data.toList.drop 46 = dktX9_proved_2 := dk_seg dksX9_proved_1 22 rfl rfl
theorem dX9_proved_0 : decode cX9_proved 0 = .ok (.aload_n 0, 1) := dk_42 (dk_at dksX9_proved_0 0 rfl rfl)
theorem dX9_proved_1 : decode cX9_proved 1 = .ok (.iload_n 1, 1) := dk_27 (dk_at dksX9_proved_0 1 rfl rfl)
theorem dX9_proved_2 : decode cX9_proved 2 = .ok (.invokevirtual 321, 3) := dk_182 1 65 (dk_at dksX9_proved_0 2 rfl rfl)
theorem dX9_proved_5 : decode cX9_proved 5 = .ok (.ifCond .ne 5, 3) := dk_154 0 5 (dk_at dksX9_proved_0 5 rfl rfl)
theorem dX9_proved_8 : decode cX9_proved 8 = .ok (.iconst (-1), 1) := dk_2 (dk_at dksX9_proved_0 8 rfl rfl)
theorem dX9_proved_9 : decode cX9_proved 9 = .ok (.ireturn, 1) := dk_172 (dk_at dksX9_proved_0 9 rfl rfl)
theorem dX9_proved_10 : decode cX9_proved 10 = .ok (.iconst 1, 1) := dk_4 (dk_at dksX9_proved_0 10 rfl rfl)
theorem dX9_proved_11 : decode cX9_proved 11 = .ok (.istore_n 2, 1) := dk_61 (dk_at dksX9_proved_0 11 rfl rfl)
theorem dX9_proved_12 : decode cX9_proved 12 = .ok (.iconst 0, 1) := dk_3 (dk_at dksX9_proved_0 12 rfl rfl)
theorem dX9_proved_13 : decode cX9_proved 13 = .ok (.istore_n 3, 1) := dk_62 (dk_at dksX9_proved_0 13 rfl rfl)
theorem dX9_proved_14 : decode cX9_proved 14 = .ok (.iload_n 3, 1) := dk_29 (dk_at dksX9_proved_0 14 rfl rfl)
theorem dX9_proved_15 : decode cX9_proved 15 = .ok (.aload_n 0, 1) := dk_42 (dk_at dksX9_proved_0 15 rfl rfl)
theorem dX9_proved_16 : decode cX9_proved 16 = .ok (.invokevirtual 89, 3) := dk_182 0 89 (dk_at dksX9_proved_0 16 rfl rfl)
theorem dX9_proved_19 : decode cX9_proved 19 = .ok (.if_icmp .gt 33, 3) := dk_163 0 33 (dk_at dksX9_proved_0 19 rfl rfl)
theorem dX9_proved_22 : decode cX9_proved 22 = .ok (.iload_n 2, 1) := dk_28 (dk_at dksX9_proved_0 22 rfl rfl)
theorem dX9_proved_23 : decode cX9_proved 23 = .ok (.aload_n 0, 1) := dk_42 (dk_at dksX9_proved_0 23 rfl rfl)
theorem dX9_proved_24 : decode cX9_proved 24 = .ok (.iload_n 1, 1) := dk_27 (dk_at dksX9_proved_1 0 rfl rfl)
theorem dX9_proved_25 : decode cX9_proved 25 = .ok (.iload_n 3, 1) := dk_29 (dk_at dksX9_proved_1 1 rfl rfl)
theorem dX9_proved_26 : decode cX9_proved 26 = .ok (.invokevirtual 329, 3) := dk_182 1 73 (dk_at dksX9_proved_1 2 rfl rfl)
theorem dX9_proved_29 : decode cX9_proved 29 = .ok (.aload_n 0, 1) := dk_42 (dk_at dksX9_proved_1 5 rfl rfl)
theorem dX9_proved_30 : decode cX9_proved 30 = .ok (.iload_n 1, 1) := dk_27 (dk_at dksX9_proved_1 6 rfl rfl)
theorem dX9_proved_31 : decode cX9_proved 31 = .ok (.iload_n 3, 1) := dk_29 (dk_at dksX9_proved_1 7 rfl rfl)
theorem dX9_proved_32 : decode cX9_proved 32 = .ok (.invokevirtual 326, 3) := dk_182 1 70 (dk_at dksX9_proved_1 8 rfl rfl)
theorem dX9_proved_35 : decode cX9_proved 35 = .ok (.lcmp, 1) := dk_148 (dk_at dksX9_proved_1 11 rfl rfl)
theorem dX9_proved_36 : decode cX9_proved 36 = .ok (.ifCond .ne 7, 3) := dk_154 0 7 (dk_at dksX9_proved_1 12 rfl rfl)
theorem dX9_proved_39 : decode cX9_proved 39 = .ok (.iconst 1, 1) := dk_4 (dk_at dksX9_proved_1 15 rfl rfl)
theorem dX9_proved_40 : decode cX9_proved 40 = .ok (.goto 4, 3) := dk_167 0 4 (dk_at dksX9_proved_1 16 rfl rfl)
theorem dX9_proved_43 : decode cX9_proved 43 = .ok (.iconst 0, 1) := dk_3 (dk_at dksX9_proved_1 19 rfl rfl)
theorem dX9_proved_44 : decode cX9_proved 44 = .ok (.iand, 1) := dk_126 (dk_at dksX9_proved_1 20 rfl rfl)
theorem dX9_proved_45 : decode cX9_proved 45 = .ok (.istore_n 2, 1) := dk_61 (dk_at dksX9_proved_1 21 rfl rfl)
theorem dX9_proved_46 : decode cX9_proved 46 = .ok (.iinc 3 1, 3) := dk_132 3 1 (dk_at dksX9_proved_2 0 rfl rfl)
theorem dX9_proved_49 : decode cX9_proved 49 = .ok (.goto (-35), 3) := dk_167 255 221 (dk_at dksX9_proved_2 3 rfl rfl)
theorem dX9_proved_52 : decode cX9_proved 52 = .ok (.iload_n 2, 1) := dk_28 (dk_at dksX9_proved_2 6 rfl rfl)
theorem dX9_proved_53 : decode cX9_proved 53 = .ok (.ifCond .eq 7, 3) := dk_153 0 7 (dk_at dksX9_proved_2 7 rfl rfl)
theorem dX9_proved_56 : decode cX9_proved 56 = .ok (.iconst 1, 1) := dk_4 (dk_at dksX9_proved_2 10 rfl rfl)
theorem dX9_proved_57 : decode cX9_proved 57 = .ok (.goto 4, 3) := dk_167 0 4 (dk_at dksX9_proved_2 11 rfl rfl)
theorem dX9_proved_60 : decode cX9_proved 60 = .ok (.iconst 0, 1) := dk_3 (dk_at dksX9_proved_2 14 rfl rfl)
theorem dX9_proved_61 : decode cX9_proved 61 = .ok (.ireturn, 1) := dk_172 (dk_at dksX9_proved_2 15 rfl rfl)
abbrev cX9_weighed : ByteArray := prog_19_method_57_code
def yX9_weighed : MethodName := ⟨RX9, "weighed", "(II)J"⟩
def dkwX9_weighed_5 : List UInt8 := [47, 184, 1, 0, 173]
abbrev dktX9_weighed_5 : List UInt8 := dkwX9_weighed_5 ++ []
def dkwX9_weighed_4 : List UInt8 := [21, 5, 28, 182, 1, 70, 105, 97, 66, 132, 5, 1, 167, 255, 218, 33, 42, 180, 0, 30, 180, 1, 21, 27]
abbrev dktX9_weighed_4 : List UInt8 := dkwX9_weighed_4 ++ dktX9_weighed_5
def dkwX9_weighed_3 : List UInt8 := [27, 162, 0, 38, 33, 42, 180, 0, 30, 180, 1, 18, 16, 20, 27, 104, 16, 8, 96, 21, 5, 96, 47, 42]
abbrev dktX9_weighed_3 : List UInt8 := dkwX9_weighed_3 ++ dktX9_weighed_4
def dkwX9_weighed_2 : List UInt8 := [167, 0, 10, 42, 21, 5, 28, 182, 0, 217, 105, 97, 66, 132, 5, 1, 167, 255, 199, 3, 54, 5, 21, 5]
abbrev dktX9_weighed_2 : List UInt8 := dkwX9_weighed_2 ++ dktX9_weighed_3
def dkwX9_weighed_1 : List UInt8 := [16, 20, 27, 104, 21, 5, 96, 47, 28, 42, 182, 0, 89, 160, 0, 12, 42, 21, 5, 182, 0, 209]
abbrev dktX9_weighed_1 : List UInt8 := dkwX9_weighed_1 ++ dktX9_weighed_2
def dkwX9_weighed_0 : List UInt8 := [9, 66, 3, 54, 5, 21, 5, 42, 180, 0, 11, 4, 46, 162, 0, 52, 33, 42, 180, 0, 30, 180, 1, 18]
abbrev dktX9_weighed_0 : List UInt8 := dkwX9_weighed_0 ++ dktX9_weighed_1
theorem dksX9_weighed_0 : cX9_weighed.data.toList.drop 0 = dktX9_weighed_0 := by decide +kernel
theorem dksX9_weighed_1 : cX9_weighed.data.toList.drop 24 = dktX9_weighed_1 := dk_seg dksX9_weighed_0 24 rfl rfl
theorem dksX9_weighed_2 : cX9_weighed.data.toList.drop 46 = dktX9_weighed_2 := dk_seg dksX9_weighed_1 22 rfl rfl
theorem dksX9_weighed_3 : cX9_weighed.data.toList.drop 70 = dktX9_weighed_3 := dk_seg dksX9_weighed_2 24 rfl rfl
theorem dksX9_weighed_4 : cX9_weighed.data.toList.drop 94 = dktX9_weighed_4 := dk_seg dksX9_weighed_3 24 rfl rfl
theorem dksX9_weighed_5 : cX9_weighed.data.toList.drop 118 = dktX9_weighed_5 := dk_seg dksX9_weighed_4 24 rfl rfl
theorem dX9_weighed_0 : decode cX9_weighed 0 = .ok (.lconst 0, 1) := dk_9 (dk_at dksX9_weighed_0 0 rfl rfl)
theorem dX9_weighed_1 : decode cX9_weighed 1 = .ok (.lstore_n 3, 1) := dk_66 (dk_at dksX9_weighed_0 1 rfl rfl)
theorem dX9_weighed_2 : decode cX9_weighed 2 = .ok (.iconst 0, 1) := dk_3 (dk_at dksX9_weighed_0 2 rfl rfl)
theorem dX9_weighed_3 : decode cX9_weighed 3 = .ok (.istore 5, 2) := dk_54 5 (dk_at dksX9_weighed_0 3 rfl rfl)
theorem dX9_weighed_5 : decode cX9_weighed 5 = .ok (.iload 5, 2) := dk_21 5 (dk_at dksX9_weighed_0 5 rfl rfl)
theorem dX9_weighed_7 : decode cX9_weighed 7 = .ok (.aload_n 0, 1) := dk_42 (dk_at dksX9_weighed_0 7 rfl rfl)
theorem dX9_weighed_8 : decode cX9_weighed 8 = .ok (.getfield 11, 3) := dk_180 0 11 (dk_at dksX9_weighed_0 8 rfl rfl)
theorem dX9_weighed_11 : decode cX9_weighed 11 = .ok (.iconst 1, 1) := dk_4 (dk_at dksX9_weighed_0 11 rfl rfl)
theorem dX9_weighed_12 : decode cX9_weighed 12 = .ok (.iaload, 1) := dk_46 (dk_at dksX9_weighed_0 12 rfl rfl)
theorem dX9_weighed_13 : decode cX9_weighed 13 = .ok (.if_icmp .ge 52, 3) := dk_162 0 52 (dk_at dksX9_weighed_0 13 rfl rfl)
theorem dX9_weighed_16 : decode cX9_weighed 16 = .ok (.lload_n 3, 1) := dk_33 (dk_at dksX9_weighed_0 16 rfl rfl)
theorem dX9_weighed_17 : decode cX9_weighed 17 = .ok (.aload_n 0, 1) := dk_42 (dk_at dksX9_weighed_0 17 rfl rfl)
theorem dX9_weighed_18 : decode cX9_weighed 18 = .ok (.getfield 30, 3) := dk_180 0 30 (dk_at dksX9_weighed_0 18 rfl rfl)
theorem dX9_weighed_21 : decode cX9_weighed 21 = .ok (.getfield 274, 3) := dk_180 1 18 (dk_at dksX9_weighed_0 21 rfl rfl)
theorem dX9_weighed_24 : decode cX9_weighed 24 = .ok (.bipush 20, 2) := dk_16 20 (dk_at dksX9_weighed_1 0 rfl rfl)
theorem dX9_weighed_26 : decode cX9_weighed 26 = .ok (.iload_n 1, 1) := dk_27 (dk_at dksX9_weighed_1 2 rfl rfl)
theorem dX9_weighed_27 : decode cX9_weighed 27 = .ok (.imul, 1) := dk_104 (dk_at dksX9_weighed_1 3 rfl rfl)
theorem dX9_weighed_28 : decode cX9_weighed 28 = .ok (.iload 5, 2) := dk_21 5 (dk_at dksX9_weighed_1 4 rfl rfl)
theorem dX9_weighed_30 : decode cX9_weighed 30 = .ok (.iadd, 1) := dk_96 (dk_at dksX9_weighed_1 6 rfl rfl)
theorem dX9_weighed_31 : decode cX9_weighed 31 = .ok (.laload, 1) := dk_47 (dk_at dksX9_weighed_1 7 rfl rfl)
theorem dX9_weighed_32 : decode cX9_weighed 32 = .ok (.iload_n 2, 1) := dk_28 (dk_at dksX9_weighed_1 8 rfl rfl)
theorem dX9_weighed_33 : decode cX9_weighed 33 = .ok (.aload_n 0, 1) := dk_42 (dk_at dksX9_weighed_1 9 rfl rfl)
theorem dX9_weighed_34 : decode cX9_weighed 34 = .ok (.invokevirtual 89, 3) := dk_182 0 89 (dk_at dksX9_weighed_1 10 rfl rfl)
theorem dX9_weighed_37 : decode cX9_weighed 37 = .ok (.if_icmp .ne 12, 3) := dk_160 0 12 (dk_at dksX9_weighed_1 13 rfl rfl)
theorem dX9_weighed_40 : decode cX9_weighed 40 = .ok (.aload_n 0, 1) := dk_42 (dk_at dksX9_weighed_1 16 rfl rfl)
theorem dX9_weighed_41 : decode cX9_weighed 41 = .ok (.iload 5, 2) := dk_21 5 (dk_at dksX9_weighed_1 17 rfl rfl)
theorem dX9_weighed_43 : decode cX9_weighed 43 = .ok (.invokevirtual 209, 3) := dk_182 0 209 (dk_at dksX9_weighed_1 19 rfl rfl)
theorem dX9_weighed_46 : decode cX9_weighed 46 = .ok (.goto 10, 3) := dk_167 0 10 (dk_at dksX9_weighed_2 0 rfl rfl)
theorem dX9_weighed_49 : decode cX9_weighed 49 = .ok (.aload_n 0, 1) := dk_42 (dk_at dksX9_weighed_2 3 rfl rfl)
theorem dX9_weighed_50 : decode cX9_weighed 50 = .ok (.iload 5, 2) := dk_21 5 (dk_at dksX9_weighed_2 4 rfl rfl)
theorem dX9_weighed_52 : decode cX9_weighed 52 = .ok (.iload_n 2, 1) := dk_28 (dk_at dksX9_weighed_2 6 rfl rfl)
theorem dX9_weighed_53 : decode cX9_weighed 53 = .ok (.invokevirtual 217, 3) := dk_182 0 217 (dk_at dksX9_weighed_2 7 rfl rfl)
theorem dX9_weighed_56 : decode cX9_weighed 56 = .ok (.lmul, 1) := dk_105 (dk_at dksX9_weighed_2 10 rfl rfl)
theorem dX9_weighed_57 : decode cX9_weighed 57 = .ok (.ladd, 1) := dk_97 (dk_at dksX9_weighed_2 11 rfl rfl)
theorem dX9_weighed_58 : decode cX9_weighed 58 = .ok (.lstore_n 3, 1) := dk_66 (dk_at dksX9_weighed_2 12 rfl rfl)
theorem dX9_weighed_59 : decode cX9_weighed 59 = .ok (.iinc 5 1, 3) := dk_132 5 1 (dk_at dksX9_weighed_2 13 rfl rfl)
theorem dX9_weighed_62 : decode cX9_weighed 62 = .ok (.goto (-57), 3) := dk_167 255 199 (dk_at dksX9_weighed_2 16 rfl rfl)
theorem dX9_weighed_65 : decode cX9_weighed 65 = .ok (.iconst 0, 1) := dk_3 (dk_at dksX9_weighed_2 19 rfl rfl)
theorem dX9_weighed_66 : decode cX9_weighed 66 = .ok (.istore 5, 2) := dk_54 5 (dk_at dksX9_weighed_2 20 rfl rfl)
theorem dX9_weighed_68 : decode cX9_weighed 68 = .ok (.iload 5, 2) := dk_21 5 (dk_at dksX9_weighed_2 22 rfl rfl)
theorem dX9_weighed_70 : decode cX9_weighed 70 = .ok (.iload_n 1, 1) := dk_27 (dk_at dksX9_weighed_3 0 rfl rfl)
theorem dX9_weighed_71 : decode cX9_weighed 71 = .ok (.if_icmp .ge 38, 3) := dk_162 0 38 (dk_at dksX9_weighed_3 1 rfl rfl)
theorem dX9_weighed_74 : decode cX9_weighed 74 = .ok (.lload_n 3, 1) := dk_33 (dk_at dksX9_weighed_3 4 rfl rfl)
theorem dX9_weighed_75 : decode cX9_weighed 75 = .ok (.aload_n 0, 1) := dk_42 (dk_at dksX9_weighed_3 5 rfl rfl)
theorem dX9_weighed_76 : decode cX9_weighed 76 = .ok (.getfield 30, 3) := dk_180 0 30 (dk_at dksX9_weighed_3 6 rfl rfl)
theorem dX9_weighed_79 : decode cX9_weighed 79 = .ok (.getfield 274, 3) := dk_180 1 18 (dk_at dksX9_weighed_3 9 rfl rfl)
theorem dX9_weighed_82 : decode cX9_weighed 82 = .ok (.bipush 20, 2) := dk_16 20 (dk_at dksX9_weighed_3 12 rfl rfl)
theorem dX9_weighed_84 : decode cX9_weighed 84 = .ok (.iload_n 1, 1) := dk_27 (dk_at dksX9_weighed_3 14 rfl rfl)
theorem dX9_weighed_85 : decode cX9_weighed 85 = .ok (.imul, 1) := dk_104 (dk_at dksX9_weighed_3 15 rfl rfl)
theorem dX9_weighed_86 : decode cX9_weighed 86 = .ok (.bipush 8, 2) := dk_16 8 (dk_at dksX9_weighed_3 16 rfl rfl)
theorem dX9_weighed_88 : decode cX9_weighed 88 = .ok (.iadd, 1) := dk_96 (dk_at dksX9_weighed_3 18 rfl rfl)
theorem dX9_weighed_89 : decode cX9_weighed 89 = .ok (.iload 5, 2) := dk_21 5 (dk_at dksX9_weighed_3 19 rfl rfl)
theorem dX9_weighed_91 : decode cX9_weighed 91 = .ok (.iadd, 1) := dk_96 (dk_at dksX9_weighed_3 21 rfl rfl)
theorem dX9_weighed_92 : decode cX9_weighed 92 = .ok (.laload, 1) := dk_47 (dk_at dksX9_weighed_3 22 rfl rfl)
theorem dX9_weighed_93 : decode cX9_weighed 93 = .ok (.aload_n 0, 1) := dk_42 (dk_at dksX9_weighed_3 23 rfl rfl)
theorem dX9_weighed_94 : decode cX9_weighed 94 = .ok (.iload 5, 2) := dk_21 5 (dk_at dksX9_weighed_4 0 rfl rfl)
theorem dX9_weighed_96 : decode cX9_weighed 96 = .ok (.iload_n 2, 1) := dk_28 (dk_at dksX9_weighed_4 2 rfl rfl)
theorem dX9_weighed_97 : decode cX9_weighed 97 = .ok (.invokevirtual 326, 3) := dk_182 1 70 (dk_at dksX9_weighed_4 3 rfl rfl)
theorem dX9_weighed_100 : decode cX9_weighed 100 = .ok (.lmul, 1) := dk_105 (dk_at dksX9_weighed_4 6 rfl rfl)
theorem dX9_weighed_101 : decode cX9_weighed 101 = .ok (.ladd, 1) := dk_97 (dk_at dksX9_weighed_4 7 rfl rfl)
theorem dX9_weighed_102 : decode cX9_weighed 102 = .ok (.lstore_n 3, 1) := dk_66 (dk_at dksX9_weighed_4 8 rfl rfl)
theorem dX9_weighed_103 : decode cX9_weighed 103 = .ok (.iinc 5 1, 3) := dk_132 5 1 (dk_at dksX9_weighed_4 9 rfl rfl)
theorem dX9_weighed_106 : decode cX9_weighed 106 = .ok (.goto (-38), 3) := dk_167 255 218 (dk_at dksX9_weighed_4 12 rfl rfl)
theorem dX9_weighed_109 : decode cX9_weighed 109 = .ok (.lload_n 3, 1) := dk_33 (dk_at dksX9_weighed_4 15 rfl rfl)
theorem dX9_weighed_110 : decode cX9_weighed 110 = .ok (.aload_n 0, 1) := dk_42 (dk_at dksX9_weighed_4 16 rfl rfl)
theorem dX9_weighed_111 : decode cX9_weighed 111 = .ok (.getfield 30, 3) := dk_180 0 30 (dk_at dksX9_weighed_4 17 rfl rfl)
theorem dX9_weighed_114 : decode cX9_weighed 114 = .ok (.getfield 277, 3) := dk_180 1 21 (dk_at dksX9_weighed_4 20 rfl rfl)
theorem dX9_weighed_117 : decode cX9_weighed 117 = .ok (.iload_n 1, 1) := dk_27 (dk_at dksX9_weighed_4 23 rfl rfl)
theorem dX9_weighed_118 : decode cX9_weighed 118 = .ok (.laload, 1) := dk_47 (dk_at dksX9_weighed_5 0 rfl rfl)
theorem dX9_weighed_119 : decode cX9_weighed 119 = .ok (.invokestatic 256, 3) := dk_184 1 0 (dk_at dksX9_weighed_5 1 rfl rfl)
theorem dX9_weighed_122 : decode cX9_weighed 122 = .ok (.lreturn, 1) := dk_173 (dk_at dksX9_weighed_5 4 rfl rfl)
abbrev cX9_hand : ByteArray := prog_19_method_59_code
def yX9_hand : MethodName := ⟨RX9, "hand", "(II)I"⟩
def dkwX9_hand_1 : List UInt8 := [172, 42, 180, 0, 11, 16, 68, 27, 96, 46, 62, 42, 180, 0, 11, 16, 68, 27, 96, 28, 79, 29, 172]
abbrev dktX9_hand_1 : List UInt8 := dkwX9_hand_1 ++ []
def dkwX9_hand_0 : List UInt8 := [42, 27, 182, 0, 124, 154, 0, 5, 2, 172, 28, 133, 9, 20, 0, 129, 184, 0, 93, 154, 0, 6, 16, 254]
abbrev dktX9_hand_0 : List UInt8 := dkwX9_hand_0 ++ dktX9_hand_1
theorem dksX9_hand_0 : cX9_hand.data.toList.drop 0 = dktX9_hand_0 := by decide +kernel
theorem dksX9_hand_1 : cX9_hand.data.toList.drop 24 = dktX9_hand_1 := dk_seg dksX9_hand_0 24 rfl rfl
theorem dX9_hand_0 : decode cX9_hand 0 = .ok (.aload_n 0, 1) := dk_42 (dk_at dksX9_hand_0 0 rfl rfl)
theorem dX9_hand_1 : decode cX9_hand 1 = .ok (.iload_n 1, 1) := dk_27 (dk_at dksX9_hand_0 1 rfl rfl)
theorem dX9_hand_2 : decode cX9_hand 2 = .ok (.invokevirtual 124, 3) := dk_182 0 124 (dk_at dksX9_hand_0 2 rfl rfl)
theorem dX9_hand_5 : decode cX9_hand 5 = .ok (.ifCond .ne 5, 3) := dk_154 0 5 (dk_at dksX9_hand_0 5 rfl rfl)
theorem dX9_hand_8 : decode cX9_hand 8 = .ok (.iconst (-1), 1) := dk_2 (dk_at dksX9_hand_0 8 rfl rfl)
theorem dX9_hand_9 : decode cX9_hand 9 = .ok (.ireturn, 1) := dk_172 (dk_at dksX9_hand_0 9 rfl rfl)
theorem dX9_hand_10 : decode cX9_hand 10 = .ok (.iload_n 2, 1) := dk_28 (dk_at dksX9_hand_0 10 rfl rfl)
theorem dX9_hand_11 : decode cX9_hand 11 = .ok (.i2l, 1) := dk_133 (dk_at dksX9_hand_0 11 rfl rfl)
theorem dX9_hand_12 : decode cX9_hand 12 = .ok (.lconst 0, 1) := dk_9 (dk_at dksX9_hand_0 12 rfl rfl)
theorem dX9_hand_13 : decode cX9_hand 13 = .ok (.ldc2_w 129, 3) := dk_20 0 129 (dk_at dksX9_hand_0 13 rfl rfl)
theorem dX9_hand_16 : decode cX9_hand 16 = .ok (.invokestatic 93, 3) := dk_184 0 93 (dk_at dksX9_hand_0 16 rfl rfl)
theorem dX9_hand_19 : decode cX9_hand 19 = .ok (.ifCond .ne 6, 3) := dk_154 0 6 (dk_at dksX9_hand_0 19 rfl rfl)
theorem dX9_hand_22 : decode cX9_hand 22 = .ok (.bipush (-2), 2) := dk_16 254 (dk_at dksX9_hand_0 22 rfl rfl)
theorem dX9_hand_24 : decode cX9_hand 24 = .ok (.ireturn, 1) := dk_172 (dk_at dksX9_hand_1 0 rfl rfl)
theorem dX9_hand_25 : decode cX9_hand 25 = .ok (.aload_n 0, 1) := dk_42 (dk_at dksX9_hand_1 1 rfl rfl)
theorem dX9_hand_26 : decode cX9_hand 26 = .ok (.getfield 11, 3) := dk_180 0 11 (dk_at dksX9_hand_1 2 rfl rfl)
theorem dX9_hand_29 : decode cX9_hand 29 = .ok (.bipush 68, 2) := dk_16 68 (dk_at dksX9_hand_1 5 rfl rfl)
theorem dX9_hand_31 : decode cX9_hand 31 = .ok (.iload_n 1, 1) := dk_27 (dk_at dksX9_hand_1 7 rfl rfl)
theorem dX9_hand_32 : decode cX9_hand 32 = .ok (.iadd, 1) := dk_96 (dk_at dksX9_hand_1 8 rfl rfl)
theorem dX9_hand_33 : decode cX9_hand 33 = .ok (.iaload, 1) := dk_46 (dk_at dksX9_hand_1 9 rfl rfl)
theorem dX9_hand_34 : decode cX9_hand 34 = .ok (.istore_n 3, 1) := dk_62 (dk_at dksX9_hand_1 10 rfl rfl)
theorem dX9_hand_35 : decode cX9_hand 35 = .ok (.aload_n 0, 1) := dk_42 (dk_at dksX9_hand_1 11 rfl rfl)
theorem dX9_hand_36 : decode cX9_hand 36 = .ok (.getfield 11, 3) := dk_180 0 11 (dk_at dksX9_hand_1 12 rfl rfl)
theorem dX9_hand_39 : decode cX9_hand 39 = .ok (.bipush 68, 2) := dk_16 68 (dk_at dksX9_hand_1 15 rfl rfl)
theorem dX9_hand_41 : decode cX9_hand 41 = .ok (.iload_n 1, 1) := dk_27 (dk_at dksX9_hand_1 17 rfl rfl)
theorem dX9_hand_42 : decode cX9_hand 42 = .ok (.iadd, 1) := dk_96 (dk_at dksX9_hand_1 18 rfl rfl)
theorem dX9_hand_43 : decode cX9_hand 43 = .ok (.iload_n 2, 1) := dk_28 (dk_at dksX9_hand_1 19 rfl rfl)
theorem dX9_hand_44 : decode cX9_hand 44 = .ok (.iastore, 1) := dk_79 (dk_at dksX9_hand_1 20 rfl rfl)
theorem dX9_hand_45 : decode cX9_hand 45 = .ok (.iload_n 3, 1) := dk_29 (dk_at dksX9_hand_1 21 rfl rfl)
theorem dX9_hand_46 : decode cX9_hand 46 = .ok (.ireturn, 1) := dk_172 (dk_at dksX9_hand_1 22 rfl rfl)
abbrev cX9_by : ByteArray := prog_19_method_60_code
def yX9_by : MethodName := ⟨RX9, "by", "(I)I"⟩
def dkwX9_by_1 : List UInt8 := [180, 0, 11, 5, 27, 79, 28, 172]
abbrev dktX9_by_1 : List UInt8 := dkwX9_by_1 ++ []
def dkwX9_by_0 : List UInt8 := [27, 133, 10, 20, 1, 76, 184, 0, 93, 154, 0, 6, 16, 254, 172, 42, 180, 0, 11, 5, 46, 61, 42]
abbrev dktX9_by_0 : List UInt8 := dkwX9_by_0 ++ dktX9_by_1
theorem dksX9_by_0 : cX9_by.data.toList.drop 0 = dktX9_by_0 := by decide +kernel
theorem dksX9_by_1 : cX9_by.data.toList.drop 23 = dktX9_by_1 := dk_seg dksX9_by_0 23 rfl rfl
theorem dX9_by_0 : decode cX9_by 0 = .ok (.iload_n 1, 1) := dk_27 (dk_at dksX9_by_0 0 rfl rfl)
theorem dX9_by_1 : decode cX9_by 1 = .ok (.i2l, 1) := dk_133 (dk_at dksX9_by_0 1 rfl rfl)
theorem dX9_by_2 : decode cX9_by 2 = .ok (.lconst 1, 1) := dk_10 (dk_at dksX9_by_0 2 rfl rfl)
theorem dX9_by_3 : decode cX9_by 3 = .ok (.ldc2_w 332, 3) := dk_20 1 76 (dk_at dksX9_by_0 3 rfl rfl)
theorem dX9_by_6 : decode cX9_by 6 = .ok (.invokestatic 93, 3) := dk_184 0 93 (dk_at dksX9_by_0 6 rfl rfl)
theorem dX9_by_9 : decode cX9_by 9 = .ok (.ifCond .ne 6, 3) := dk_154 0 6 (dk_at dksX9_by_0 9 rfl rfl)
theorem dX9_by_12 : decode cX9_by 12 = .ok (.bipush (-2), 2) := dk_16 254 (dk_at dksX9_by_0 12 rfl rfl)
theorem dX9_by_14 : decode cX9_by 14 = .ok (.ireturn, 1) := dk_172 (dk_at dksX9_by_0 14 rfl rfl)
theorem dX9_by_15 : decode cX9_by 15 = .ok (.aload_n 0, 1) := dk_42 (dk_at dksX9_by_0 15 rfl rfl)
theorem dX9_by_16 : decode cX9_by 16 = .ok (.getfield 11, 3) := dk_180 0 11 (dk_at dksX9_by_0 16 rfl rfl)
theorem dX9_by_19 : decode cX9_by 19 = .ok (.iconst 2, 1) := dk_5 (dk_at dksX9_by_0 19 rfl rfl)
theorem dX9_by_20 : decode cX9_by 20 = .ok (.iaload, 1) := dk_46 (dk_at dksX9_by_0 20 rfl rfl)
theorem dX9_by_21 : decode cX9_by 21 = .ok (.istore_n 2, 1) := dk_61 (dk_at dksX9_by_0 21 rfl rfl)
theorem dX9_by_22 : decode cX9_by 22 = .ok (.aload_n 0, 1) := dk_42 (dk_at dksX9_by_0 22 rfl rfl)
theorem dX9_by_23 : decode cX9_by 23 = .ok (.getfield 11, 3) := dk_180 0 11 (dk_at dksX9_by_1 0 rfl rfl)
theorem dX9_by_26 : decode cX9_by 26 = .ok (.iconst 2, 1) := dk_5 (dk_at dksX9_by_1 3 rfl rfl)
theorem dX9_by_27 : decode cX9_by 27 = .ok (.iload_n 1, 1) := dk_27 (dk_at dksX9_by_1 4 rfl rfl)
theorem dX9_by_28 : decode cX9_by 28 = .ok (.iastore, 1) := dk_79 (dk_at dksX9_by_1 5 rfl rfl)
theorem dX9_by_29 : decode cX9_by 29 = .ok (.iload_n 2, 1) := dk_28 (dk_at dksX9_by_1 6 rfl rfl)
theorem dX9_by_30 : decode cX9_by 30 = .ok (.ireturn, 1) := dk_172 (dk_at dksX9_by_1 7 rfl rfl)
abbrev cX9_points : ByteArray := prog_19_method_61_code
def yX9_points : MethodName := ⟨RX9, "points", "(I)J"⟩
def dkwX9_points_3 : List UInt8 := [97, 65, 132, 4, 1, 167, 255, 203, 32, 42, 180, 0, 11, 5, 46, 184, 1, 78, 173]
abbrev dktX9_points_3 : List UInt8 := dkwX9_points_3 ++ []
def dkwX9_points_2 : List UInt8 := [42, 182, 0, 89, 160, 0, 12, 42, 21, 4, 182, 0, 209, 167, 0, 10, 42, 21, 4, 27, 182, 0, 217, 105]
abbrev dktX9_points_2 : List UInt8 := dkwX9_points_2 ++ dktX9_points_3
def dkwX9_points_1 : List UInt8 := [21, 4, 42, 180, 0, 11, 4, 46, 162, 0, 48, 32, 42, 180, 0, 11, 16, 68, 21, 4, 96, 46, 133, 27]
abbrev dktX9_points_1 : List UInt8 := dkwX9_points_1 ++ dktX9_points_2
def dkwX9_points_0 : List UInt8 := [27, 133, 9, 42, 182, 0, 89, 133, 184, 0, 93, 154, 0, 7, 20, 1, 50, 173, 9, 65, 3, 54, 4]
abbrev dktX9_points_0 : List UInt8 := dkwX9_points_0 ++ dktX9_points_1
theorem dksX9_points_0 : cX9_points.data.toList.drop 0 = dktX9_points_0 := by decide +kernel
theorem dksX9_points_1 : cX9_points.data.toList.drop 23 = dktX9_points_1 := dk_seg dksX9_points_0 23 rfl rfl
theorem dksX9_points_2 : cX9_points.data.toList.drop 47 = dktX9_points_2 := dk_seg dksX9_points_1 24 rfl rfl
theorem dksX9_points_3 : cX9_points.data.toList.drop 71 = dktX9_points_3 := dk_seg dksX9_points_2 24 rfl rfl
theorem dX9_points_0 : decode cX9_points 0 = .ok (.iload_n 1, 1) := dk_27 (dk_at dksX9_points_0 0 rfl rfl)
theorem dX9_points_1 : decode cX9_points 1 = .ok (.i2l, 1) := dk_133 (dk_at dksX9_points_0 1 rfl rfl)
theorem dX9_points_2 : decode cX9_points 2 = .ok (.lconst 0, 1) := dk_9 (dk_at dksX9_points_0 2 rfl rfl)
theorem dX9_points_3 : decode cX9_points 3 = .ok (.aload_n 0, 1) := dk_42 (dk_at dksX9_points_0 3 rfl rfl)
theorem dX9_points_4 : decode cX9_points 4 = .ok (.invokevirtual 89, 3) := dk_182 0 89 (dk_at dksX9_points_0 4 rfl rfl)
theorem dX9_points_7 : decode cX9_points 7 = .ok (.i2l, 1) := dk_133 (dk_at dksX9_points_0 7 rfl rfl)
theorem dX9_points_8 : decode cX9_points 8 = .ok (.invokestatic 93, 3) := dk_184 0 93 (dk_at dksX9_points_0 8 rfl rfl)
theorem dX9_points_11 : decode cX9_points 11 = .ok (.ifCond .ne 7, 3) := dk_154 0 7 (dk_at dksX9_points_0 11 rfl rfl)
theorem dX9_points_14 : decode cX9_points 14 = .ok (.ldc2_w 306, 3) := dk_20 1 50 (dk_at dksX9_points_0 14 rfl rfl)
theorem dX9_points_17 : decode cX9_points 17 = .ok (.lreturn, 1) := dk_173 (dk_at dksX9_points_0 17 rfl rfl)
theorem dX9_points_18 : decode cX9_points 18 = .ok (.lconst 0, 1) := dk_9 (dk_at dksX9_points_0 18 rfl rfl)
theorem dX9_points_19 : decode cX9_points 19 = .ok (.lstore_n 2, 1) := dk_65 (dk_at dksX9_points_0 19 rfl rfl)
theorem dX9_points_20 : decode cX9_points 20 = .ok (.iconst 0, 1) := dk_3 (dk_at dksX9_points_0 20 rfl rfl)
theorem dX9_points_21 : decode cX9_points 21 = .ok (.istore 4, 2) := dk_54 4 (dk_at dksX9_points_0 21 rfl rfl)
theorem dX9_points_23 : decode cX9_points 23 = .ok (.iload 4, 2) := dk_21 4 (dk_at dksX9_points_1 0 rfl rfl)
theorem dX9_points_25 : decode cX9_points 25 = .ok (.aload_n 0, 1) := dk_42 (dk_at dksX9_points_1 2 rfl rfl)
theorem dX9_points_26 : decode cX9_points 26 = .ok (.getfield 11, 3) := dk_180 0 11 (dk_at dksX9_points_1 3 rfl rfl)
theorem dX9_points_29 : decode cX9_points 29 = .ok (.iconst 1, 1) := dk_4 (dk_at dksX9_points_1 6 rfl rfl)
theorem dX9_points_30 : decode cX9_points 30 = .ok (.iaload, 1) := dk_46 (dk_at dksX9_points_1 7 rfl rfl)
theorem dX9_points_31 : decode cX9_points 31 = .ok (.if_icmp .ge 48, 3) := dk_162 0 48 (dk_at dksX9_points_1 8 rfl rfl)
theorem dX9_points_34 : decode cX9_points 34 = .ok (.lload_n 2, 1) := dk_32 (dk_at dksX9_points_1 11 rfl rfl)
theorem dX9_points_35 : decode cX9_points 35 = .ok (.aload_n 0, 1) := dk_42 (dk_at dksX9_points_1 12 rfl rfl)
theorem dX9_points_36 : decode cX9_points 36 = .ok (.getfield 11, 3) := dk_180 0 11 (dk_at dksX9_points_1 13 rfl rfl)
theorem dX9_points_39 : decode cX9_points 39 = .ok (.bipush 68, 2) := dk_16 68 (dk_at dksX9_points_1 16 rfl rfl)
theorem dX9_points_41 : decode cX9_points 41 = .ok (.iload 4, 2) := dk_21 4 (dk_at dksX9_points_1 18 rfl rfl)
theorem dX9_points_43 : decode cX9_points 43 = .ok (.iadd, 1) := dk_96 (dk_at dksX9_points_1 20 rfl rfl)
theorem dX9_points_44 : decode cX9_points 44 = .ok (.iaload, 1) := dk_46 (dk_at dksX9_points_1 21 rfl rfl)
theorem dX9_points_45 : decode cX9_points 45 = .ok (.i2l, 1) := dk_133 (dk_at dksX9_points_1 22 rfl rfl)
theorem dX9_points_46 : decode cX9_points 46 = .ok (.iload_n 1, 1) := dk_27 (dk_at dksX9_points_1 23 rfl rfl)
theorem dX9_points_47 : decode cX9_points 47 = .ok (.aload_n 0, 1) := dk_42 (dk_at dksX9_points_2 0 rfl rfl)
theorem dX9_points_48 : decode cX9_points 48 = .ok (.invokevirtual 89, 3) := dk_182 0 89 (dk_at dksX9_points_2 1 rfl rfl)
theorem dX9_points_51 : decode cX9_points 51 = .ok (.if_icmp .ne 12, 3) := dk_160 0 12 (dk_at dksX9_points_2 4 rfl rfl)
theorem dX9_points_54 : decode cX9_points 54 = .ok (.aload_n 0, 1) := dk_42 (dk_at dksX9_points_2 7 rfl rfl)
theorem dX9_points_55 : decode cX9_points 55 = .ok (.iload 4, 2) := dk_21 4 (dk_at dksX9_points_2 8 rfl rfl)
theorem dX9_points_57 : decode cX9_points 57 = .ok (.invokevirtual 209, 3) := dk_182 0 209 (dk_at dksX9_points_2 10 rfl rfl)
theorem dX9_points_60 : decode cX9_points 60 = .ok (.goto 10, 3) := dk_167 0 10 (dk_at dksX9_points_2 13 rfl rfl)
theorem dX9_points_63 : decode cX9_points 63 = .ok (.aload_n 0, 1) := dk_42 (dk_at dksX9_points_2 16 rfl rfl)
theorem dX9_points_64 : decode cX9_points 64 = .ok (.iload 4, 2) := dk_21 4 (dk_at dksX9_points_2 17 rfl rfl)
theorem dX9_points_66 : decode cX9_points 66 = .ok (.iload_n 1, 1) := dk_27 (dk_at dksX9_points_2 19 rfl rfl)
theorem dX9_points_67 : decode cX9_points 67 = .ok (.invokevirtual 217, 3) := dk_182 0 217 (dk_at dksX9_points_2 20 rfl rfl)
theorem dX9_points_70 : decode cX9_points 70 = .ok (.lmul, 1) := dk_105 (dk_at dksX9_points_2 23 rfl rfl)
theorem dX9_points_71 : decode cX9_points 71 = .ok (.ladd, 1) := dk_97 (dk_at dksX9_points_3 0 rfl rfl)
theorem dX9_points_72 : decode cX9_points 72 = .ok (.lstore_n 2, 1) := dk_65 (dk_at dksX9_points_3 1 rfl rfl)
theorem dX9_points_73 : decode cX9_points 73 = .ok (.iinc 4 1, 3) := dk_132 4 1 (dk_at dksX9_points_3 2 rfl rfl)
theorem dX9_points_76 : decode cX9_points 76 = .ok (.goto (-53), 3) := dk_167 255 203 (dk_at dksX9_points_3 5 rfl rfl)
theorem dX9_points_79 : decode cX9_points 79 = .ok (.lload_n 2, 1) := dk_32 (dk_at dksX9_points_3 8 rfl rfl)
theorem dX9_points_80 : decode cX9_points 80 = .ok (.aload_n 0, 1) := dk_42 (dk_at dksX9_points_3 9 rfl rfl)
theorem dX9_points_81 : decode cX9_points 81 = .ok (.getfield 11, 3) := dk_180 0 11 (dk_at dksX9_points_3 10 rfl rfl)
theorem dX9_points_84 : decode cX9_points 84 = .ok (.iconst 2, 1) := dk_5 (dk_at dksX9_points_3 13 rfl rfl)
theorem dX9_points_85 : decode cX9_points 85 = .ok (.iaload, 1) := dk_46 (dk_at dksX9_points_3 14 rfl rfl)
theorem dX9_points_86 : decode cX9_points 86 = .ok (.invokestatic 334, 3) := dk_184 1 78 (dk_at dksX9_points_3 15 rfl rfl)
theorem dX9_points_89 : decode cX9_points 89 = .ok (.lreturn, 1) := dk_173 (dk_at dksX9_points_3 18 rfl rfl)
abbrev cX9_bites : ByteArray := prog_19_method_62_code
def yX9_bites : MethodName := ⟨RX9, "bites", "()I"⟩
def dkwX9_bites_3 : List UInt8 := [4, 167, 0, 4, 3, 172]
abbrev dktX9_bites_3 : List UInt8 := dkwX9_bites_3 ++ []
def dkwX9_bites_2 : List UInt8 := [167, 255, 227, 31, 42, 42, 182, 0, 89, 182, 1, 81, 42, 180, 0, 30, 180, 0, 197, 105, 148, 158, 0, 7]
abbrev dktX9_bites_2 : List UInt8 := dkwX9_bites_2 ++ dktX9_bites_3
def dkwX9_bites_1 : List UInt8 := [162, 0, 27, 31, 42, 29, 182, 1, 81, 42, 42, 180, 0, 30, 29, 182, 1, 58, 105, 97, 64, 132, 3, 1]
abbrev dktX9_bites_1 : List UInt8 := dkwX9_bites_1 ++ dktX9_bites_2
def dkwX9_bites_0 : List UInt8 := [42, 180, 0, 30, 180, 0, 85, 154, 0, 6, 16, 253, 172, 9, 64, 3, 62, 29, 42, 182, 0, 89]
abbrev dktX9_bites_0 : List UInt8 := dkwX9_bites_0 ++ dktX9_bites_1
theorem dksX9_bites_0 : cX9_bites.data.toList.drop 0 = dktX9_bites_0 := by decide +kernel
theorem dksX9_bites_1 : cX9_bites.data.toList.drop 22 = dktX9_bites_1 := dk_seg dksX9_bites_0 22 rfl rfl
theorem dksX9_bites_2 : cX9_bites.data.toList.drop 46 = dktX9_bites_2 := dk_seg dksX9_bites_1 24 rfl rfl
theorem dksX9_bites_3 : cX9_bites.data.toList.drop 70 = dktX9_bites_3 := dk_seg dksX9_bites_2 24 rfl rfl
theorem dX9_bites_0 : decode cX9_bites 0 = .ok (.aload_n 0, 1) := dk_42 (dk_at dksX9_bites_0 0 rfl rfl)
theorem dX9_bites_1 : decode cX9_bites 1 = .ok (.getfield 30, 3) := dk_180 0 30 (dk_at dksX9_bites_0 1 rfl rfl)
theorem dX9_bites_4 : decode cX9_bites 4 = .ok (.getfield 85, 3) := dk_180 0 85 (dk_at dksX9_bites_0 4 rfl rfl)
theorem dX9_bites_7 : decode cX9_bites 7 = .ok (.ifCond .ne 6, 3) := dk_154 0 6 (dk_at dksX9_bites_0 7 rfl rfl)
theorem dX9_bites_10 : decode cX9_bites 10 = .ok (.bipush (-3), 2) := dk_16 253 (dk_at dksX9_bites_0 10 rfl rfl)
theorem dX9_bites_12 : decode cX9_bites 12 = .ok (.ireturn, 1) := dk_172 (dk_at dksX9_bites_0 12 rfl rfl)
theorem dX9_bites_13 : decode cX9_bites 13 = .ok (.lconst 0, 1) := dk_9 (dk_at dksX9_bites_0 13 rfl rfl)
theorem dX9_bites_14 : decode cX9_bites 14 = .ok (.lstore_n 1, 1) := dk_64 (dk_at dksX9_bites_0 14 rfl rfl)
theorem dX9_bites_15 : decode cX9_bites 15 = .ok (.iconst 0, 1) := dk_3 (dk_at dksX9_bites_0 15 rfl rfl)
theorem dX9_bites_16 : decode cX9_bites 16 = .ok (.istore_n 3, 1) := dk_62 (dk_at dksX9_bites_0 16 rfl rfl)
theorem dX9_bites_17 : decode cX9_bites 17 = .ok (.iload_n 3, 1) := dk_29 (dk_at dksX9_bites_0 17 rfl rfl)
theorem dX9_bites_18 : decode cX9_bites 18 = .ok (.aload_n 0, 1) := dk_42 (dk_at dksX9_bites_0 18 rfl rfl)
theorem dX9_bites_19 : decode cX9_bites 19 = .ok (.invokevirtual 89, 3) := dk_182 0 89 (dk_at dksX9_bites_0 19 rfl rfl)
theorem dX9_bites_22 : decode cX9_bites 22 = .ok (.if_icmp .ge 27, 3) := dk_162 0 27 (dk_at dksX9_bites_1 0 rfl rfl)
theorem dX9_bites_25 : decode cX9_bites 25 = .ok (.lload_n 1, 1) := dk_31 (dk_at dksX9_bites_1 3 rfl rfl)
theorem dX9_bites_26 : decode cX9_bites 26 = .ok (.aload_n 0, 1) := dk_42 (dk_at dksX9_bites_1 4 rfl rfl)
theorem dX9_bites_27 : decode cX9_bites 27 = .ok (.iload_n 3, 1) := dk_29 (dk_at dksX9_bites_1 5 rfl rfl)
theorem dX9_bites_28 : decode cX9_bites 28 = .ok (.invokevirtual 337, 3) := dk_182 1 81 (dk_at dksX9_bites_1 6 rfl rfl)
theorem dX9_bites_31 : decode cX9_bites 31 = .ok (.aload_n 0, 1) := dk_42 (dk_at dksX9_bites_1 9 rfl rfl)
theorem dX9_bites_32 : decode cX9_bites 32 = .ok (.aload_n 0, 1) := dk_42 (dk_at dksX9_bites_1 10 rfl rfl)
theorem dX9_bites_33 : decode cX9_bites 33 = .ok (.getfield 30, 3) := dk_180 0 30 (dk_at dksX9_bites_1 11 rfl rfl)
theorem dX9_bites_36 : decode cX9_bites 36 = .ok (.iload_n 3, 1) := dk_29 (dk_at dksX9_bites_1 14 rfl rfl)
theorem dX9_bites_37 : decode cX9_bites 37 = .ok (.invokevirtual 314, 3) := dk_182 1 58 (dk_at dksX9_bites_1 15 rfl rfl)
theorem dX9_bites_40 : decode cX9_bites 40 = .ok (.lmul, 1) := dk_105 (dk_at dksX9_bites_1 18 rfl rfl)
theorem dX9_bites_41 : decode cX9_bites 41 = .ok (.ladd, 1) := dk_97 (dk_at dksX9_bites_1 19 rfl rfl)
theorem dX9_bites_42 : decode cX9_bites 42 = .ok (.lstore_n 1, 1) := dk_64 (dk_at dksX9_bites_1 20 rfl rfl)
theorem dX9_bites_43 : decode cX9_bites 43 = .ok (.iinc 3 1, 3) := dk_132 3 1 (dk_at dksX9_bites_1 21 rfl rfl)
theorem dX9_bites_46 : decode cX9_bites 46 = .ok (.goto (-29), 3) := dk_167 255 227 (dk_at dksX9_bites_2 0 rfl rfl)
theorem dX9_bites_49 : decode cX9_bites 49 = .ok (.lload_n 1, 1) := dk_31 (dk_at dksX9_bites_2 3 rfl rfl)
theorem dX9_bites_50 : decode cX9_bites 50 = .ok (.aload_n 0, 1) := dk_42 (dk_at dksX9_bites_2 4 rfl rfl)
theorem dX9_bites_51 : decode cX9_bites 51 = .ok (.aload_n 0, 1) := dk_42 (dk_at dksX9_bites_2 5 rfl rfl)
theorem dX9_bites_52 : decode cX9_bites 52 = .ok (.invokevirtual 89, 3) := dk_182 0 89 (dk_at dksX9_bites_2 6 rfl rfl)
theorem dX9_bites_55 : decode cX9_bites 55 = .ok (.invokevirtual 337, 3) := dk_182 1 81 (dk_at dksX9_bites_2 9 rfl rfl)
theorem dX9_bites_58 : decode cX9_bites 58 = .ok (.aload_n 0, 1) := dk_42 (dk_at dksX9_bites_2 12 rfl rfl)
theorem dX9_bites_59 : decode cX9_bites 59 = .ok (.getfield 30, 3) := dk_180 0 30 (dk_at dksX9_bites_2 13 rfl rfl)
theorem dX9_bites_62 : decode cX9_bites 62 = .ok (.getfield 197, 3) := dk_180 0 197 (dk_at dksX9_bites_2 16 rfl rfl)
theorem dX9_bites_65 : decode cX9_bites 65 = .ok (.lmul, 1) := dk_105 (dk_at dksX9_bites_2 19 rfl rfl)
theorem dX9_bites_66 : decode cX9_bites 66 = .ok (.lcmp, 1) := dk_148 (dk_at dksX9_bites_2 20 rfl rfl)
theorem dX9_bites_67 : decode cX9_bites 67 = .ok (.ifCond .le 7, 3) := dk_158 0 7 (dk_at dksX9_bites_2 21 rfl rfl)
theorem dX9_bites_70 : decode cX9_bites 70 = .ok (.iconst 1, 1) := dk_4 (dk_at dksX9_bites_3 0 rfl rfl)
theorem dX9_bites_71 : decode cX9_bites 71 = .ok (.goto 4, 3) := dk_167 0 4 (dk_at dksX9_bites_3 1 rfl rfl)
theorem dX9_bites_74 : decode cX9_bites 74 = .ok (.iconst 0, 1) := dk_3 (dk_at dksX9_bites_3 4 rfl rfl)
theorem dX9_bites_75 : decode cX9_bites 75 = .ok (.ireturn, 1) := dk_172 (dk_at dksX9_bites_3 5 rfl rfl)
abbrev cX9_box : ByteArray := prog_19_method_70_code
def yX9_box : MethodName := ⟨RX9, "box", "(I)I"⟩
def dkwX9_box_1 : List UInt8 := [180, 0, 11, 6, 27, 79, 28, 172]
abbrev dktX9_box_1 : List UInt8 := dkwX9_box_1 ++ []
def dkwX9_box_0 : List UInt8 := [27, 133, 9, 20, 1, 93, 184, 0, 93, 154, 0, 6, 16, 254, 172, 42, 180, 0, 11, 6, 46, 61, 42]
abbrev dktX9_box_0 : List UInt8 := dkwX9_box_0 ++ dktX9_box_1
theorem dksX9_box_0 : cX9_box.data.toList.drop 0 = dktX9_box_0 := by decide +kernel
theorem dksX9_box_1 : cX9_box.data.toList.drop 23 = dktX9_box_1 := dk_seg dksX9_box_0 23 rfl rfl
theorem dX9_box_0 : decode cX9_box 0 = .ok (.iload_n 1, 1) := dk_27 (dk_at dksX9_box_0 0 rfl rfl)
theorem dX9_box_1 : decode cX9_box 1 = .ok (.i2l, 1) := dk_133 (dk_at dksX9_box_0 1 rfl rfl)
theorem dX9_box_2 : decode cX9_box 2 = .ok (.lconst 0, 1) := dk_9 (dk_at dksX9_box_0 2 rfl rfl)
theorem dX9_box_3 : decode cX9_box 3 = .ok (.ldc2_w 349, 3) := dk_20 1 93 (dk_at dksX9_box_0 3 rfl rfl)
theorem dX9_box_6 : decode cX9_box 6 = .ok (.invokestatic 93, 3) := dk_184 0 93 (dk_at dksX9_box_0 6 rfl rfl)
theorem dX9_box_9 : decode cX9_box 9 = .ok (.ifCond .ne 6, 3) := dk_154 0 6 (dk_at dksX9_box_0 9 rfl rfl)
theorem dX9_box_12 : decode cX9_box 12 = .ok (.bipush (-2), 2) := dk_16 254 (dk_at dksX9_box_0 12 rfl rfl)
theorem dX9_box_14 : decode cX9_box 14 = .ok (.ireturn, 1) := dk_172 (dk_at dksX9_box_0 14 rfl rfl)
theorem dX9_box_15 : decode cX9_box 15 = .ok (.aload_n 0, 1) := dk_42 (dk_at dksX9_box_0 15 rfl rfl)
theorem dX9_box_16 : decode cX9_box 16 = .ok (.getfield 11, 3) := dk_180 0 11 (dk_at dksX9_box_0 16 rfl rfl)
theorem dX9_box_19 : decode cX9_box 19 = .ok (.iconst 3, 1) := dk_6 (dk_at dksX9_box_0 19 rfl rfl)
theorem dX9_box_20 : decode cX9_box 20 = .ok (.iaload, 1) := dk_46 (dk_at dksX9_box_0 20 rfl rfl)
theorem dX9_box_21 : decode cX9_box 21 = .ok (.istore_n 2, 1) := dk_61 (dk_at dksX9_box_0 21 rfl rfl)
theorem dX9_box_22 : decode cX9_box 22 = .ok (.aload_n 0, 1) := dk_42 (dk_at dksX9_box_0 22 rfl rfl)
theorem dX9_box_23 : decode cX9_box 23 = .ok (.getfield 11, 3) := dk_180 0 11 (dk_at dksX9_box_1 0 rfl rfl)
theorem dX9_box_26 : decode cX9_box 26 = .ok (.iconst 3, 1) := dk_6 (dk_at dksX9_box_1 3 rfl rfl)
theorem dX9_box_27 : decode cX9_box 27 = .ok (.iload_n 1, 1) := dk_27 (dk_at dksX9_box_1 4 rfl rfl)
theorem dX9_box_28 : decode cX9_box 28 = .ok (.iastore, 1) := dk_79 (dk_at dksX9_box_1 5 rfl rfl)
theorem dX9_box_29 : decode cX9_box 29 = .ok (.iload_n 2, 1) := dk_28 (dk_at dksX9_box_1 6 rfl rfl)
theorem dX9_box_30 : decode cX9_box 30 = .ok (.ireturn, 1) := dk_172 (dk_at dksX9_box_1 7 rfl rfl)
abbrev cX9_nth : ByteArray := prog_19_method_71_code
def yX9_nth : MethodName := ⟨RX9, "nth", "(I)I"⟩
def dkwX9_nth_7 : List UInt8 := [42, 180, 0, 40, 27, 46, 167, 0, 5, 16, 251, 172]
abbrev dktX9_nth_7 : List UInt8 := dkwX9_nth_7 ++ []
def dkwX9_nth_6 : List UInt8 := [28, 4, 96, 27, 4, 96, 184, 1, 103, 61, 42, 29, 182, 1, 106, 62, 167, 255, 117, 28, 27, 164, 0, 12]
abbrev dktX9_nth_6 : List UInt8 := dkwX9_nth_6 ++ dktX9_nth_7
def dkwX9_nth_5 : List UInt8 := [79, 132, 5, 255, 167, 255, 202, 42, 180, 0, 40, 21, 5, 29, 79, 42, 180, 0, 43, 21, 5, 21, 4, 79]
abbrev dktX9_nth_5 : List UInt8 := dkwX9_nth_5 ++ dktX9_nth_6
def dkwX9_nth_4 : List UInt8 := [180, 0, 40, 21, 5, 4, 100, 46, 79, 42, 180, 0, 43, 21, 5, 42, 180, 0, 43, 21, 5, 4, 100, 46]
abbrev dktX9_nth_4 : List UInt8 := dkwX9_nth_4 ++ dktX9_nth_5
def dkwX9_nth_3 : List UInt8 := [158, 0, 55, 42, 180, 0, 43, 21, 5, 4, 100, 46, 21, 4, 164, 0, 41, 42, 180, 0, 40, 21, 5, 42]
abbrev dktX9_nth_3 : List UInt8 := dkwX9_nth_3 ++ dktX9_nth_4
def dkwX9_nth_2 : List UInt8 := [182, 1, 100, 158, 0, 6, 167, 0, 99, 28, 27, 163, 0, 7, 28, 167, 0, 4, 27, 54, 5, 21, 5]
abbrev dktX9_nth_2 : List UInt8 := dkwX9_nth_2 ++ dktX9_nth_3
def dkwX9_nth_1 : List UInt8 := [29, 182, 1, 97, 54, 4, 28, 27, 164, 0, 14, 21, 4, 42, 180, 0, 43, 27, 46, 162, 0, 109, 42]
abbrev dktX9_nth_1 : List UInt8 := dkwX9_nth_1 ++ dktX9_nth_2
def dkwX9_nth_0 : List UInt8 := [27, 133, 9, 20, 1, 95, 184, 0, 93, 154, 0, 6, 16, 254, 172, 3, 61, 3, 62, 29, 155, 0, 141, 42]
abbrev dktX9_nth_0 : List UInt8 := dkwX9_nth_0 ++ dktX9_nth_1
theorem dksX9_nth_0 : cX9_nth.data.toList.drop 0 = dktX9_nth_0 := by decide +kernel
theorem dksX9_nth_1 : cX9_nth.data.toList.drop 24 = dktX9_nth_1 := dk_seg dksX9_nth_0 24 rfl rfl
theorem dksX9_nth_2 : cX9_nth.data.toList.drop 47 = dktX9_nth_2 := dk_seg dksX9_nth_1 23 rfl rfl
theorem dksX9_nth_3 : cX9_nth.data.toList.drop 70 = dktX9_nth_3 := dk_seg dksX9_nth_2 23 rfl rfl
theorem dksX9_nth_4 : cX9_nth.data.toList.drop 94 = dktX9_nth_4 := dk_seg dksX9_nth_3 24 rfl rfl
theorem dksX9_nth_5 : cX9_nth.data.toList.drop 118 = dktX9_nth_5 := dk_seg dksX9_nth_4 24 rfl rfl
theorem dksX9_nth_6 : cX9_nth.data.toList.drop 142 = dktX9_nth_6 := dk_seg dksX9_nth_5 24 rfl rfl
theorem dksX9_nth_7 : cX9_nth.data.toList.drop 166 = dktX9_nth_7 := dk_seg dksX9_nth_6 24 rfl rfl
theorem dX9_nth_0 : decode cX9_nth 0 = .ok (.iload_n 1, 1) := dk_27 (dk_at dksX9_nth_0 0 rfl rfl)
theorem dX9_nth_1 : decode cX9_nth 1 = .ok (.i2l, 1) := dk_133 (dk_at dksX9_nth_0 1 rfl rfl)
theorem dX9_nth_2 : decode cX9_nth 2 = .ok (.lconst 0, 1) := dk_9 (dk_at dksX9_nth_0 2 rfl rfl)
theorem dX9_nth_3 : decode cX9_nth 3 = .ok (.ldc2_w 351, 3) := dk_20 1 95 (dk_at dksX9_nth_0 3 rfl rfl)
theorem dX9_nth_6 : decode cX9_nth 6 = .ok (.invokestatic 93, 3) := dk_184 0 93 (dk_at dksX9_nth_0 6 rfl rfl)
theorem dX9_nth_9 : decode cX9_nth 9 = .ok (.ifCond .ne 6, 3) := dk_154 0 6 (dk_at dksX9_nth_0 9 rfl rfl)
theorem dX9_nth_12 : decode cX9_nth 12 = .ok (.bipush (-2), 2) := dk_16 254 (dk_at dksX9_nth_0 12 rfl rfl)
theorem dX9_nth_14 : decode cX9_nth 14 = .ok (.ireturn, 1) := dk_172 (dk_at dksX9_nth_0 14 rfl rfl)
theorem dX9_nth_15 : decode cX9_nth 15 = .ok (.iconst 0, 1) := dk_3 (dk_at dksX9_nth_0 15 rfl rfl)
theorem dX9_nth_16 : decode cX9_nth 16 = .ok (.istore_n 2, 1) := dk_61 (dk_at dksX9_nth_0 16 rfl rfl)
theorem dX9_nth_17 : decode cX9_nth 17 = .ok (.iconst 0, 1) := dk_3 (dk_at dksX9_nth_0 17 rfl rfl)
theorem dX9_nth_18 : decode cX9_nth 18 = .ok (.istore_n 3, 1) := dk_62 (dk_at dksX9_nth_0 18 rfl rfl)
theorem dX9_nth_19 : decode cX9_nth 19 = .ok (.iload_n 3, 1) := dk_29 (dk_at dksX9_nth_0 19 rfl rfl)
theorem dX9_nth_20 : decode cX9_nth 20 = .ok (.ifCond .lt 141, 3) := dk_155 0 141 (dk_at dksX9_nth_0 20 rfl rfl)
theorem dX9_nth_23 : decode cX9_nth 23 = .ok (.aload_n 0, 1) := dk_42 (dk_at dksX9_nth_0 23 rfl rfl)
theorem dX9_nth_24 : decode cX9_nth 24 = .ok (.iload_n 3, 1) := dk_29 (dk_at dksX9_nth_1 0 rfl rfl)
theorem dX9_nth_25 : decode cX9_nth 25 = .ok (.invokevirtual 353, 3) := dk_182 1 97 (dk_at dksX9_nth_1 1 rfl rfl)
theorem dX9_nth_28 : decode cX9_nth 28 = .ok (.istore 4, 2) := dk_54 4 (dk_at dksX9_nth_1 4 rfl rfl)
theorem dX9_nth_30 : decode cX9_nth 30 = .ok (.iload_n 2, 1) := dk_28 (dk_at dksX9_nth_1 6 rfl rfl)
theorem dX9_nth_31 : decode cX9_nth 31 = .ok (.iload_n 1, 1) := dk_27 (dk_at dksX9_nth_1 7 rfl rfl)
theorem dX9_nth_32 : decode cX9_nth 32 = .ok (.if_icmp .le 14, 3) := dk_164 0 14 (dk_at dksX9_nth_1 8 rfl rfl)
theorem dX9_nth_35 : decode cX9_nth 35 = .ok (.iload 4, 2) := dk_21 4 (dk_at dksX9_nth_1 11 rfl rfl)
theorem dX9_nth_37 : decode cX9_nth 37 = .ok (.aload_n 0, 1) := dk_42 (dk_at dksX9_nth_1 13 rfl rfl)
theorem dX9_nth_38 : decode cX9_nth 38 = .ok (.getfield 43, 3) := dk_180 0 43 (dk_at dksX9_nth_1 14 rfl rfl)
theorem dX9_nth_41 : decode cX9_nth 41 = .ok (.iload_n 1, 1) := dk_27 (dk_at dksX9_nth_1 17 rfl rfl)
theorem dX9_nth_42 : decode cX9_nth 42 = .ok (.iaload, 1) := dk_46 (dk_at dksX9_nth_1 18 rfl rfl)
theorem dX9_nth_43 : decode cX9_nth 43 = .ok (.if_icmp .ge 109, 3) := dk_162 0 109 (dk_at dksX9_nth_1 19 rfl rfl)
theorem dX9_nth_46 : decode cX9_nth 46 = .ok (.aload_n 0, 1) := dk_42 (dk_at dksX9_nth_1 22 rfl rfl)
theorem dX9_nth_47 : decode cX9_nth 47 = .ok (.invokevirtual 356, 3) := dk_182 1 100 (dk_at dksX9_nth_2 0 rfl rfl)
theorem dX9_nth_50 : decode cX9_nth 50 = .ok (.ifCond .le 6, 3) := dk_158 0 6 (dk_at dksX9_nth_2 3 rfl rfl)
theorem dX9_nth_53 : decode cX9_nth 53 = .ok (.goto 99, 3) := dk_167 0 99 (dk_at dksX9_nth_2 6 rfl rfl)
theorem dX9_nth_56 : decode cX9_nth 56 = .ok (.iload_n 2, 1) := dk_28 (dk_at dksX9_nth_2 9 rfl rfl)
theorem dX9_nth_57 : decode cX9_nth 57 = .ok (.iload_n 1, 1) := dk_27 (dk_at dksX9_nth_2 10 rfl rfl)
theorem dX9_nth_58 : decode cX9_nth 58 = .ok (.if_icmp .gt 7, 3) := dk_163 0 7 (dk_at dksX9_nth_2 11 rfl rfl)
theorem dX9_nth_61 : decode cX9_nth 61 = .ok (.iload_n 2, 1) := dk_28 (dk_at dksX9_nth_2 14 rfl rfl)
theorem dX9_nth_62 : decode cX9_nth 62 = .ok (.goto 4, 3) := dk_167 0 4 (dk_at dksX9_nth_2 15 rfl rfl)
theorem dX9_nth_65 : decode cX9_nth 65 = .ok (.iload_n 1, 1) := dk_27 (dk_at dksX9_nth_2 18 rfl rfl)
theorem dX9_nth_66 : decode cX9_nth 66 = .ok (.istore 5, 2) := dk_54 5 (dk_at dksX9_nth_2 19 rfl rfl)
theorem dX9_nth_68 : decode cX9_nth 68 = .ok (.iload 5, 2) := dk_21 5 (dk_at dksX9_nth_2 21 rfl rfl)
theorem dX9_nth_70 : decode cX9_nth 70 = .ok (.ifCond .le 55, 3) := dk_158 0 55 (dk_at dksX9_nth_3 0 rfl rfl)
theorem dX9_nth_73 : decode cX9_nth 73 = .ok (.aload_n 0, 1) := dk_42 (dk_at dksX9_nth_3 3 rfl rfl)
theorem dX9_nth_74 : decode cX9_nth 74 = .ok (.getfield 43, 3) := dk_180 0 43 (dk_at dksX9_nth_3 4 rfl rfl)
theorem dX9_nth_77 : decode cX9_nth 77 = .ok (.iload 5, 2) := dk_21 5 (dk_at dksX9_nth_3 7 rfl rfl)
theorem dX9_nth_79 : decode cX9_nth 79 = .ok (.iconst 1, 1) := dk_4 (dk_at dksX9_nth_3 9 rfl rfl)
theorem dX9_nth_80 : decode cX9_nth 80 = .ok (.isub, 1) := dk_100 (dk_at dksX9_nth_3 10 rfl rfl)
theorem dX9_nth_81 : decode cX9_nth 81 = .ok (.iaload, 1) := dk_46 (dk_at dksX9_nth_3 11 rfl rfl)
theorem dX9_nth_82 : decode cX9_nth 82 = .ok (.iload 4, 2) := dk_21 4 (dk_at dksX9_nth_3 12 rfl rfl)
theorem dX9_nth_84 : decode cX9_nth 84 = .ok (.if_icmp .le 41, 3) := dk_164 0 41 (dk_at dksX9_nth_3 14 rfl rfl)
theorem dX9_nth_87 : decode cX9_nth 87 = .ok (.aload_n 0, 1) := dk_42 (dk_at dksX9_nth_3 17 rfl rfl)
theorem dX9_nth_88 : decode cX9_nth 88 = .ok (.getfield 40, 3) := dk_180 0 40 (dk_at dksX9_nth_3 18 rfl rfl)
theorem dX9_nth_91 : decode cX9_nth 91 = .ok (.iload 5, 2) := dk_21 5 (dk_at dksX9_nth_3 21 rfl rfl)
theorem dX9_nth_93 : decode cX9_nth 93 = .ok (.aload_n 0, 1) := dk_42 (dk_at dksX9_nth_3 23 rfl rfl)
theorem dX9_nth_94 : decode cX9_nth 94 = .ok (.getfield 40, 3) := dk_180 0 40 (dk_at dksX9_nth_4 0 rfl rfl)
theorem dX9_nth_97 : decode cX9_nth 97 = .ok (.iload 5, 2) := dk_21 5 (dk_at dksX9_nth_4 3 rfl rfl)
theorem dX9_nth_99 : decode cX9_nth 99 = .ok (.iconst 1, 1) := dk_4 (dk_at dksX9_nth_4 5 rfl rfl)
theorem dX9_nth_100 : decode cX9_nth 100 = .ok (.isub, 1) := dk_100 (dk_at dksX9_nth_4 6 rfl rfl)
theorem dX9_nth_101 : decode cX9_nth 101 = .ok (.iaload, 1) := dk_46 (dk_at dksX9_nth_4 7 rfl rfl)
theorem dX9_nth_102 : decode cX9_nth 102 = .ok (.iastore, 1) := dk_79 (dk_at dksX9_nth_4 8 rfl rfl)
theorem dX9_nth_103 : decode cX9_nth 103 = .ok (.aload_n 0, 1) := dk_42 (dk_at dksX9_nth_4 9 rfl rfl)
theorem dX9_nth_104 : decode cX9_nth 104 = .ok (.getfield 43, 3) := dk_180 0 43 (dk_at dksX9_nth_4 10 rfl rfl)
theorem dX9_nth_107 : decode cX9_nth 107 = .ok (.iload 5, 2) := dk_21 5 (dk_at dksX9_nth_4 13 rfl rfl)
theorem dX9_nth_109 : decode cX9_nth 109 = .ok (.aload_n 0, 1) := dk_42 (dk_at dksX9_nth_4 15 rfl rfl)
theorem dX9_nth_110 : decode cX9_nth 110 = .ok (.getfield 43, 3) := dk_180 0 43 (dk_at dksX9_nth_4 16 rfl rfl)
theorem dX9_nth_113 : decode cX9_nth 113 = .ok (.iload 5, 2) := dk_21 5 (dk_at dksX9_nth_4 19 rfl rfl)
theorem dX9_nth_115 : decode cX9_nth 115 = .ok (.iconst 1, 1) := dk_4 (dk_at dksX9_nth_4 21 rfl rfl)
theorem dX9_nth_116 : decode cX9_nth 116 = .ok (.isub, 1) := dk_100 (dk_at dksX9_nth_4 22 rfl rfl)
theorem dX9_nth_117 : decode cX9_nth 117 = .ok (.iaload, 1) := dk_46 (dk_at dksX9_nth_4 23 rfl rfl)
theorem dX9_nth_118 : decode cX9_nth 118 = .ok (.iastore, 1) := dk_79 (dk_at dksX9_nth_5 0 rfl rfl)
theorem dX9_nth_119 : decode cX9_nth 119 = .ok (.iinc 5 (-1), 3) := dk_132 5 255 (dk_at dksX9_nth_5 1 rfl rfl)
theorem dX9_nth_122 : decode cX9_nth 122 = .ok (.goto (-54), 3) := dk_167 255 202 (dk_at dksX9_nth_5 4 rfl rfl)
theorem dX9_nth_125 : decode cX9_nth 125 = .ok (.aload_n 0, 1) := dk_42 (dk_at dksX9_nth_5 7 rfl rfl)
theorem dX9_nth_126 : decode cX9_nth 126 = .ok (.getfield 40, 3) := dk_180 0 40 (dk_at dksX9_nth_5 8 rfl rfl)
theorem dX9_nth_129 : decode cX9_nth 129 = .ok (.iload 5, 2) := dk_21 5 (dk_at dksX9_nth_5 11 rfl rfl)
theorem dX9_nth_131 : decode cX9_nth 131 = .ok (.iload_n 3, 1) := dk_29 (dk_at dksX9_nth_5 13 rfl rfl)
theorem dX9_nth_132 : decode cX9_nth 132 = .ok (.iastore, 1) := dk_79 (dk_at dksX9_nth_5 14 rfl rfl)
theorem dX9_nth_133 : decode cX9_nth 133 = .ok (.aload_n 0, 1) := dk_42 (dk_at dksX9_nth_5 15 rfl rfl)
theorem dX9_nth_134 : decode cX9_nth 134 = .ok (.getfield 43, 3) := dk_180 0 43 (dk_at dksX9_nth_5 16 rfl rfl)
theorem dX9_nth_137 : decode cX9_nth 137 = .ok (.iload 5, 2) := dk_21 5 (dk_at dksX9_nth_5 19 rfl rfl)
theorem dX9_nth_139 : decode cX9_nth 139 = .ok (.iload 4, 2) := dk_21 4 (dk_at dksX9_nth_5 21 rfl rfl)
theorem dX9_nth_141 : decode cX9_nth 141 = .ok (.iastore, 1) := dk_79 (dk_at dksX9_nth_5 23 rfl rfl)
theorem dX9_nth_142 : decode cX9_nth 142 = .ok (.iload_n 2, 1) := dk_28 (dk_at dksX9_nth_6 0 rfl rfl)
theorem dX9_nth_143 : decode cX9_nth 143 = .ok (.iconst 1, 1) := dk_4 (dk_at dksX9_nth_6 1 rfl rfl)
theorem dX9_nth_144 : decode cX9_nth 144 = .ok (.iadd, 1) := dk_96 (dk_at dksX9_nth_6 2 rfl rfl)
theorem dX9_nth_145 : decode cX9_nth 145 = .ok (.iload_n 1, 1) := dk_27 (dk_at dksX9_nth_6 3 rfl rfl)
theorem dX9_nth_146 : decode cX9_nth 146 = .ok (.iconst 1, 1) := dk_4 (dk_at dksX9_nth_6 4 rfl rfl)
theorem dX9_nth_147 : decode cX9_nth 147 = .ok (.iadd, 1) := dk_96 (dk_at dksX9_nth_6 5 rfl rfl)
theorem dX9_nth_148 : decode cX9_nth 148 = .ok (.invokestatic 359, 3) := dk_184 1 103 (dk_at dksX9_nth_6 6 rfl rfl)
theorem dX9_nth_151 : decode cX9_nth 151 = .ok (.istore_n 2, 1) := dk_61 (dk_at dksX9_nth_6 9 rfl rfl)
theorem dX9_nth_152 : decode cX9_nth 152 = .ok (.aload_n 0, 1) := dk_42 (dk_at dksX9_nth_6 10 rfl rfl)
theorem dX9_nth_153 : decode cX9_nth 153 = .ok (.iload_n 3, 1) := dk_29 (dk_at dksX9_nth_6 11 rfl rfl)
theorem dX9_nth_154 : decode cX9_nth 154 = .ok (.invokevirtual 362, 3) := dk_182 1 106 (dk_at dksX9_nth_6 12 rfl rfl)
theorem dX9_nth_157 : decode cX9_nth 157 = .ok (.istore_n 3, 1) := dk_62 (dk_at dksX9_nth_6 15 rfl rfl)
theorem dX9_nth_158 : decode cX9_nth 158 = .ok (.goto (-139), 3) := dk_167 255 117 (dk_at dksX9_nth_6 16 rfl rfl)
theorem dX9_nth_161 : decode cX9_nth 161 = .ok (.iload_n 2, 1) := dk_28 (dk_at dksX9_nth_6 19 rfl rfl)
theorem dX9_nth_162 : decode cX9_nth 162 = .ok (.iload_n 1, 1) := dk_27 (dk_at dksX9_nth_6 20 rfl rfl)
theorem dX9_nth_163 : decode cX9_nth 163 = .ok (.if_icmp .le 12, 3) := dk_164 0 12 (dk_at dksX9_nth_6 21 rfl rfl)
theorem dX9_nth_166 : decode cX9_nth 166 = .ok (.aload_n 0, 1) := dk_42 (dk_at dksX9_nth_7 0 rfl rfl)
theorem dX9_nth_167 : decode cX9_nth 167 = .ok (.getfield 40, 3) := dk_180 0 40 (dk_at dksX9_nth_7 1 rfl rfl)
theorem dX9_nth_170 : decode cX9_nth 170 = .ok (.iload_n 1, 1) := dk_27 (dk_at dksX9_nth_7 4 rfl rfl)
theorem dX9_nth_171 : decode cX9_nth 171 = .ok (.iaload, 1) := dk_46 (dk_at dksX9_nth_7 5 rfl rfl)
theorem dX9_nth_172 : decode cX9_nth 172 = .ok (.goto 5, 3) := dk_167 0 5 (dk_at dksX9_nth_7 6 rfl rfl)
theorem dX9_nth_175 : decode cX9_nth 175 = .ok (.bipush (-5), 2) := dk_16 251 (dk_at dksX9_nth_7 9 rfl rfl)
theorem dX9_nth_177 : decode cX9_nth 177 = .ok (.ireturn, 1) := dk_172 (dk_at dksX9_nth_7 11 rfl rfl)
abbrev cX9_costOf : ByteArray := prog_19_method_66_code
def yX9_costOf : MethodName := ⟨RX9, "costOf", "(I)I"⟩
def dkwX9_costOf_1 : List UInt8 := [29, 96, 46, 42, 180, 0, 37, 29, 46, 104, 96, 61, 132, 3, 1, 167, 255, 226, 28, 172]
abbrev dktX9_costOf_1 : List UInt8 := dkwX9_costOf_1 ++ []
def dkwX9_costOf_0 : List UInt8 := [42, 27, 182, 1, 87, 3, 61, 3, 62, 29, 42, 182, 0, 89, 162, 0, 28, 28, 42, 180, 0, 11, 16, 7]
abbrev dktX9_costOf_0 : List UInt8 := dkwX9_costOf_0 ++ dktX9_costOf_1
theorem dksX9_costOf_0 : cX9_costOf.data.toList.drop 0 = dktX9_costOf_0 := by decide +kernel
theorem dksX9_costOf_1 : cX9_costOf.data.toList.drop 24 = dktX9_costOf_1 := dk_seg dksX9_costOf_0 24 rfl rfl
theorem dX9_costOf_0 : decode cX9_costOf 0 = .ok (.aload_n 0, 1) := dk_42 (dk_at dksX9_costOf_0 0 rfl rfl)
theorem dX9_costOf_1 : decode cX9_costOf 1 = .ok (.iload_n 1, 1) := dk_27 (dk_at dksX9_costOf_0 1 rfl rfl)
theorem dX9_costOf_2 : decode cX9_costOf 2 = .ok (.invokevirtual 343, 3) := dk_182 1 87 (dk_at dksX9_costOf_0 2 rfl rfl)
theorem dX9_costOf_5 : decode cX9_costOf 5 = .ok (.iconst 0, 1) := dk_3 (dk_at dksX9_costOf_0 5 rfl rfl)
theorem dX9_costOf_6 : decode cX9_costOf 6 = .ok (.istore_n 2, 1) := dk_61 (dk_at dksX9_costOf_0 6 rfl rfl)
theorem dX9_costOf_7 : decode cX9_costOf 7 = .ok (.iconst 0, 1) := dk_3 (dk_at dksX9_costOf_0 7 rfl rfl)
theorem dX9_costOf_8 : decode cX9_costOf 8 = .ok (.istore_n 3, 1) := dk_62 (dk_at dksX9_costOf_0 8 rfl rfl)
theorem dX9_costOf_9 : decode cX9_costOf 9 = .ok (.iload_n 3, 1) := dk_29 (dk_at dksX9_costOf_0 9 rfl rfl)
theorem dX9_costOf_10 : decode cX9_costOf 10 = .ok (.aload_n 0, 1) := dk_42 (dk_at dksX9_costOf_0 10 rfl rfl)
theorem dX9_costOf_11 : decode cX9_costOf 11 = .ok (.invokevirtual 89, 3) := dk_182 0 89 (dk_at dksX9_costOf_0 11 rfl rfl)
theorem dX9_costOf_14 : decode cX9_costOf 14 = .ok (.if_icmp .ge 28, 3) := dk_162 0 28 (dk_at dksX9_costOf_0 14 rfl rfl)
theorem dX9_costOf_17 : decode cX9_costOf 17 = .ok (.iload_n 2, 1) := dk_28 (dk_at dksX9_costOf_0 17 rfl rfl)
theorem dX9_costOf_18 : decode cX9_costOf 18 = .ok (.aload_n 0, 1) := dk_42 (dk_at dksX9_costOf_0 18 rfl rfl)
theorem dX9_costOf_19 : decode cX9_costOf 19 = .ok (.getfield 11, 3) := dk_180 0 11 (dk_at dksX9_costOf_0 19 rfl rfl)
theorem dX9_costOf_22 : decode cX9_costOf 22 = .ok (.bipush 7, 2) := dk_16 7 (dk_at dksX9_costOf_0 22 rfl rfl)
theorem dX9_costOf_24 : decode cX9_costOf 24 = .ok (.iload_n 3, 1) := dk_29 (dk_at dksX9_costOf_1 0 rfl rfl)
theorem dX9_costOf_25 : decode cX9_costOf 25 = .ok (.iadd, 1) := dk_96 (dk_at dksX9_costOf_1 1 rfl rfl)
theorem dX9_costOf_26 : decode cX9_costOf 26 = .ok (.iaload, 1) := dk_46 (dk_at dksX9_costOf_1 2 rfl rfl)
theorem dX9_costOf_27 : decode cX9_costOf 27 = .ok (.aload_n 0, 1) := dk_42 (dk_at dksX9_costOf_1 3 rfl rfl)
theorem dX9_costOf_28 : decode cX9_costOf 28 = .ok (.getfield 37, 3) := dk_180 0 37 (dk_at dksX9_costOf_1 4 rfl rfl)
theorem dX9_costOf_31 : decode cX9_costOf 31 = .ok (.iload_n 3, 1) := dk_29 (dk_at dksX9_costOf_1 7 rfl rfl)
theorem dX9_costOf_32 : decode cX9_costOf 32 = .ok (.iaload, 1) := dk_46 (dk_at dksX9_costOf_1 8 rfl rfl)
theorem dX9_costOf_33 : decode cX9_costOf 33 = .ok (.imul, 1) := dk_104 (dk_at dksX9_costOf_1 9 rfl rfl)
theorem dX9_costOf_34 : decode cX9_costOf 34 = .ok (.iadd, 1) := dk_96 (dk_at dksX9_costOf_1 10 rfl rfl)
theorem dX9_costOf_35 : decode cX9_costOf 35 = .ok (.istore_n 2, 1) := dk_61 (dk_at dksX9_costOf_1 11 rfl rfl)
theorem dX9_costOf_36 : decode cX9_costOf 36 = .ok (.iinc 3 1, 3) := dk_132 3 1 (dk_at dksX9_costOf_1 12 rfl rfl)
theorem dX9_costOf_39 : decode cX9_costOf 39 = .ok (.goto (-30), 3) := dk_167 255 226 (dk_at dksX9_costOf_1 15 rfl rfl)
theorem dX9_costOf_42 : decode cX9_costOf 42 = .ok (.iload_n 2, 1) := dk_28 (dk_at dksX9_costOf_1 18 rfl rfl)
theorem dX9_costOf_43 : decode cX9_costOf 43 = .ok (.ireturn, 1) := dk_172 (dk_at dksX9_costOf_1 19 rfl rfl)
abbrev cX9_mixes : ByteArray := prog_19_method_65_code
def yX9_mixes : MethodName := ⟨RX9, "mixes", "(I)V"⟩
def dkwX9_mixes_1 : List UInt8 := [16, 10, 108, 61, 132, 3, 255, 167, 255, 234, 177]
abbrev dktX9_mixes_1 : List UInt8 := dkwX9_mixes_1 ++ []
def dkwX9_mixes_0 : List UInt8 := [27, 61, 42, 182, 0, 89, 4, 100, 62, 29, 155, 0, 24, 42, 180, 0, 37, 29, 28, 16, 10, 112, 79, 28]
abbrev dktX9_mixes_0 : List UInt8 := dkwX9_mixes_0 ++ dktX9_mixes_1
theorem dksX9_mixes_0 : cX9_mixes.data.toList.drop 0 = dktX9_mixes_0 := by decide +kernel
theorem dksX9_mixes_1 : cX9_mixes.data.toList.drop 24 = dktX9_mixes_1 := dk_seg dksX9_mixes_0 24 rfl rfl
theorem dX9_mixes_0 : decode cX9_mixes 0 = .ok (.iload_n 1, 1) := dk_27 (dk_at dksX9_mixes_0 0 rfl rfl)
theorem dX9_mixes_1 : decode cX9_mixes 1 = .ok (.istore_n 2, 1) := dk_61 (dk_at dksX9_mixes_0 1 rfl rfl)
theorem dX9_mixes_2 : decode cX9_mixes 2 = .ok (.aload_n 0, 1) := dk_42 (dk_at dksX9_mixes_0 2 rfl rfl)
theorem dX9_mixes_3 : decode cX9_mixes 3 = .ok (.invokevirtual 89, 3) := dk_182 0 89 (dk_at dksX9_mixes_0 3 rfl rfl)
theorem dX9_mixes_6 : decode cX9_mixes 6 = .ok (.iconst 1, 1) := dk_4 (dk_at dksX9_mixes_0 6 rfl rfl)
theorem dX9_mixes_7 : decode cX9_mixes 7 = .ok (.isub, 1) := dk_100 (dk_at dksX9_mixes_0 7 rfl rfl)
theorem dX9_mixes_8 : decode cX9_mixes 8 = .ok (.istore_n 3, 1) := dk_62 (dk_at dksX9_mixes_0 8 rfl rfl)
theorem dX9_mixes_9 : decode cX9_mixes 9 = .ok (.iload_n 3, 1) := dk_29 (dk_at dksX9_mixes_0 9 rfl rfl)
theorem dX9_mixes_10 : decode cX9_mixes 10 = .ok (.ifCond .lt 24, 3) := dk_155 0 24 (dk_at dksX9_mixes_0 10 rfl rfl)
theorem dX9_mixes_13 : decode cX9_mixes 13 = .ok (.aload_n 0, 1) := dk_42 (dk_at dksX9_mixes_0 13 rfl rfl)
theorem dX9_mixes_14 : decode cX9_mixes 14 = .ok (.getfield 37, 3) := dk_180 0 37 (dk_at dksX9_mixes_0 14 rfl rfl)
theorem dX9_mixes_17 : decode cX9_mixes 17 = .ok (.iload_n 3, 1) := dk_29 (dk_at dksX9_mixes_0 17 rfl rfl)
theorem dX9_mixes_18 : decode cX9_mixes 18 = .ok (.iload_n 2, 1) := dk_28 (dk_at dksX9_mixes_0 18 rfl rfl)
theorem dX9_mixes_19 : decode cX9_mixes 19 = .ok (.bipush 10, 2) := dk_16 10 (dk_at dksX9_mixes_0 19 rfl rfl)
theorem dX9_mixes_21 : decode cX9_mixes 21 = .ok (.irem, 1) := dk_112 (dk_at dksX9_mixes_0 21 rfl rfl)
theorem dX9_mixes_22 : decode cX9_mixes 22 = .ok (.iastore, 1) := dk_79 (dk_at dksX9_mixes_0 22 rfl rfl)
theorem dX9_mixes_23 : decode cX9_mixes 23 = .ok (.iload_n 2, 1) := dk_28 (dk_at dksX9_mixes_0 23 rfl rfl)
theorem dX9_mixes_24 : decode cX9_mixes 24 = .ok (.bipush 10, 2) := dk_16 10 (dk_at dksX9_mixes_1 0 rfl rfl)
theorem dX9_mixes_26 : decode cX9_mixes 26 = .ok (.idiv, 1) := dk_108 (dk_at dksX9_mixes_1 2 rfl rfl)
theorem dX9_mixes_27 : decode cX9_mixes 27 = .ok (.istore_n 2, 1) := dk_61 (dk_at dksX9_mixes_1 3 rfl rfl)
theorem dX9_mixes_28 : decode cX9_mixes 28 = .ok (.iinc 3 (-1), 3) := dk_132 3 255 (dk_at dksX9_mixes_1 4 rfl rfl)
theorem dX9_mixes_31 : decode cX9_mixes 31 = .ok (.goto (-22), 3) := dk_167 255 234 (dk_at dksX9_mixes_1 7 rfl rfl)
theorem dX9_mixes_34 : decode cX9_mixes 34 = .ok (.return_, 1) := dk_177 (dk_at dksX9_mixes_1 10 rfl rfl)
abbrev cX9_broken : ByteArray := prog_19_method_68_code
def yX9_broken : MethodName := ⟨RX9, "broken", "()I"⟩
def dkwX9_broken_1 : List UInt8 := [167, 0, 4, 3, 96, 60, 132, 2, 1, 167, 255, 227, 27, 172]
abbrev dktX9_broken_1 : List UInt8 := dkwX9_broken_1 ++ []
def dkwX9_broken_0 : List UInt8 := [3, 60, 3, 61, 28, 42, 180, 0, 11, 4, 46, 162, 0, 25, 27, 42, 28, 182, 1, 90, 153, 0, 7, 4]
abbrev dktX9_broken_0 : List UInt8 := dkwX9_broken_0 ++ dktX9_broken_1
theorem dksX9_broken_0 : cX9_broken.data.toList.drop 0 = dktX9_broken_0 := by decide +kernel
theorem dksX9_broken_1 : cX9_broken.data.toList.drop 24 = dktX9_broken_1 := dk_seg dksX9_broken_0 24 rfl rfl
theorem dX9_broken_0 : decode cX9_broken 0 = .ok (.iconst 0, 1) := dk_3 (dk_at dksX9_broken_0 0 rfl rfl)
theorem dX9_broken_1 : decode cX9_broken 1 = .ok (.istore_n 1, 1) := dk_60 (dk_at dksX9_broken_0 1 rfl rfl)
theorem dX9_broken_2 : decode cX9_broken 2 = .ok (.iconst 0, 1) := dk_3 (dk_at dksX9_broken_0 2 rfl rfl)
theorem dX9_broken_3 : decode cX9_broken 3 = .ok (.istore_n 2, 1) := dk_61 (dk_at dksX9_broken_0 3 rfl rfl)
theorem dX9_broken_4 : decode cX9_broken 4 = .ok (.iload_n 2, 1) := dk_28 (dk_at dksX9_broken_0 4 rfl rfl)
theorem dX9_broken_5 : decode cX9_broken 5 = .ok (.aload_n 0, 1) := dk_42 (dk_at dksX9_broken_0 5 rfl rfl)
theorem dX9_broken_6 : decode cX9_broken 6 = .ok (.getfield 11, 3) := dk_180 0 11 (dk_at dksX9_broken_0 6 rfl rfl)
theorem dX9_broken_9 : decode cX9_broken 9 = .ok (.iconst 1, 1) := dk_4 (dk_at dksX9_broken_0 9 rfl rfl)
theorem dX9_broken_10 : decode cX9_broken 10 = .ok (.iaload, 1) := dk_46 (dk_at dksX9_broken_0 10 rfl rfl)
theorem dX9_broken_11 : decode cX9_broken 11 = .ok (.if_icmp .ge 25, 3) := dk_162 0 25 (dk_at dksX9_broken_0 11 rfl rfl)
theorem dX9_broken_14 : decode cX9_broken 14 = .ok (.iload_n 1, 1) := dk_27 (dk_at dksX9_broken_0 14 rfl rfl)
theorem dX9_broken_15 : decode cX9_broken 15 = .ok (.aload_n 0, 1) := dk_42 (dk_at dksX9_broken_0 15 rfl rfl)
theorem dX9_broken_16 : decode cX9_broken 16 = .ok (.iload_n 2, 1) := dk_28 (dk_at dksX9_broken_0 16 rfl rfl)
theorem dX9_broken_17 : decode cX9_broken 17 = .ok (.invokevirtual 346, 3) := dk_182 1 90 (dk_at dksX9_broken_0 17 rfl rfl)
theorem dX9_broken_20 : decode cX9_broken 20 = .ok (.ifCond .eq 7, 3) := dk_153 0 7 (dk_at dksX9_broken_0 20 rfl rfl)
theorem dX9_broken_23 : decode cX9_broken 23 = .ok (.iconst 1, 1) := dk_4 (dk_at dksX9_broken_0 23 rfl rfl)
theorem dX9_broken_24 : decode cX9_broken 24 = .ok (.goto 4, 3) := dk_167 0 4 (dk_at dksX9_broken_1 0 rfl rfl)
theorem dX9_broken_27 : decode cX9_broken 27 = .ok (.iconst 0, 1) := dk_3 (dk_at dksX9_broken_1 3 rfl rfl)
theorem dX9_broken_28 : decode cX9_broken 28 = .ok (.iadd, 1) := dk_96 (dk_at dksX9_broken_1 4 rfl rfl)
theorem dX9_broken_29 : decode cX9_broken 29 = .ok (.istore_n 1, 1) := dk_60 (dk_at dksX9_broken_1 5 rfl rfl)
theorem dX9_broken_30 : decode cX9_broken 30 = .ok (.iinc 2 1, 3) := dk_132 2 1 (dk_at dksX9_broken_1 6 rfl rfl)
theorem dX9_broken_33 : decode cX9_broken 33 = .ok (.goto (-29), 3) := dk_167 255 227 (dk_at dksX9_broken_1 9 rfl rfl)
theorem dX9_broken_36 : decode cX9_broken 36 = .ok (.iload_n 1, 1) := dk_27 (dk_at dksX9_broken_1 12 rfl rfl)
theorem dX9_broken_37 : decode cX9_broken 37 = .ok (.ireturn, 1) := dk_172 (dk_at dksX9_broken_1 13 rfl rfl)
abbrev cX9_isBroken : ByteArray := prog_19_method_67_code
def yX9_isBroken : MethodName := ⟨RX9, "isBroken", "(I)Z"⟩
def dkwX9_isBroken_2 : List UInt8 := [158, 0, 7, 4, 167, 0, 4, 3, 172]
abbrev dktX9_isBroken_2 : List UInt8 := dkwX9_isBroken_2 ++ []
def dkwX9_isBroken_1 : List UInt8 := [180, 0, 37, 21, 4, 46, 133, 105, 97, 65, 132, 4, 1, 167, 255, 225, 32, 42, 27, 182, 0, 209, 148]
abbrev dktX9_isBroken_1 : List UInt8 := dkwX9_isBroken_1 ++ dktX9_isBroken_2
def dkwX9_isBroken_0 : List UInt8 := [9, 65, 3, 54, 4, 21, 4, 42, 182, 0, 89, 162, 0, 28, 32, 42, 27, 21, 4, 182, 0, 217, 42]
abbrev dktX9_isBroken_0 : List UInt8 := dkwX9_isBroken_0 ++ dktX9_isBroken_1
theorem dksX9_isBroken_0 : cX9_isBroken.data.toList.drop 0 = dktX9_isBroken_0 := by decide +kernel
theorem dksX9_isBroken_1 : cX9_isBroken.data.toList.drop 23 = dktX9_isBroken_1 := dk_seg dksX9_isBroken_0 23 rfl rfl
theorem dksX9_isBroken_2 : cX9_isBroken.data.toList.drop 46 = dktX9_isBroken_2 := dk_seg dksX9_isBroken_1 23 rfl rfl
theorem dX9_isBroken_0 : decode cX9_isBroken 0 = .ok (.lconst 0, 1) := dk_9 (dk_at dksX9_isBroken_0 0 rfl rfl)
theorem dX9_isBroken_1 : decode cX9_isBroken 1 = .ok (.lstore_n 2, 1) := dk_65 (dk_at dksX9_isBroken_0 1 rfl rfl)
theorem dX9_isBroken_2 : decode cX9_isBroken 2 = .ok (.iconst 0, 1) := dk_3 (dk_at dksX9_isBroken_0 2 rfl rfl)
theorem dX9_isBroken_3 : decode cX9_isBroken 3 = .ok (.istore 4, 2) := dk_54 4 (dk_at dksX9_isBroken_0 3 rfl rfl)
theorem dX9_isBroken_5 : decode cX9_isBroken 5 = .ok (.iload 4, 2) := dk_21 4 (dk_at dksX9_isBroken_0 5 rfl rfl)
theorem dX9_isBroken_7 : decode cX9_isBroken 7 = .ok (.aload_n 0, 1) := dk_42 (dk_at dksX9_isBroken_0 7 rfl rfl)
theorem dX9_isBroken_8 : decode cX9_isBroken 8 = .ok (.invokevirtual 89, 3) := dk_182 0 89 (dk_at dksX9_isBroken_0 8 rfl rfl)
theorem dX9_isBroken_11 : decode cX9_isBroken 11 = .ok (.if_icmp .ge 28, 3) := dk_162 0 28 (dk_at dksX9_isBroken_0 11 rfl rfl)
theorem dX9_isBroken_14 : decode cX9_isBroken 14 = .ok (.lload_n 2, 1) := dk_32 (dk_at dksX9_isBroken_0 14 rfl rfl)
theorem dX9_isBroken_15 : decode cX9_isBroken 15 = .ok (.aload_n 0, 1) := dk_42 (dk_at dksX9_isBroken_0 15 rfl rfl)
theorem dX9_isBroken_16 : decode cX9_isBroken 16 = .ok (.iload_n 1, 1) := dk_27 (dk_at dksX9_isBroken_0 16 rfl rfl)
theorem dX9_isBroken_17 : decode cX9_isBroken 17 = .ok (.iload 4, 2) := dk_21 4 (dk_at dksX9_isBroken_0 17 rfl rfl)
theorem dX9_isBroken_19 : decode cX9_isBroken 19 = .ok (.invokevirtual 217, 3) := dk_182 0 217 (dk_at dksX9_isBroken_0 19 rfl rfl)
theorem dX9_isBroken_22 : decode cX9_isBroken 22 = .ok (.aload_n 0, 1) := dk_42 (dk_at dksX9_isBroken_0 22 rfl rfl)
theorem dX9_isBroken_23 : decode cX9_isBroken 23 = .ok (.getfield 37, 3) := dk_180 0 37 (dk_at dksX9_isBroken_1 0 rfl rfl)
theorem dX9_isBroken_26 : decode cX9_isBroken 26 = .ok (.iload 4, 2) := dk_21 4 (dk_at dksX9_isBroken_1 3 rfl rfl)
theorem dX9_isBroken_28 : decode cX9_isBroken 28 = .ok (.iaload, 1) := dk_46 (dk_at dksX9_isBroken_1 5 rfl rfl)
theorem dX9_isBroken_29 : decode cX9_isBroken 29 = .ok (.i2l, 1) := dk_133 (dk_at dksX9_isBroken_1 6 rfl rfl)
theorem dX9_isBroken_30 : decode cX9_isBroken 30 = .ok (.lmul, 1) := dk_105 (dk_at dksX9_isBroken_1 7 rfl rfl)
theorem dX9_isBroken_31 : decode cX9_isBroken 31 = .ok (.ladd, 1) := dk_97 (dk_at dksX9_isBroken_1 8 rfl rfl)
theorem dX9_isBroken_32 : decode cX9_isBroken 32 = .ok (.lstore_n 2, 1) := dk_65 (dk_at dksX9_isBroken_1 9 rfl rfl)
theorem dX9_isBroken_33 : decode cX9_isBroken 33 = .ok (.iinc 4 1, 3) := dk_132 4 1 (dk_at dksX9_isBroken_1 10 rfl rfl)
theorem dX9_isBroken_36 : decode cX9_isBroken 36 = .ok (.goto (-31), 3) := dk_167 255 225 (dk_at dksX9_isBroken_1 13 rfl rfl)
theorem dX9_isBroken_39 : decode cX9_isBroken 39 = .ok (.lload_n 2, 1) := dk_32 (dk_at dksX9_isBroken_1 16 rfl rfl)
theorem dX9_isBroken_40 : decode cX9_isBroken 40 = .ok (.aload_n 0, 1) := dk_42 (dk_at dksX9_isBroken_1 17 rfl rfl)
theorem dX9_isBroken_41 : decode cX9_isBroken 41 = .ok (.iload_n 1, 1) := dk_27 (dk_at dksX9_isBroken_1 18 rfl rfl)
theorem dX9_isBroken_42 : decode cX9_isBroken 42 = .ok (.invokevirtual 209, 3) := dk_182 0 209 (dk_at dksX9_isBroken_1 19 rfl rfl)
theorem dX9_isBroken_45 : decode cX9_isBroken 45 = .ok (.lcmp, 1) := dk_148 (dk_at dksX9_isBroken_1 22 rfl rfl)
theorem dX9_isBroken_46 : decode cX9_isBroken 46 = .ok (.ifCond .le 7, 3) := dk_158 0 7 (dk_at dksX9_isBroken_2 0 rfl rfl)
theorem dX9_isBroken_49 : decode cX9_isBroken 49 = .ok (.iconst 1, 1) := dk_4 (dk_at dksX9_isBroken_2 3 rfl rfl)
theorem dX9_isBroken_50 : decode cX9_isBroken 50 = .ok (.goto 4, 3) := dk_167 0 4 (dk_at dksX9_isBroken_2 4 rfl rfl)
theorem dX9_isBroken_53 : decode cX9_isBroken 53 = .ok (.iconst 0, 1) := dk_3 (dk_at dksX9_isBroken_2 7 rfl rfl)
theorem dX9_isBroken_54 : decode cX9_isBroken 54 = .ok (.ireturn, 1) := dk_172 (dk_at dksX9_isBroken_2 8 rfl rfl)
abbrev cX9_nextCode : ByteArray := prog_19_method_69_code
def yX9_nextCode : MethodName := ⟨RX9, "nextCode", "(I)I"⟩
def dkwX9_nextCode_4 : List UInt8 := [167, 255, 231, 29, 172]
abbrev dktX9_nextCode_4 : List UInt8 := dkwX9_nextCode_4 ++ []
def dkwX9_nextCode_3 : List UInt8 := [182, 0, 89, 162, 0, 22, 16, 10, 29, 104, 42, 180, 0, 37, 21, 4, 46, 96, 62, 132, 4, 1]
abbrev dktX9_nextCode_3 : List UInt8 := dkwX9_nextCode_3 ++ dktX9_nextCode_4
def dkwX9_nextCode_2 : List UInt8 := [156, 0, 5, 2, 172, 42, 180, 0, 37, 28, 92, 46, 4, 96, 79, 3, 62, 3, 54, 4, 21, 4, 42]
abbrev dktX9_nextCode_2 : List UInt8 := dkwX9_nextCode_2 ++ dktX9_nextCode_3
def dkwX9_nextCode_1 : List UInt8 := [180, 0, 11, 6, 46, 160, 0, 16, 42, 180, 0, 37, 28, 3, 79, 132, 2, 255, 167, 255, 227, 28]
abbrev dktX9_nextCode_1 : List UInt8 := dkwX9_nextCode_1 ++ dktX9_nextCode_2
def dkwX9_nextCode_0 : List UInt8 := [42, 27, 182, 1, 87, 42, 182, 0, 89, 4, 100, 61, 28, 155, 0, 31, 42, 180, 0, 37, 28, 46, 42]
abbrev dktX9_nextCode_0 : List UInt8 := dkwX9_nextCode_0 ++ dktX9_nextCode_1
theorem dksX9_nextCode_0 : cX9_nextCode.data.toList.drop 0 = dktX9_nextCode_0 := by decide +kernel
theorem dksX9_nextCode_1 : cX9_nextCode.data.toList.drop 23 = dktX9_nextCode_1 := dk_seg dksX9_nextCode_0 23 rfl rfl
theorem dksX9_nextCode_2 : cX9_nextCode.data.toList.drop 45 = dktX9_nextCode_2 := dk_seg dksX9_nextCode_1 22 rfl rfl
theorem dksX9_nextCode_3 : cX9_nextCode.data.toList.drop 68 = dktX9_nextCode_3 := dk_seg dksX9_nextCode_2 23 rfl rfl
theorem dksX9_nextCode_4 : cX9_nextCode.data.toList.drop 90 = dktX9_nextCode_4 := dk_seg dksX9_nextCode_3 22 rfl rfl
theorem dX9_nextCode_0 : decode cX9_nextCode 0 = .ok (.aload_n 0, 1) := dk_42 (dk_at dksX9_nextCode_0 0 rfl rfl)
theorem dX9_nextCode_1 : decode cX9_nextCode 1 = .ok (.iload_n 1, 1) := dk_27 (dk_at dksX9_nextCode_0 1 rfl rfl)
theorem dX9_nextCode_2 : decode cX9_nextCode 2 = .ok (.invokevirtual 343, 3) := dk_182 1 87 (dk_at dksX9_nextCode_0 2 rfl rfl)
theorem dX9_nextCode_5 : decode cX9_nextCode 5 = .ok (.aload_n 0, 1) := dk_42 (dk_at dksX9_nextCode_0 5 rfl rfl)
theorem dX9_nextCode_6 : decode cX9_nextCode 6 = .ok (.invokevirtual 89, 3) := dk_182 0 89 (dk_at dksX9_nextCode_0 6 rfl rfl)
theorem dX9_nextCode_9 : decode cX9_nextCode 9 = .ok (.iconst 1, 1) := dk_4 (dk_at dksX9_nextCode_0 9 rfl rfl)
theorem dX9_nextCode_10 : decode cX9_nextCode 10 = .ok (.isub, 1) := dk_100 (dk_at dksX9_nextCode_0 10 rfl rfl)
theorem dX9_nextCode_11 : decode cX9_nextCode 11 = .ok (.istore_n 2, 1) := dk_61 (dk_at dksX9_nextCode_0 11 rfl rfl)
theorem dX9_nextCode_12 : decode cX9_nextCode 12 = .ok (.iload_n 2, 1) := dk_28 (dk_at dksX9_nextCode_0 12 rfl rfl)
theorem dX9_nextCode_13 : decode cX9_nextCode 13 = .ok (.ifCond .lt 31, 3) := dk_155 0 31 (dk_at dksX9_nextCode_0 13 rfl rfl)
theorem dX9_nextCode_16 : decode cX9_nextCode 16 = .ok (.aload_n 0, 1) := dk_42 (dk_at dksX9_nextCode_0 16 rfl rfl)
theorem dX9_nextCode_17 : decode cX9_nextCode 17 = .ok (.getfield 37, 3) := dk_180 0 37 (dk_at dksX9_nextCode_0 17 rfl rfl)
theorem dX9_nextCode_20 : decode cX9_nextCode 20 = .ok (.iload_n 2, 1) := dk_28 (dk_at dksX9_nextCode_0 20 rfl rfl)
theorem dX9_nextCode_21 : decode cX9_nextCode 21 = .ok (.iaload, 1) := dk_46 (dk_at dksX9_nextCode_0 21 rfl rfl)
theorem dX9_nextCode_22 : decode cX9_nextCode 22 = .ok (.aload_n 0, 1) := dk_42 (dk_at dksX9_nextCode_0 22 rfl rfl)
theorem dX9_nextCode_23 : decode cX9_nextCode 23 = .ok (.getfield 11, 3) := dk_180 0 11 (dk_at dksX9_nextCode_1 0 rfl rfl)
theorem dX9_nextCode_26 : decode cX9_nextCode 26 = .ok (.iconst 3, 1) := dk_6 (dk_at dksX9_nextCode_1 3 rfl rfl)
theorem dX9_nextCode_27 : decode cX9_nextCode 27 = .ok (.iaload, 1) := dk_46 (dk_at dksX9_nextCode_1 4 rfl rfl)
theorem dX9_nextCode_28 : decode cX9_nextCode 28 = .ok (.if_icmp .ne 16, 3) := dk_160 0 16 (dk_at dksX9_nextCode_1 5 rfl rfl)
theorem dX9_nextCode_31 : decode cX9_nextCode 31 = .ok (.aload_n 0, 1) := dk_42 (dk_at dksX9_nextCode_1 8 rfl rfl)
theorem dX9_nextCode_32 : decode cX9_nextCode 32 = .ok (.getfield 37, 3) := dk_180 0 37 (dk_at dksX9_nextCode_1 9 rfl rfl)
theorem dX9_nextCode_35 : decode cX9_nextCode 35 = .ok (.iload_n 2, 1) := dk_28 (dk_at dksX9_nextCode_1 12 rfl rfl)
theorem dX9_nextCode_36 : decode cX9_nextCode 36 = .ok (.iconst 0, 1) := dk_3 (dk_at dksX9_nextCode_1 13 rfl rfl)
theorem dX9_nextCode_37 : decode cX9_nextCode 37 = .ok (.iastore, 1) := dk_79 (dk_at dksX9_nextCode_1 14 rfl rfl)
theorem dX9_nextCode_38 : decode cX9_nextCode 38 = .ok (.iinc 2 (-1), 3) := dk_132 2 255 (dk_at dksX9_nextCode_1 15 rfl rfl)
theorem dX9_nextCode_41 : decode cX9_nextCode 41 = .ok (.goto (-29), 3) := dk_167 255 227 (dk_at dksX9_nextCode_1 18 rfl rfl)
theorem dX9_nextCode_44 : decode cX9_nextCode 44 = .ok (.iload_n 2, 1) := dk_28 (dk_at dksX9_nextCode_1 21 rfl rfl)
theorem dX9_nextCode_45 : decode cX9_nextCode 45 = .ok (.ifCond .ge 5, 3) := dk_156 0 5 (dk_at dksX9_nextCode_2 0 rfl rfl)
theorem dX9_nextCode_48 : decode cX9_nextCode 48 = .ok (.iconst (-1), 1) := dk_2 (dk_at dksX9_nextCode_2 3 rfl rfl)
theorem dX9_nextCode_49 : decode cX9_nextCode 49 = .ok (.ireturn, 1) := dk_172 (dk_at dksX9_nextCode_2 4 rfl rfl)
theorem dX9_nextCode_50 : decode cX9_nextCode 50 = .ok (.aload_n 0, 1) := dk_42 (dk_at dksX9_nextCode_2 5 rfl rfl)
theorem dX9_nextCode_51 : decode cX9_nextCode 51 = .ok (.getfield 37, 3) := dk_180 0 37 (dk_at dksX9_nextCode_2 6 rfl rfl)
theorem dX9_nextCode_54 : decode cX9_nextCode 54 = .ok (.iload_n 2, 1) := dk_28 (dk_at dksX9_nextCode_2 9 rfl rfl)
theorem dX9_nextCode_55 : decode cX9_nextCode 55 = .ok (.dup2, 1) := dk_92 (dk_at dksX9_nextCode_2 10 rfl rfl)
theorem dX9_nextCode_56 : decode cX9_nextCode 56 = .ok (.iaload, 1) := dk_46 (dk_at dksX9_nextCode_2 11 rfl rfl)
theorem dX9_nextCode_57 : decode cX9_nextCode 57 = .ok (.iconst 1, 1) := dk_4 (dk_at dksX9_nextCode_2 12 rfl rfl)
theorem dX9_nextCode_58 : decode cX9_nextCode 58 = .ok (.iadd, 1) := dk_96 (dk_at dksX9_nextCode_2 13 rfl rfl)
theorem dX9_nextCode_59 : decode cX9_nextCode 59 = .ok (.iastore, 1) := dk_79 (dk_at dksX9_nextCode_2 14 rfl rfl)
theorem dX9_nextCode_60 : decode cX9_nextCode 60 = .ok (.iconst 0, 1) := dk_3 (dk_at dksX9_nextCode_2 15 rfl rfl)
theorem dX9_nextCode_61 : decode cX9_nextCode 61 = .ok (.istore_n 3, 1) := dk_62 (dk_at dksX9_nextCode_2 16 rfl rfl)
theorem dX9_nextCode_62 : decode cX9_nextCode 62 = .ok (.iconst 0, 1) := dk_3 (dk_at dksX9_nextCode_2 17 rfl rfl)
theorem dX9_nextCode_63 : decode cX9_nextCode 63 = .ok (.istore 4, 2) := dk_54 4 (dk_at dksX9_nextCode_2 18 rfl rfl)
theorem dX9_nextCode_65 : decode cX9_nextCode 65 = .ok (.iload 4, 2) := dk_21 4 (dk_at dksX9_nextCode_2 20 rfl rfl)
theorem dX9_nextCode_67 : decode cX9_nextCode 67 = .ok (.aload_n 0, 1) := dk_42 (dk_at dksX9_nextCode_2 22 rfl rfl)
theorem dX9_nextCode_68 : decode cX9_nextCode 68 = .ok (.invokevirtual 89, 3) := dk_182 0 89 (dk_at dksX9_nextCode_3 0 rfl rfl)
theorem dX9_nextCode_71 : decode cX9_nextCode 71 = .ok (.if_icmp .ge 22, 3) := dk_162 0 22 (dk_at dksX9_nextCode_3 3 rfl rfl)
theorem dX9_nextCode_74 : decode cX9_nextCode 74 = .ok (.bipush 10, 2) := dk_16 10 (dk_at dksX9_nextCode_3 6 rfl rfl)
theorem dX9_nextCode_76 : decode cX9_nextCode 76 = .ok (.iload_n 3, 1) := dk_29 (dk_at dksX9_nextCode_3 8 rfl rfl)
theorem dX9_nextCode_77 : decode cX9_nextCode 77 = .ok (.imul, 1) := dk_104 (dk_at dksX9_nextCode_3 9 rfl rfl)
theorem dX9_nextCode_78 : decode cX9_nextCode 78 = .ok (.aload_n 0, 1) := dk_42 (dk_at dksX9_nextCode_3 10 rfl rfl)
theorem dX9_nextCode_79 : decode cX9_nextCode 79 = .ok (.getfield 37, 3) := dk_180 0 37 (dk_at dksX9_nextCode_3 11 rfl rfl)
theorem dX9_nextCode_82 : decode cX9_nextCode 82 = .ok (.iload 4, 2) := dk_21 4 (dk_at dksX9_nextCode_3 14 rfl rfl)
theorem dX9_nextCode_84 : decode cX9_nextCode 84 = .ok (.iaload, 1) := dk_46 (dk_at dksX9_nextCode_3 16 rfl rfl)
theorem dX9_nextCode_85 : decode cX9_nextCode 85 = .ok (.iadd, 1) := dk_96 (dk_at dksX9_nextCode_3 17 rfl rfl)
theorem dX9_nextCode_86 : decode cX9_nextCode 86 = .ok (.istore_n 3, 1) := dk_62 (dk_at dksX9_nextCode_3 18 rfl rfl)
theorem dX9_nextCode_87 : decode cX9_nextCode 87 = .ok (.iinc 4 1, 3) := dk_132 4 1 (dk_at dksX9_nextCode_3 19 rfl rfl)
theorem dX9_nextCode_90 : decode cX9_nextCode 90 = .ok (.goto (-25), 3) := dk_167 255 231 (dk_at dksX9_nextCode_4 0 rfl rfl)
theorem dX9_nextCode_93 : decode cX9_nextCode 93 = .ok (.iload_n 3, 1) := dk_29 (dk_at dksX9_nextCode_4 3 rfl rfl)
theorem dX9_nextCode_94 : decode cX9_nextCode 94 = .ok (.ireturn, 1) := dk_172 (dk_at dksX9_nextCode_4 4 rfl rfl)
abbrev cX9_many : ByteArray := prog_19_method_72_code
def yX9_many : MethodName := ⟨RX9, "many", "(I)I"⟩
def dkwX9_many_2 : List UInt8 := [62, 167, 255, 225, 28, 172]
abbrev dktX9_many_2 : List UInt8 := dkwX9_many_2 ++ []
def dkwX9_many_1 : List UInt8 := [182, 1, 87, 28, 42, 182, 1, 100, 27, 160, 0, 7, 4, 167, 0, 4, 3, 96, 61, 42, 29, 182, 1, 106]
abbrev dktX9_many_1 : List UInt8 := dkwX9_many_1 ++ dktX9_many_2
def dkwX9_many_0 : List UInt8 := [27, 133, 9, 10, 184, 0, 93, 154, 0, 5, 2, 172, 3, 61, 3, 62, 29, 155, 0, 33, 42, 29]
abbrev dktX9_many_0 : List UInt8 := dkwX9_many_0 ++ dktX9_many_1
theorem dksX9_many_0 : cX9_many.data.toList.drop 0 = dktX9_many_0 := by decide +kernel
theorem dksX9_many_1 : cX9_many.data.toList.drop 22 = dktX9_many_1 := dk_seg dksX9_many_0 22 rfl rfl
theorem dksX9_many_2 : cX9_many.data.toList.drop 46 = dktX9_many_2 := dk_seg dksX9_many_1 24 rfl rfl
theorem dX9_many_0 : decode cX9_many 0 = .ok (.iload_n 1, 1) := dk_27 (dk_at dksX9_many_0 0 rfl rfl)
theorem dX9_many_1 : decode cX9_many 1 = .ok (.i2l, 1) := dk_133 (dk_at dksX9_many_0 1 rfl rfl)
theorem dX9_many_2 : decode cX9_many 2 = .ok (.lconst 0, 1) := dk_9 (dk_at dksX9_many_0 2 rfl rfl)
theorem dX9_many_3 : decode cX9_many 3 = .ok (.lconst 1, 1) := dk_10 (dk_at dksX9_many_0 3 rfl rfl)
theorem dX9_many_4 : decode cX9_many 4 = .ok (.invokestatic 93, 3) := dk_184 0 93 (dk_at dksX9_many_0 4 rfl rfl)
theorem dX9_many_7 : decode cX9_many 7 = .ok (.ifCond .ne 5, 3) := dk_154 0 5 (dk_at dksX9_many_0 7 rfl rfl)
theorem dX9_many_10 : decode cX9_many 10 = .ok (.iconst (-1), 1) := dk_2 (dk_at dksX9_many_0 10 rfl rfl)
theorem dX9_many_11 : decode cX9_many 11 = .ok (.ireturn, 1) := dk_172 (dk_at dksX9_many_0 11 rfl rfl)
theorem dX9_many_12 : decode cX9_many 12 = .ok (.iconst 0, 1) := dk_3 (dk_at dksX9_many_0 12 rfl rfl)
theorem dX9_many_13 : decode cX9_many 13 = .ok (.istore_n 2, 1) := dk_61 (dk_at dksX9_many_0 13 rfl rfl)
theorem dX9_many_14 : decode cX9_many 14 = .ok (.iconst 0, 1) := dk_3 (dk_at dksX9_many_0 14 rfl rfl)
theorem dX9_many_15 : decode cX9_many 15 = .ok (.istore_n 3, 1) := dk_62 (dk_at dksX9_many_0 15 rfl rfl)
theorem dX9_many_16 : decode cX9_many 16 = .ok (.iload_n 3, 1) := dk_29 (dk_at dksX9_many_0 16 rfl rfl)
theorem dX9_many_17 : decode cX9_many 17 = .ok (.ifCond .lt 33, 3) := dk_155 0 33 (dk_at dksX9_many_0 17 rfl rfl)
theorem dX9_many_20 : decode cX9_many 20 = .ok (.aload_n 0, 1) := dk_42 (dk_at dksX9_many_0 20 rfl rfl)
theorem dX9_many_21 : decode cX9_many 21 = .ok (.iload_n 3, 1) := dk_29 (dk_at dksX9_many_0 21 rfl rfl)
theorem dX9_many_22 : decode cX9_many 22 = .ok (.invokevirtual 343, 3) := dk_182 1 87 (dk_at dksX9_many_1 0 rfl rfl)
theorem dX9_many_25 : decode cX9_many 25 = .ok (.iload_n 2, 1) := dk_28 (dk_at dksX9_many_1 3 rfl rfl)
theorem dX9_many_26 : decode cX9_many 26 = .ok (.aload_n 0, 1) := dk_42 (dk_at dksX9_many_1 4 rfl rfl)
theorem dX9_many_27 : decode cX9_many 27 = .ok (.invokevirtual 356, 3) := dk_182 1 100 (dk_at dksX9_many_1 5 rfl rfl)
theorem dX9_many_30 : decode cX9_many 30 = .ok (.iload_n 1, 1) := dk_27 (dk_at dksX9_many_1 8 rfl rfl)
theorem dX9_many_31 : decode cX9_many 31 = .ok (.if_icmp .ne 7, 3) := dk_160 0 7 (dk_at dksX9_many_1 9 rfl rfl)
theorem dX9_many_34 : decode cX9_many 34 = .ok (.iconst 1, 1) := dk_4 (dk_at dksX9_many_1 12 rfl rfl)
theorem dX9_many_35 : decode cX9_many 35 = .ok (.goto 4, 3) := dk_167 0 4 (dk_at dksX9_many_1 13 rfl rfl)
theorem dX9_many_38 : decode cX9_many 38 = .ok (.iconst 0, 1) := dk_3 (dk_at dksX9_many_1 16 rfl rfl)
theorem dX9_many_39 : decode cX9_many 39 = .ok (.iadd, 1) := dk_96 (dk_at dksX9_many_1 17 rfl rfl)
theorem dX9_many_40 : decode cX9_many 40 = .ok (.istore_n 2, 1) := dk_61 (dk_at dksX9_many_1 18 rfl rfl)
theorem dX9_many_41 : decode cX9_many 41 = .ok (.aload_n 0, 1) := dk_42 (dk_at dksX9_many_1 19 rfl rfl)
theorem dX9_many_42 : decode cX9_many 42 = .ok (.iload_n 3, 1) := dk_29 (dk_at dksX9_many_1 20 rfl rfl)
theorem dX9_many_43 : decode cX9_many 43 = .ok (.invokevirtual 362, 3) := dk_182 1 106 (dk_at dksX9_many_1 21 rfl rfl)
theorem dX9_many_46 : decode cX9_many 46 = .ok (.istore_n 3, 1) := dk_62 (dk_at dksX9_many_2 0 rfl rfl)
theorem dX9_many_47 : decode cX9_many 47 = .ok (.goto (-31), 3) := dk_167 255 225 (dk_at dksX9_many_2 1 rfl rfl)
theorem dX9_many_50 : decode cX9_many 50 = .ok (.iload_n 2, 1) := dk_28 (dk_at dksX9_many_2 4 rfl rfl)
theorem dX9_many_51 : decode cX9_many 51 = .ok (.ireturn, 1) := dk_172 (dk_at dksX9_many_2 5 rfl rfl)
abbrev cX9_breaks : ByteArray := prog_19_method_73_code
def yX9_breaks : MethodName := ⟨RX9, "breaks", "(I)I"⟩
def dkwX9_breaks_1 : List UInt8 := [46, 162, 0, 19, 42, 28, 182, 1, 90, 153, 0, 5, 28, 172, 132, 2, 1, 167, 255, 233, 16, 251, 172]
abbrev dktX9_breaks_1 : List UInt8 := dkwX9_breaks_1 ++ []
def dkwX9_breaks_0 : List UInt8 := [42, 27, 182, 1, 109, 154, 0, 6, 16, 254, 172, 42, 27, 182, 1, 87, 3, 61, 28, 42, 180, 0, 11, 4]
abbrev dktX9_breaks_0 : List UInt8 := dkwX9_breaks_0 ++ dktX9_breaks_1
theorem dksX9_breaks_0 : cX9_breaks.data.toList.drop 0 = dktX9_breaks_0 := by decide +kernel
theorem dksX9_breaks_1 : cX9_breaks.data.toList.drop 24 = dktX9_breaks_1 := dk_seg dksX9_breaks_0 24 rfl rfl
theorem dX9_breaks_0 : decode cX9_breaks 0 = .ok (.aload_n 0, 1) := dk_42 (dk_at dksX9_breaks_0 0 rfl rfl)
theorem dX9_breaks_1 : decode cX9_breaks 1 = .ok (.iload_n 1, 1) := dk_27 (dk_at dksX9_breaks_0 1 rfl rfl)
theorem dX9_breaks_2 : decode cX9_breaks 2 = .ok (.invokevirtual 365, 3) := dk_182 1 109 (dk_at dksX9_breaks_0 2 rfl rfl)
theorem dX9_breaks_5 : decode cX9_breaks 5 = .ok (.ifCond .ne 6, 3) := dk_154 0 6 (dk_at dksX9_breaks_0 5 rfl rfl)
theorem dX9_breaks_8 : decode cX9_breaks 8 = .ok (.bipush (-2), 2) := dk_16 254 (dk_at dksX9_breaks_0 8 rfl rfl)
theorem dX9_breaks_10 : decode cX9_breaks 10 = .ok (.ireturn, 1) := dk_172 (dk_at dksX9_breaks_0 10 rfl rfl)
theorem dX9_breaks_11 : decode cX9_breaks 11 = .ok (.aload_n 0, 1) := dk_42 (dk_at dksX9_breaks_0 11 rfl rfl)
theorem dX9_breaks_12 : decode cX9_breaks 12 = .ok (.iload_n 1, 1) := dk_27 (dk_at dksX9_breaks_0 12 rfl rfl)
theorem dX9_breaks_13 : decode cX9_breaks 13 = .ok (.invokevirtual 343, 3) := dk_182 1 87 (dk_at dksX9_breaks_0 13 rfl rfl)
theorem dX9_breaks_16 : decode cX9_breaks 16 = .ok (.iconst 0, 1) := dk_3 (dk_at dksX9_breaks_0 16 rfl rfl)
theorem dX9_breaks_17 : decode cX9_breaks 17 = .ok (.istore_n 2, 1) := dk_61 (dk_at dksX9_breaks_0 17 rfl rfl)
theorem dX9_breaks_18 : decode cX9_breaks 18 = .ok (.iload_n 2, 1) := dk_28 (dk_at dksX9_breaks_0 18 rfl rfl)
theorem dX9_breaks_19 : decode cX9_breaks 19 = .ok (.aload_n 0, 1) := dk_42 (dk_at dksX9_breaks_0 19 rfl rfl)
theorem dX9_breaks_20 : decode cX9_breaks 20 = .ok (.getfield 11, 3) := dk_180 0 11 (dk_at dksX9_breaks_0 20 rfl rfl)
theorem dX9_breaks_23 : decode cX9_breaks 23 = .ok (.iconst 1, 1) := dk_4 (dk_at dksX9_breaks_0 23 rfl rfl)
theorem dX9_breaks_24 : decode cX9_breaks 24 = .ok (.iaload, 1) := dk_46 (dk_at dksX9_breaks_1 0 rfl rfl)
theorem dX9_breaks_25 : decode cX9_breaks 25 = .ok (.if_icmp .ge 19, 3) := dk_162 0 19 (dk_at dksX9_breaks_1 1 rfl rfl)
theorem dX9_breaks_28 : decode cX9_breaks 28 = .ok (.aload_n 0, 1) := dk_42 (dk_at dksX9_breaks_1 4 rfl rfl)
theorem dX9_breaks_29 : decode cX9_breaks 29 = .ok (.iload_n 2, 1) := dk_28 (dk_at dksX9_breaks_1 5 rfl rfl)
theorem dX9_breaks_30 : decode cX9_breaks 30 = .ok (.invokevirtual 346, 3) := dk_182 1 90 (dk_at dksX9_breaks_1 6 rfl rfl)
theorem dX9_breaks_33 : decode cX9_breaks 33 = .ok (.ifCond .eq 5, 3) := dk_153 0 5 (dk_at dksX9_breaks_1 9 rfl rfl)
theorem dX9_breaks_36 : decode cX9_breaks 36 = .ok (.iload_n 2, 1) := dk_28 (dk_at dksX9_breaks_1 12 rfl rfl)
theorem dX9_breaks_37 : decode cX9_breaks 37 = .ok (.ireturn, 1) := dk_172 (dk_at dksX9_breaks_1 13 rfl rfl)
theorem dX9_breaks_38 : decode cX9_breaks 38 = .ok (.iinc 2 1, 3) := dk_132 2 1 (dk_at dksX9_breaks_1 14 rfl rfl)
theorem dX9_breaks_41 : decode cX9_breaks 41 = .ok (.goto (-23), 3) := dk_167 255 233 (dk_at dksX9_breaks_1 17 rfl rfl)
theorem dX9_breaks_44 : decode cX9_breaks 44 = .ok (.bipush (-5), 2) := dk_16 251 (dk_at dksX9_breaks_1 20 rfl rfl)
theorem dX9_breaks_46 : decode cX9_breaks 46 = .ok (.ireturn, 1) := dk_172 (dk_at dksX9_breaks_1 22 rfl rfl)
abbrev cX9_isCode : ByteArray := prog_19_method_64_code
def yX9_isCode : MethodName := ⟨RX9, "isCode", "(I)Z"⟩
def dkwX9_isCode_0 : List UInt8 := [27, 133, 9, 42, 182, 1, 84, 4, 100, 133, 184, 0, 93, 172]
abbrev dktX9_isCode_0 : List UInt8 := dkwX9_isCode_0 ++ []
theorem dksX9_isCode_0 : cX9_isCode.data.toList.drop 0 = dktX9_isCode_0 := by decide +kernel
theorem dX9_isCode_0 : decode cX9_isCode 0 = .ok (.iload_n 1, 1) := dk_27 (dk_at dksX9_isCode_0 0 rfl rfl)
theorem dX9_isCode_1 : decode cX9_isCode 1 = .ok (.i2l, 1) := dk_133 (dk_at dksX9_isCode_0 1 rfl rfl)
theorem dX9_isCode_2 : decode cX9_isCode 2 = .ok (.lconst 0, 1) := dk_9 (dk_at dksX9_isCode_0 2 rfl rfl)
theorem dX9_isCode_3 : decode cX9_isCode 3 = .ok (.aload_n 0, 1) := dk_42 (dk_at dksX9_isCode_0 3 rfl rfl)
theorem dX9_isCode_4 : decode cX9_isCode 4 = .ok (.invokevirtual 340, 3) := dk_182 1 84 (dk_at dksX9_isCode_0 4 rfl rfl)
theorem dX9_isCode_7 : decode cX9_isCode 7 = .ok (.iconst 1, 1) := dk_4 (dk_at dksX9_isCode_0 7 rfl rfl)
theorem dX9_isCode_8 : decode cX9_isCode 8 = .ok (.isub, 1) := dk_100 (dk_at dksX9_isCode_0 8 rfl rfl)
theorem dX9_isCode_9 : decode cX9_isCode 9 = .ok (.i2l, 1) := dk_133 (dk_at dksX9_isCode_0 9 rfl rfl)
theorem dX9_isCode_10 : decode cX9_isCode 10 = .ok (.invokestatic 93, 3) := dk_184 0 93 (dk_at dksX9_isCode_0 10 rfl rfl)
theorem dX9_isCode_13 : decode cX9_isCode 13 = .ok (.ireturn, 1) := dk_172 (dk_at dksX9_isCode_0 13 rfl rfl)
abbrev cX9_codes : ByteArray := prog_19_method_63_code
def yX9_codes : MethodName := ⟨RX9, "codes", "()I"⟩
def dkwX9_codes_1 : List UInt8 := [172]
abbrev dktX9_codes_1 : List UInt8 := dkwX9_codes_1 ++ []
def dkwX9_codes_0 : List UInt8 := [4, 60, 3, 61, 28, 42, 182, 0, 89, 162, 0, 14, 27, 16, 10, 104, 60, 132, 2, 1, 167, 255, 240, 27]
abbrev dktX9_codes_0 : List UInt8 := dkwX9_codes_0 ++ dktX9_codes_1
theorem dksX9_codes_0 : cX9_codes.data.toList.drop 0 = dktX9_codes_0 := by decide +kernel
theorem dksX9_codes_1 : cX9_codes.data.toList.drop 24 = dktX9_codes_1 := dk_seg dksX9_codes_0 24 rfl rfl
theorem dX9_codes_0 : decode cX9_codes 0 = .ok (.iconst 1, 1) := dk_4 (dk_at dksX9_codes_0 0 rfl rfl)
theorem dX9_codes_1 : decode cX9_codes 1 = .ok (.istore_n 1, 1) := dk_60 (dk_at dksX9_codes_0 1 rfl rfl)
theorem dX9_codes_2 : decode cX9_codes 2 = .ok (.iconst 0, 1) := dk_3 (dk_at dksX9_codes_0 2 rfl rfl)
theorem dX9_codes_3 : decode cX9_codes 3 = .ok (.istore_n 2, 1) := dk_61 (dk_at dksX9_codes_0 3 rfl rfl)
theorem dX9_codes_4 : decode cX9_codes 4 = .ok (.iload_n 2, 1) := dk_28 (dk_at dksX9_codes_0 4 rfl rfl)
theorem dX9_codes_5 : decode cX9_codes 5 = .ok (.aload_n 0, 1) := dk_42 (dk_at dksX9_codes_0 5 rfl rfl)
theorem dX9_codes_6 : decode cX9_codes 6 = .ok (.invokevirtual 89, 3) := dk_182 0 89 (dk_at dksX9_codes_0 6 rfl rfl)
theorem dX9_codes_9 : decode cX9_codes 9 = .ok (.if_icmp .ge 14, 3) := dk_162 0 14 (dk_at dksX9_codes_0 9 rfl rfl)
theorem dX9_codes_12 : decode cX9_codes 12 = .ok (.iload_n 1, 1) := dk_27 (dk_at dksX9_codes_0 12 rfl rfl)
theorem dX9_codes_13 : decode cX9_codes 13 = .ok (.bipush 10, 2) := dk_16 10 (dk_at dksX9_codes_0 13 rfl rfl)
theorem dX9_codes_15 : decode cX9_codes 15 = .ok (.imul, 1) := dk_104 (dk_at dksX9_codes_0 15 rfl rfl)
theorem dX9_codes_16 : decode cX9_codes 16 = .ok (.istore_n 1, 1) := dk_60 (dk_at dksX9_codes_0 16 rfl rfl)
theorem dX9_codes_17 : decode cX9_codes 17 = .ok (.iinc 2 1, 3) := dk_132 2 1 (dk_at dksX9_codes_0 17 rfl rfl)
theorem dX9_codes_20 : decode cX9_codes 20 = .ok (.goto (-16), 3) := dk_167 255 240 (dk_at dksX9_codes_0 20 rfl rfl)
theorem dX9_codes_23 : decode cX9_codes 23 = .ok (.iload_n 1, 1) := dk_27 (dk_at dksX9_codes_0 23 rfl rfl)
theorem dX9_codes_24 : decode cX9_codes 24 = .ok (.ireturn, 1) := dk_172 (dk_at dksX9_codes_1 0 rfl rfl)
abbrev cX9_lost : ByteArray := prog_19_method_75_code
def yX9_lost : MethodName := ⟨RX9, "lost", "(I)I"⟩
def dkwX9_lost_2 : List UInt8 := [182, 1, 106, 61, 167, 255, 224, 16, 251, 172]
abbrev dktX9_lost_2 : List UInt8 := dkwX9_lost_2 ++ []
def dkwX9_lost_1 : List UInt8 := [182, 1, 87, 42, 27, 182, 1, 112, 153, 0, 12, 42, 182, 1, 100, 154, 0, 5, 28, 172, 42, 28]
abbrev dktX9_lost_1 : List UInt8 := dkwX9_lost_1 ++ dktX9_lost_2
def dkwX9_lost_0 : List UInt8 := [27, 2, 159, 0, 13, 42, 27, 182, 1, 65, 154, 0, 5, 2, 172, 3, 61, 28, 155, 0, 34, 42, 28]
abbrev dktX9_lost_0 : List UInt8 := dkwX9_lost_0 ++ dktX9_lost_1
theorem dksX9_lost_0 : cX9_lost.data.toList.drop 0 = dktX9_lost_0 := by decide +kernel
theorem dksX9_lost_1 : cX9_lost.data.toList.drop 23 = dktX9_lost_1 := dk_seg dksX9_lost_0 23 rfl rfl
theorem dksX9_lost_2 : cX9_lost.data.toList.drop 45 = dktX9_lost_2 := dk_seg dksX9_lost_1 22 rfl rfl
theorem dX9_lost_0 : decode cX9_lost 0 = .ok (.iload_n 1, 1) := dk_27 (dk_at dksX9_lost_0 0 rfl rfl)
theorem dX9_lost_1 : decode cX9_lost 1 = .ok (.iconst (-1), 1) := dk_2 (dk_at dksX9_lost_0 1 rfl rfl)
theorem dX9_lost_2 : decode cX9_lost 2 = .ok (.if_icmp .eq 13, 3) := dk_159 0 13 (dk_at dksX9_lost_0 2 rfl rfl)
theorem dX9_lost_5 : decode cX9_lost 5 = .ok (.aload_n 0, 1) := dk_42 (dk_at dksX9_lost_0 5 rfl rfl)
theorem dX9_lost_6 : decode cX9_lost 6 = .ok (.iload_n 1, 1) := dk_27 (dk_at dksX9_lost_0 6 rfl rfl)
theorem dX9_lost_7 : decode cX9_lost 7 = .ok (.invokevirtual 321, 3) := dk_182 1 65 (dk_at dksX9_lost_0 7 rfl rfl)
theorem dX9_lost_10 : decode cX9_lost 10 = .ok (.ifCond .ne 5, 3) := dk_154 0 5 (dk_at dksX9_lost_0 10 rfl rfl)
theorem dX9_lost_13 : decode cX9_lost 13 = .ok (.iconst (-1), 1) := dk_2 (dk_at dksX9_lost_0 13 rfl rfl)
theorem dX9_lost_14 : decode cX9_lost 14 = .ok (.ireturn, 1) := dk_172 (dk_at dksX9_lost_0 14 rfl rfl)
theorem dX9_lost_15 : decode cX9_lost 15 = .ok (.iconst 0, 1) := dk_3 (dk_at dksX9_lost_0 15 rfl rfl)
theorem dX9_lost_16 : decode cX9_lost 16 = .ok (.istore_n 2, 1) := dk_61 (dk_at dksX9_lost_0 16 rfl rfl)
theorem dX9_lost_17 : decode cX9_lost 17 = .ok (.iload_n 2, 1) := dk_28 (dk_at dksX9_lost_0 17 rfl rfl)
theorem dX9_lost_18 : decode cX9_lost 18 = .ok (.ifCond .lt 34, 3) := dk_155 0 34 (dk_at dksX9_lost_0 18 rfl rfl)
theorem dX9_lost_21 : decode cX9_lost 21 = .ok (.aload_n 0, 1) := dk_42 (dk_at dksX9_lost_0 21 rfl rfl)
theorem dX9_lost_22 : decode cX9_lost 22 = .ok (.iload_n 2, 1) := dk_28 (dk_at dksX9_lost_0 22 rfl rfl)
theorem dX9_lost_23 : decode cX9_lost 23 = .ok (.invokevirtual 343, 3) := dk_182 1 87 (dk_at dksX9_lost_1 0 rfl rfl)
theorem dX9_lost_26 : decode cX9_lost 26 = .ok (.aload_n 0, 1) := dk_42 (dk_at dksX9_lost_1 3 rfl rfl)
theorem dX9_lost_27 : decode cX9_lost 27 = .ok (.iload_n 1, 1) := dk_27 (dk_at dksX9_lost_1 4 rfl rfl)
theorem dX9_lost_28 : decode cX9_lost 28 = .ok (.invokevirtual 368, 3) := dk_182 1 112 (dk_at dksX9_lost_1 5 rfl rfl)
theorem dX9_lost_31 : decode cX9_lost 31 = .ok (.ifCond .eq 12, 3) := dk_153 0 12 (dk_at dksX9_lost_1 8 rfl rfl)
theorem dX9_lost_34 : decode cX9_lost 34 = .ok (.aload_n 0, 1) := dk_42 (dk_at dksX9_lost_1 11 rfl rfl)
theorem dX9_lost_35 : decode cX9_lost 35 = .ok (.invokevirtual 356, 3) := dk_182 1 100 (dk_at dksX9_lost_1 12 rfl rfl)
theorem dX9_lost_38 : decode cX9_lost 38 = .ok (.ifCond .ne 5, 3) := dk_154 0 5 (dk_at dksX9_lost_1 15 rfl rfl)
theorem dX9_lost_41 : decode cX9_lost 41 = .ok (.iload_n 2, 1) := dk_28 (dk_at dksX9_lost_1 18 rfl rfl)
theorem dX9_lost_42 : decode cX9_lost 42 = .ok (.ireturn, 1) := dk_172 (dk_at dksX9_lost_1 19 rfl rfl)
theorem dX9_lost_43 : decode cX9_lost 43 = .ok (.aload_n 0, 1) := dk_42 (dk_at dksX9_lost_1 20 rfl rfl)
theorem dX9_lost_44 : decode cX9_lost 44 = .ok (.iload_n 2, 1) := dk_28 (dk_at dksX9_lost_1 21 rfl rfl)
theorem dX9_lost_45 : decode cX9_lost 45 = .ok (.invokevirtual 362, 3) := dk_182 1 106 (dk_at dksX9_lost_2 0 rfl rfl)
theorem dX9_lost_48 : decode cX9_lost 48 = .ok (.istore_n 2, 1) := dk_61 (dk_at dksX9_lost_2 3 rfl rfl)
theorem dX9_lost_49 : decode cX9_lost 49 = .ok (.goto (-32), 3) := dk_167 255 224 (dk_at dksX9_lost_2 4 rfl rfl)
theorem dX9_lost_52 : decode cX9_lost 52 = .ok (.bipush (-5), 2) := dk_16 251 (dk_at dksX9_lost_2 7 rfl rfl)
theorem dX9_lost_54 : decode cX9_lost 54 = .ok (.ireturn, 1) := dk_172 (dk_at dksX9_lost_2 9 rfl rfl)
abbrev cX9_isLost : ByteArray := prog_19_method_74_code
def yX9_isLost : MethodName := ⟨RX9, "isLost", "(I)Z"⟩
def dkwX9_isLost_3 : List UInt8 := [42, 182, 0, 89, 182, 1, 70, 148, 158, 0, 7, 4, 167, 0, 4, 3, 172]
abbrev dktX9_isLost_3 : List UInt8 := dkwX9_isLost_3 ++ []
def dkwX9_isLost_2 : List UInt8 := [132, 4, 1, 167, 255, 212, 32, 27, 156, 0, 14, 42, 42, 182, 0, 89, 182, 1, 81, 167, 0, 12, 42, 27]
abbrev dktX9_isLost_2 : List UInt8 := dkwX9_isLost_2 ++ dktX9_isLost_3
def dkwX9_isLost_1 : List UInt8 := [182, 1, 81, 167, 0, 10, 42, 27, 21, 4, 182, 1, 70, 42, 180, 0, 37, 21, 4, 46, 133, 105, 97, 65]
abbrev dktX9_isLost_1 : List UInt8 := dkwX9_isLost_1 ++ dktX9_isLost_2
def dkwX9_isLost_0 : List UInt8 := [9, 65, 3, 54, 4, 21, 4, 42, 182, 0, 89, 162, 0, 41, 32, 27, 156, 0, 12, 42, 21, 4]
abbrev dktX9_isLost_0 : List UInt8 := dkwX9_isLost_0 ++ dktX9_isLost_1
theorem dksX9_isLost_0 : cX9_isLost.data.toList.drop 0 = dktX9_isLost_0 := by decide +kernel
theorem dksX9_isLost_1 : cX9_isLost.data.toList.drop 22 = dktX9_isLost_1 := dk_seg dksX9_isLost_0 22 rfl rfl
theorem dksX9_isLost_2 : cX9_isLost.data.toList.drop 46 = dktX9_isLost_2 := dk_seg dksX9_isLost_1 24 rfl rfl
theorem dksX9_isLost_3 : cX9_isLost.data.toList.drop 70 = dktX9_isLost_3 := dk_seg dksX9_isLost_2 24 rfl rfl
theorem dX9_isLost_0 : decode cX9_isLost 0 = .ok (.lconst 0, 1) := dk_9 (dk_at dksX9_isLost_0 0 rfl rfl)
theorem dX9_isLost_1 : decode cX9_isLost 1 = .ok (.lstore_n 2, 1) := dk_65 (dk_at dksX9_isLost_0 1 rfl rfl)
theorem dX9_isLost_2 : decode cX9_isLost 2 = .ok (.iconst 0, 1) := dk_3 (dk_at dksX9_isLost_0 2 rfl rfl)
theorem dX9_isLost_3 : decode cX9_isLost 3 = .ok (.istore 4, 2) := dk_54 4 (dk_at dksX9_isLost_0 3 rfl rfl)
theorem dX9_isLost_5 : decode cX9_isLost 5 = .ok (.iload 4, 2) := dk_21 4 (dk_at dksX9_isLost_0 5 rfl rfl)
theorem dX9_isLost_7 : decode cX9_isLost 7 = .ok (.aload_n 0, 1) := dk_42 (dk_at dksX9_isLost_0 7 rfl rfl)
theorem dX9_isLost_8 : decode cX9_isLost 8 = .ok (.invokevirtual 89, 3) := dk_182 0 89 (dk_at dksX9_isLost_0 8 rfl rfl)
theorem dX9_isLost_11 : decode cX9_isLost 11 = .ok (.if_icmp .ge 41, 3) := dk_162 0 41 (dk_at dksX9_isLost_0 11 rfl rfl)
theorem dX9_isLost_14 : decode cX9_isLost 14 = .ok (.lload_n 2, 1) := dk_32 (dk_at dksX9_isLost_0 14 rfl rfl)
theorem dX9_isLost_15 : decode cX9_isLost 15 = .ok (.iload_n 1, 1) := dk_27 (dk_at dksX9_isLost_0 15 rfl rfl)
theorem dX9_isLost_16 : decode cX9_isLost 16 = .ok (.ifCond .ge 12, 3) := dk_156 0 12 (dk_at dksX9_isLost_0 16 rfl rfl)
theorem dX9_isLost_19 : decode cX9_isLost 19 = .ok (.aload_n 0, 1) := dk_42 (dk_at dksX9_isLost_0 19 rfl rfl)
theorem dX9_isLost_20 : decode cX9_isLost 20 = .ok (.iload 4, 2) := dk_21 4 (dk_at dksX9_isLost_0 20 rfl rfl)
theorem dX9_isLost_22 : decode cX9_isLost 22 = .ok (.invokevirtual 337, 3) := dk_182 1 81 (dk_at dksX9_isLost_1 0 rfl rfl)
theorem dX9_isLost_25 : decode cX9_isLost 25 = .ok (.goto 10, 3) := dk_167 0 10 (dk_at dksX9_isLost_1 3 rfl rfl)
theorem dX9_isLost_28 : decode cX9_isLost 28 = .ok (.aload_n 0, 1) := dk_42 (dk_at dksX9_isLost_1 6 rfl rfl)
theorem dX9_isLost_29 : decode cX9_isLost 29 = .ok (.iload_n 1, 1) := dk_27 (dk_at dksX9_isLost_1 7 rfl rfl)
theorem dX9_isLost_30 : decode cX9_isLost 30 = .ok (.iload 4, 2) := dk_21 4 (dk_at dksX9_isLost_1 8 rfl rfl)
theorem dX9_isLost_32 : decode cX9_isLost 32 = .ok (.invokevirtual 326, 3) := dk_182 1 70 (dk_at dksX9_isLost_1 10 rfl rfl)
theorem dX9_isLost_35 : decode cX9_isLost 35 = .ok (.aload_n 0, 1) := dk_42 (dk_at dksX9_isLost_1 13 rfl rfl)
theorem dX9_isLost_36 : decode cX9_isLost 36 = .ok (.getfield 37, 3) := dk_180 0 37 (dk_at dksX9_isLost_1 14 rfl rfl)
theorem dX9_isLost_39 : decode cX9_isLost 39 = .ok (.iload 4, 2) := dk_21 4 (dk_at dksX9_isLost_1 17 rfl rfl)
theorem dX9_isLost_41 : decode cX9_isLost 41 = .ok (.iaload, 1) := dk_46 (dk_at dksX9_isLost_1 19 rfl rfl)
theorem dX9_isLost_42 : decode cX9_isLost 42 = .ok (.i2l, 1) := dk_133 (dk_at dksX9_isLost_1 20 rfl rfl)
theorem dX9_isLost_43 : decode cX9_isLost 43 = .ok (.lmul, 1) := dk_105 (dk_at dksX9_isLost_1 21 rfl rfl)
theorem dX9_isLost_44 : decode cX9_isLost 44 = .ok (.ladd, 1) := dk_97 (dk_at dksX9_isLost_1 22 rfl rfl)
theorem dX9_isLost_45 : decode cX9_isLost 45 = .ok (.lstore_n 2, 1) := dk_65 (dk_at dksX9_isLost_1 23 rfl rfl)
theorem dX9_isLost_46 : decode cX9_isLost 46 = .ok (.iinc 4 1, 3) := dk_132 4 1 (dk_at dksX9_isLost_2 0 rfl rfl)
theorem dX9_isLost_49 : decode cX9_isLost 49 = .ok (.goto (-44), 3) := dk_167 255 212 (dk_at dksX9_isLost_2 3 rfl rfl)
theorem dX9_isLost_52 : decode cX9_isLost 52 = .ok (.lload_n 2, 1) := dk_32 (dk_at dksX9_isLost_2 6 rfl rfl)
theorem dX9_isLost_53 : decode cX9_isLost 53 = .ok (.iload_n 1, 1) := dk_27 (dk_at dksX9_isLost_2 7 rfl rfl)
theorem dX9_isLost_54 : decode cX9_isLost 54 = .ok (.ifCond .ge 14, 3) := dk_156 0 14 (dk_at dksX9_isLost_2 8 rfl rfl)
theorem dX9_isLost_57 : decode cX9_isLost 57 = .ok (.aload_n 0, 1) := dk_42 (dk_at dksX9_isLost_2 11 rfl rfl)
theorem dX9_isLost_58 : decode cX9_isLost 58 = .ok (.aload_n 0, 1) := dk_42 (dk_at dksX9_isLost_2 12 rfl rfl)
theorem dX9_isLost_59 : decode cX9_isLost 59 = .ok (.invokevirtual 89, 3) := dk_182 0 89 (dk_at dksX9_isLost_2 13 rfl rfl)
theorem dX9_isLost_62 : decode cX9_isLost 62 = .ok (.invokevirtual 337, 3) := dk_182 1 81 (dk_at dksX9_isLost_2 16 rfl rfl)
theorem dX9_isLost_65 : decode cX9_isLost 65 = .ok (.goto 12, 3) := dk_167 0 12 (dk_at dksX9_isLost_2 19 rfl rfl)
theorem dX9_isLost_68 : decode cX9_isLost 68 = .ok (.aload_n 0, 1) := dk_42 (dk_at dksX9_isLost_2 22 rfl rfl)
theorem dX9_isLost_69 : decode cX9_isLost 69 = .ok (.iload_n 1, 1) := dk_27 (dk_at dksX9_isLost_2 23 rfl rfl)
theorem dX9_isLost_70 : decode cX9_isLost 70 = .ok (.aload_n 0, 1) := dk_42 (dk_at dksX9_isLost_3 0 rfl rfl)
theorem dX9_isLost_71 : decode cX9_isLost 71 = .ok (.invokevirtual 89, 3) := dk_182 0 89 (dk_at dksX9_isLost_3 1 rfl rfl)
theorem dX9_isLost_74 : decode cX9_isLost 74 = .ok (.invokevirtual 326, 3) := dk_182 1 70 (dk_at dksX9_isLost_3 4 rfl rfl)
theorem dX9_isLost_77 : decode cX9_isLost 77 = .ok (.lcmp, 1) := dk_148 (dk_at dksX9_isLost_3 7 rfl rfl)
theorem dX9_isLost_78 : decode cX9_isLost 78 = .ok (.ifCond .le 7, 3) := dk_158 0 7 (dk_at dksX9_isLost_3 8 rfl rfl)
theorem dX9_isLost_81 : decode cX9_isLost 81 = .ok (.iconst 1, 1) := dk_4 (dk_at dksX9_isLost_3 11 rfl rfl)
theorem dX9_isLost_82 : decode cX9_isLost 82 = .ok (.goto 4, 3) := dk_167 0 4 (dk_at dksX9_isLost_3 12 rfl rfl)
theorem dX9_isLost_85 : decode cX9_isLost 85 = .ok (.iconst 0, 1) := dk_3 (dk_at dksX9_isLost_3 15 rfl rfl)
theorem dX9_isLost_86 : decode cX9_isLost 86 = .ok (.ireturn, 1) := dk_172 (dk_at dksX9_isLost_3 16 rfl rfl)
abbrev cX9_branch : ByteArray := prog_19_method_82_code
def yX9_branch : MethodName := ⟨RX9, "branch", "(I)I"⟩
def dkwX9_branch_5 : List UInt8 := [136, 172]
abbrev dktX9_branch_5 : List UInt8 := dkwX9_branch_5 ++ []
def dkwX9_branch_4 : List UInt8 := [180, 0, 55, 8, 42, 180, 1, 135, 104, 27, 96, 7, 100, 47, 42, 180, 0, 62, 42, 180, 1, 135, 47, 109]
abbrev dktX9_branch_4 : List UInt8 := dkwX9_branch_4 ++ dktX9_branch_5
def dkwX9_branch_3 : List UInt8 := [136, 167, 0, 46, 27, 5, 160, 0, 15, 42, 180, 0, 52, 42, 180, 1, 135, 46, 167, 0, 29, 42]
abbrev dktX9_branch_3 : List UInt8 := dkwX9_branch_3 ++ dktX9_branch_4
def dkwX9_branch_2 : List UInt8 := [172, 27, 154, 0, 26, 42, 180, 0, 59, 42, 180, 1, 135, 47, 42, 180, 0, 62, 42, 180, 1, 135, 47, 109]
abbrev dktX9_branch_2 : List UInt8 := dkwX9_branch_2 ++ dktX9_branch_3
def dkwX9_branch_1 : List UInt8 := [4, 160, 0, 8, 42, 180, 1, 115, 172, 27, 6, 160, 0, 8, 42, 180, 1, 125, 172, 28, 156, 0, 5, 28]
abbrev dktX9_branch_1 : List UInt8 := dkwX9_branch_1 ++ dktX9_branch_2
def dkwX9_branch_0 : List UInt8 := [27, 133, 9, 6, 42, 182, 0, 89, 96, 133, 184, 0, 93, 154, 0, 5, 2, 172, 42, 182, 1, 141, 61, 27]
abbrev dktX9_branch_0 : List UInt8 := dkwX9_branch_0 ++ dktX9_branch_1
theorem dksX9_branch_0 : cX9_branch.data.toList.drop 0 = dktX9_branch_0 := by decide +kernel
theorem dksX9_branch_1 : cX9_branch.data.toList.drop 24 = dktX9_branch_1 := dk_seg dksX9_branch_0 24 rfl rfl
theorem dksX9_branch_2 : cX9_branch.data.toList.drop 48 = dktX9_branch_2 := dk_seg dksX9_branch_1 24 rfl rfl
theorem dksX9_branch_3 : cX9_branch.data.toList.drop 72 = dktX9_branch_3 := dk_seg dksX9_branch_2 24 rfl rfl
theorem dksX9_branch_4 : cX9_branch.data.toList.drop 94 = dktX9_branch_4 := dk_seg dksX9_branch_3 22 rfl rfl
theorem dksX9_branch_5 : cX9_branch.data.toList.drop 118 = dktX9_branch_5 := dk_seg dksX9_branch_4 24 rfl rfl
theorem dX9_branch_0 : decode cX9_branch 0 = .ok (.iload_n 1, 1) := dk_27 (dk_at dksX9_branch_0 0 rfl rfl)
theorem dX9_branch_1 : decode cX9_branch 1 = .ok (.i2l, 1) := dk_133 (dk_at dksX9_branch_0 1 rfl rfl)
theorem dX9_branch_2 : decode cX9_branch 2 = .ok (.lconst 0, 1) := dk_9 (dk_at dksX9_branch_0 2 rfl rfl)
theorem dX9_branch_3 : decode cX9_branch 3 = .ok (.iconst 3, 1) := dk_6 (dk_at dksX9_branch_0 3 rfl rfl)
theorem dX9_branch_4 : decode cX9_branch 4 = .ok (.aload_n 0, 1) := dk_42 (dk_at dksX9_branch_0 4 rfl rfl)
theorem dX9_branch_5 : decode cX9_branch 5 = .ok (.invokevirtual 89, 3) := dk_182 0 89 (dk_at dksX9_branch_0 5 rfl rfl)
theorem dX9_branch_8 : decode cX9_branch 8 = .ok (.iadd, 1) := dk_96 (dk_at dksX9_branch_0 8 rfl rfl)
theorem dX9_branch_9 : decode cX9_branch 9 = .ok (.i2l, 1) := dk_133 (dk_at dksX9_branch_0 9 rfl rfl)
theorem dX9_branch_10 : decode cX9_branch 10 = .ok (.invokestatic 93, 3) := dk_184 0 93 (dk_at dksX9_branch_0 10 rfl rfl)
theorem dX9_branch_13 : decode cX9_branch 13 = .ok (.ifCond .ne 5, 3) := dk_154 0 5 (dk_at dksX9_branch_0 13 rfl rfl)
theorem dX9_branch_16 : decode cX9_branch 16 = .ok (.iconst (-1), 1) := dk_2 (dk_at dksX9_branch_0 16 rfl rfl)
theorem dX9_branch_17 : decode cX9_branch 17 = .ok (.ireturn, 1) := dk_172 (dk_at dksX9_branch_0 17 rfl rfl)
theorem dX9_branch_18 : decode cX9_branch 18 = .ok (.aload_n 0, 1) := dk_42 (dk_at dksX9_branch_0 18 rfl rfl)
theorem dX9_branch_19 : decode cX9_branch 19 = .ok (.invokevirtual 397, 3) := dk_182 1 141 (dk_at dksX9_branch_0 19 rfl rfl)
theorem dX9_branch_22 : decode cX9_branch 22 = .ok (.istore_n 2, 1) := dk_61 (dk_at dksX9_branch_0 22 rfl rfl)
theorem dX9_branch_23 : decode cX9_branch 23 = .ok (.iload_n 1, 1) := dk_27 (dk_at dksX9_branch_0 23 rfl rfl)
theorem dX9_branch_24 : decode cX9_branch 24 = .ok (.iconst 1, 1) := dk_4 (dk_at dksX9_branch_1 0 rfl rfl)
theorem dX9_branch_25 : decode cX9_branch 25 = .ok (.if_icmp .ne 8, 3) := dk_160 0 8 (dk_at dksX9_branch_1 1 rfl rfl)
theorem dX9_branch_28 : decode cX9_branch 28 = .ok (.aload_n 0, 1) := dk_42 (dk_at dksX9_branch_1 4 rfl rfl)
theorem dX9_branch_29 : decode cX9_branch 29 = .ok (.getfield 371, 3) := dk_180 1 115 (dk_at dksX9_branch_1 5 rfl rfl)
theorem dX9_branch_32 : decode cX9_branch 32 = .ok (.ireturn, 1) := dk_172 (dk_at dksX9_branch_1 8 rfl rfl)
theorem dX9_branch_33 : decode cX9_branch 33 = .ok (.iload_n 1, 1) := dk_27 (dk_at dksX9_branch_1 9 rfl rfl)
theorem dX9_branch_34 : decode cX9_branch 34 = .ok (.iconst 3, 1) := dk_6 (dk_at dksX9_branch_1 10 rfl rfl)
theorem dX9_branch_35 : decode cX9_branch 35 = .ok (.if_icmp .ne 8, 3) := dk_160 0 8 (dk_at dksX9_branch_1 11 rfl rfl)
theorem dX9_branch_38 : decode cX9_branch 38 = .ok (.aload_n 0, 1) := dk_42 (dk_at dksX9_branch_1 14 rfl rfl)
theorem dX9_branch_39 : decode cX9_branch 39 = .ok (.getfield 381, 3) := dk_180 1 125 (dk_at dksX9_branch_1 15 rfl rfl)
theorem dX9_branch_42 : decode cX9_branch 42 = .ok (.ireturn, 1) := dk_172 (dk_at dksX9_branch_1 18 rfl rfl)
theorem dX9_branch_43 : decode cX9_branch 43 = .ok (.iload_n 2, 1) := dk_28 (dk_at dksX9_branch_1 19 rfl rfl)
theorem dX9_branch_44 : decode cX9_branch 44 = .ok (.ifCond .ge 5, 3) := dk_156 0 5 (dk_at dksX9_branch_1 20 rfl rfl)
theorem dX9_branch_47 : decode cX9_branch 47 = .ok (.iload_n 2, 1) := dk_28 (dk_at dksX9_branch_1 23 rfl rfl)
theorem dX9_branch_48 : decode cX9_branch 48 = .ok (.ireturn, 1) := dk_172 (dk_at dksX9_branch_2 0 rfl rfl)
theorem dX9_branch_49 : decode cX9_branch 49 = .ok (.iload_n 1, 1) := dk_27 (dk_at dksX9_branch_2 1 rfl rfl)
theorem dX9_branch_50 : decode cX9_branch 50 = .ok (.ifCond .ne 26, 3) := dk_154 0 26 (dk_at dksX9_branch_2 2 rfl rfl)
theorem dX9_branch_53 : decode cX9_branch 53 = .ok (.aload_n 0, 1) := dk_42 (dk_at dksX9_branch_2 5 rfl rfl)
theorem dX9_branch_54 : decode cX9_branch 54 = .ok (.getfield 59, 3) := dk_180 0 59 (dk_at dksX9_branch_2 6 rfl rfl)
theorem dX9_branch_57 : decode cX9_branch 57 = .ok (.aload_n 0, 1) := dk_42 (dk_at dksX9_branch_2 9 rfl rfl)
theorem dX9_branch_58 : decode cX9_branch 58 = .ok (.getfield 391, 3) := dk_180 1 135 (dk_at dksX9_branch_2 10 rfl rfl)
theorem dX9_branch_61 : decode cX9_branch 61 = .ok (.laload, 1) := dk_47 (dk_at dksX9_branch_2 13 rfl rfl)
theorem dX9_branch_62 : decode cX9_branch 62 = .ok (.aload_n 0, 1) := dk_42 (dk_at dksX9_branch_2 14 rfl rfl)
theorem dX9_branch_63 : decode cX9_branch 63 = .ok (.getfield 62, 3) := dk_180 0 62 (dk_at dksX9_branch_2 15 rfl rfl)
theorem dX9_branch_66 : decode cX9_branch 66 = .ok (.aload_n 0, 1) := dk_42 (dk_at dksX9_branch_2 18 rfl rfl)
theorem dX9_branch_67 : decode cX9_branch 67 = .ok (.getfield 391, 3) := dk_180 1 135 (dk_at dksX9_branch_2 19 rfl rfl)
theorem dX9_branch_70 : decode cX9_branch 70 = .ok (.laload, 1) := dk_47 (dk_at dksX9_branch_2 22 rfl rfl)
theorem dX9_branch_71 : decode cX9_branch 71 = .ok (.ldiv, 1) := dk_109 (dk_at dksX9_branch_2 23 rfl rfl)
theorem dX9_branch_72 : decode cX9_branch 72 = .ok (.l2i, 1) := dk_136 (dk_at dksX9_branch_3 0 rfl rfl)
theorem dX9_branch_73 : decode cX9_branch 73 = .ok (.goto 46, 3) := dk_167 0 46 (dk_at dksX9_branch_3 1 rfl rfl)
theorem dX9_branch_76 : decode cX9_branch 76 = .ok (.iload_n 1, 1) := dk_27 (dk_at dksX9_branch_3 4 rfl rfl)
theorem dX9_branch_77 : decode cX9_branch 77 = .ok (.iconst 2, 1) := dk_5 (dk_at dksX9_branch_3 5 rfl rfl)
theorem dX9_branch_78 : decode cX9_branch 78 = .ok (.if_icmp .ne 15, 3) := dk_160 0 15 (dk_at dksX9_branch_3 6 rfl rfl)
theorem dX9_branch_81 : decode cX9_branch 81 = .ok (.aload_n 0, 1) := dk_42 (dk_at dksX9_branch_3 9 rfl rfl)
theorem dX9_branch_82 : decode cX9_branch 82 = .ok (.getfield 52, 3) := dk_180 0 52 (dk_at dksX9_branch_3 10 rfl rfl)
theorem dX9_branch_85 : decode cX9_branch 85 = .ok (.aload_n 0, 1) := dk_42 (dk_at dksX9_branch_3 13 rfl rfl)
theorem dX9_branch_86 : decode cX9_branch 86 = .ok (.getfield 391, 3) := dk_180 1 135 (dk_at dksX9_branch_3 14 rfl rfl)
theorem dX9_branch_89 : decode cX9_branch 89 = .ok (.iaload, 1) := dk_46 (dk_at dksX9_branch_3 17 rfl rfl)
theorem dX9_branch_90 : decode cX9_branch 90 = .ok (.goto 29, 3) := dk_167 0 29 (dk_at dksX9_branch_3 18 rfl rfl)
theorem dX9_branch_93 : decode cX9_branch 93 = .ok (.aload_n 0, 1) := dk_42 (dk_at dksX9_branch_3 21 rfl rfl)
theorem dX9_branch_94 : decode cX9_branch 94 = .ok (.getfield 55, 3) := dk_180 0 55 (dk_at dksX9_branch_4 0 rfl rfl)
theorem dX9_branch_97 : decode cX9_branch 97 = .ok (.iconst 5, 1) := dk_8 (dk_at dksX9_branch_4 3 rfl rfl)
theorem dX9_branch_98 : decode cX9_branch 98 = .ok (.aload_n 0, 1) := dk_42 (dk_at dksX9_branch_4 4 rfl rfl)
theorem dX9_branch_99 : decode cX9_branch 99 = .ok (.getfield 391, 3) := dk_180 1 135 (dk_at dksX9_branch_4 5 rfl rfl)
theorem dX9_branch_102 : decode cX9_branch 102 = .ok (.imul, 1) := dk_104 (dk_at dksX9_branch_4 8 rfl rfl)
theorem dX9_branch_103 : decode cX9_branch 103 = .ok (.iload_n 1, 1) := dk_27 (dk_at dksX9_branch_4 9 rfl rfl)
theorem dX9_branch_104 : decode cX9_branch 104 = .ok (.iadd, 1) := dk_96 (dk_at dksX9_branch_4 10 rfl rfl)
theorem dX9_branch_105 : decode cX9_branch 105 = .ok (.iconst 4, 1) := dk_7 (dk_at dksX9_branch_4 11 rfl rfl)
theorem dX9_branch_106 : decode cX9_branch 106 = .ok (.isub, 1) := dk_100 (dk_at dksX9_branch_4 12 rfl rfl)
theorem dX9_branch_107 : decode cX9_branch 107 = .ok (.laload, 1) := dk_47 (dk_at dksX9_branch_4 13 rfl rfl)
theorem dX9_branch_108 : decode cX9_branch 108 = .ok (.aload_n 0, 1) := dk_42 (dk_at dksX9_branch_4 14 rfl rfl)
theorem dX9_branch_109 : decode cX9_branch 109 = .ok (.getfield 62, 3) := dk_180 0 62 (dk_at dksX9_branch_4 15 rfl rfl)
theorem dX9_branch_112 : decode cX9_branch 112 = .ok (.aload_n 0, 1) := dk_42 (dk_at dksX9_branch_4 18 rfl rfl)
theorem dX9_branch_113 : decode cX9_branch 113 = .ok (.getfield 391, 3) := dk_180 1 135 (dk_at dksX9_branch_4 19 rfl rfl)
theorem dX9_branch_116 : decode cX9_branch 116 = .ok (.laload, 1) := dk_47 (dk_at dksX9_branch_4 22 rfl rfl)
theorem dX9_branch_117 : decode cX9_branch 117 = .ok (.ldiv, 1) := dk_109 (dk_at dksX9_branch_4 23 rfl rfl)
theorem dX9_branch_118 : decode cX9_branch 118 = .ok (.l2i, 1) := dk_136 (dk_at dksX9_branch_5 0 rfl rfl)
theorem dX9_branch_119 : decode cX9_branch 119 = .ok (.ireturn, 1) := dk_172 (dk_at dksX9_branch_5 1 rfl rfl)
abbrev cX9_branches : ByteArray := prog_19_method_81_code
def yX9_branches : MethodName := ⟨RX9, "branches", "()I"⟩
def dkwX9_branches_4 : List UInt8 := [42, 28, 29, 21, 4, 4, 96, 2, 182, 1, 128, 60, 167, 255, 168, 27, 172]
abbrev dktX9_branches_4 : List UInt8 := dkwX9_branches_4 ++ []
def dkwX9_branches_3 : List UInt8 := [180, 0, 62, 28, 47, 109, 136, 54, 4, 42, 28, 29, 3, 21, 4, 182, 1, 128, 60, 27, 4, 160, 0, 15]
abbrev dktX9_branches_3 : List UInt8 := dkwX9_branches_3 ++ dktX9_branches_4
def dkwX9_branches_2 : List UInt8 := [42, 28, 182, 1, 138, 62, 29, 156, 0, 5, 4, 172, 42, 180, 0, 55, 8, 28, 104, 29, 96, 47, 42]
abbrev dktX9_branches_2 : List UInt8 := dkwX9_branches_2 ++ dktX9_branches_3
def dkwX9_branches_1 : List UInt8 := [42, 182, 1, 132, 61, 28, 156, 0, 6, 16, 251, 172, 42, 180, 0, 65, 28, 3, 84, 42, 28, 181, 1, 135]
abbrev dktX9_branches_1 : List UInt8 := dkwX9_branches_1 ++ dktX9_branches_2
def dkwX9_branches_0 : List UInt8 := [42, 3, 181, 1, 115, 42, 3, 181, 1, 125, 42, 2, 3, 3, 2, 182, 1, 128, 60, 27, 4, 160, 0, 89]
abbrev dktX9_branches_0 : List UInt8 := dkwX9_branches_0 ++ dktX9_branches_1
theorem dksX9_branches_0 : cX9_branches.data.toList.drop 0 = dktX9_branches_0 := by decide +kernel
theorem dksX9_branches_1 : cX9_branches.data.toList.drop 24 = dktX9_branches_1 := dk_seg dksX9_branches_0 24 rfl rfl
theorem dksX9_branches_2 : cX9_branches.data.toList.drop 48 = dktX9_branches_2 := dk_seg dksX9_branches_1 24 rfl rfl
theorem dksX9_branches_3 : cX9_branches.data.toList.drop 71 = dktX9_branches_3 := dk_seg dksX9_branches_2 23 rfl rfl
theorem dksX9_branches_4 : cX9_branches.data.toList.drop 95 = dktX9_branches_4 := dk_seg dksX9_branches_3 24 rfl rfl
theorem dX9_branches_0 : decode cX9_branches 0 = .ok (.aload_n 0, 1) := dk_42 (dk_at dksX9_branches_0 0 rfl rfl)
theorem dX9_branches_1 : decode cX9_branches 1 = .ok (.iconst 0, 1) := dk_3 (dk_at dksX9_branches_0 1 rfl rfl)
theorem dX9_branches_2 : decode cX9_branches 2 = .ok (.putfield 371, 3) := dk_181 1 115 (dk_at dksX9_branches_0 2 rfl rfl)
theorem dX9_branches_5 : decode cX9_branches 5 = .ok (.aload_n 0, 1) := dk_42 (dk_at dksX9_branches_0 5 rfl rfl)
theorem dX9_branches_6 : decode cX9_branches 6 = .ok (.iconst 0, 1) := dk_3 (dk_at dksX9_branches_0 6 rfl rfl)
theorem dX9_branches_7 : decode cX9_branches 7 = .ok (.putfield 381, 3) := dk_181 1 125 (dk_at dksX9_branches_0 7 rfl rfl)
theorem dX9_branches_10 : decode cX9_branches 10 = .ok (.aload_n 0, 1) := dk_42 (dk_at dksX9_branches_0 10 rfl rfl)
theorem dX9_branches_11 : decode cX9_branches 11 = .ok (.iconst (-1), 1) := dk_2 (dk_at dksX9_branches_0 11 rfl rfl)
theorem dX9_branches_12 : decode cX9_branches 12 = .ok (.iconst 0, 1) := dk_3 (dk_at dksX9_branches_0 12 rfl rfl)
theorem dX9_branches_13 : decode cX9_branches 13 = .ok (.iconst 0, 1) := dk_3 (dk_at dksX9_branches_0 13 rfl rfl)
theorem dX9_branches_14 : decode cX9_branches 14 = .ok (.iconst (-1), 1) := dk_2 (dk_at dksX9_branches_0 14 rfl rfl)
theorem dX9_branches_15 : decode cX9_branches 15 = .ok (.invokevirtual 384, 3) := dk_182 1 128 (dk_at dksX9_branches_0 15 rfl rfl)
theorem dX9_branches_18 : decode cX9_branches 18 = .ok (.istore_n 1, 1) := dk_60 (dk_at dksX9_branches_0 18 rfl rfl)
theorem dX9_branches_19 : decode cX9_branches 19 = .ok (.iload_n 1, 1) := dk_27 (dk_at dksX9_branches_0 19 rfl rfl)
theorem dX9_branches_20 : decode cX9_branches 20 = .ok (.iconst 1, 1) := dk_4 (dk_at dksX9_branches_0 20 rfl rfl)
theorem dX9_branches_21 : decode cX9_branches 21 = .ok (.if_icmp .ne 89, 3) := dk_160 0 89 (dk_at dksX9_branches_0 21 rfl rfl)
theorem dX9_branches_24 : decode cX9_branches 24 = .ok (.aload_n 0, 1) := dk_42 (dk_at dksX9_branches_1 0 rfl rfl)
theorem dX9_branches_25 : decode cX9_branches 25 = .ok (.invokevirtual 388, 3) := dk_182 1 132 (dk_at dksX9_branches_1 1 rfl rfl)
theorem dX9_branches_28 : decode cX9_branches 28 = .ok (.istore_n 2, 1) := dk_61 (dk_at dksX9_branches_1 4 rfl rfl)
theorem dX9_branches_29 : decode cX9_branches 29 = .ok (.iload_n 2, 1) := dk_28 (dk_at dksX9_branches_1 5 rfl rfl)
theorem dX9_branches_30 : decode cX9_branches 30 = .ok (.ifCond .ge 6, 3) := dk_156 0 6 (dk_at dksX9_branches_1 6 rfl rfl)
theorem dX9_branches_33 : decode cX9_branches 33 = .ok (.bipush (-5), 2) := dk_16 251 (dk_at dksX9_branches_1 9 rfl rfl)
theorem dX9_branches_35 : decode cX9_branches 35 = .ok (.ireturn, 1) := dk_172 (dk_at dksX9_branches_1 11 rfl rfl)
theorem dX9_branches_36 : decode cX9_branches 36 = .ok (.aload_n 0, 1) := dk_42 (dk_at dksX9_branches_1 12 rfl rfl)
theorem dX9_branches_37 : decode cX9_branches 37 = .ok (.getfield 65, 3) := dk_180 0 65 (dk_at dksX9_branches_1 13 rfl rfl)
theorem dX9_branches_40 : decode cX9_branches 40 = .ok (.iload_n 2, 1) := dk_28 (dk_at dksX9_branches_1 16 rfl rfl)
theorem dX9_branches_41 : decode cX9_branches 41 = .ok (.iconst 0, 1) := dk_3 (dk_at dksX9_branches_1 17 rfl rfl)
theorem dX9_branches_42 : decode cX9_branches 42 = .ok (.bastore, 1) := dk_84 (dk_at dksX9_branches_1 18 rfl rfl)
theorem dX9_branches_43 : decode cX9_branches 43 = .ok (.aload_n 0, 1) := dk_42 (dk_at dksX9_branches_1 19 rfl rfl)
theorem dX9_branches_44 : decode cX9_branches 44 = .ok (.iload_n 2, 1) := dk_28 (dk_at dksX9_branches_1 20 rfl rfl)
theorem dX9_branches_45 : decode cX9_branches 45 = .ok (.putfield 391, 3) := dk_181 1 135 (dk_at dksX9_branches_1 21 rfl rfl)
theorem dX9_branches_48 : decode cX9_branches 48 = .ok (.aload_n 0, 1) := dk_42 (dk_at dksX9_branches_2 0 rfl rfl)
theorem dX9_branches_49 : decode cX9_branches 49 = .ok (.iload_n 2, 1) := dk_28 (dk_at dksX9_branches_2 1 rfl rfl)
theorem dX9_branches_50 : decode cX9_branches 50 = .ok (.invokevirtual 394, 3) := dk_182 1 138 (dk_at dksX9_branches_2 2 rfl rfl)
theorem dX9_branches_53 : decode cX9_branches 53 = .ok (.istore_n 3, 1) := dk_62 (dk_at dksX9_branches_2 5 rfl rfl)
theorem dX9_branches_54 : decode cX9_branches 54 = .ok (.iload_n 3, 1) := dk_29 (dk_at dksX9_branches_2 6 rfl rfl)
theorem dX9_branches_55 : decode cX9_branches 55 = .ok (.ifCond .ge 5, 3) := dk_156 0 5 (dk_at dksX9_branches_2 7 rfl rfl)
theorem dX9_branches_58 : decode cX9_branches 58 = .ok (.iconst 1, 1) := dk_4 (dk_at dksX9_branches_2 10 rfl rfl)
theorem dX9_branches_59 : decode cX9_branches 59 = .ok (.ireturn, 1) := dk_172 (dk_at dksX9_branches_2 11 rfl rfl)
theorem dX9_branches_60 : decode cX9_branches 60 = .ok (.aload_n 0, 1) := dk_42 (dk_at dksX9_branches_2 12 rfl rfl)
theorem dX9_branches_61 : decode cX9_branches 61 = .ok (.getfield 55, 3) := dk_180 0 55 (dk_at dksX9_branches_2 13 rfl rfl)
theorem dX9_branches_64 : decode cX9_branches 64 = .ok (.iconst 5, 1) := dk_8 (dk_at dksX9_branches_2 16 rfl rfl)
theorem dX9_branches_65 : decode cX9_branches 65 = .ok (.iload_n 2, 1) := dk_28 (dk_at dksX9_branches_2 17 rfl rfl)
theorem dX9_branches_66 : decode cX9_branches 66 = .ok (.imul, 1) := dk_104 (dk_at dksX9_branches_2 18 rfl rfl)
theorem dX9_branches_67 : decode cX9_branches 67 = .ok (.iload_n 3, 1) := dk_29 (dk_at dksX9_branches_2 19 rfl rfl)
theorem dX9_branches_68 : decode cX9_branches 68 = .ok (.iadd, 1) := dk_96 (dk_at dksX9_branches_2 20 rfl rfl)
theorem dX9_branches_69 : decode cX9_branches 69 = .ok (.laload, 1) := dk_47 (dk_at dksX9_branches_2 21 rfl rfl)
theorem dX9_branches_70 : decode cX9_branches 70 = .ok (.aload_n 0, 1) := dk_42 (dk_at dksX9_branches_2 22 rfl rfl)
theorem dX9_branches_71 : decode cX9_branches 71 = .ok (.getfield 62, 3) := dk_180 0 62 (dk_at dksX9_branches_3 0 rfl rfl)
theorem dX9_branches_74 : decode cX9_branches 74 = .ok (.iload_n 2, 1) := dk_28 (dk_at dksX9_branches_3 3 rfl rfl)
theorem dX9_branches_75 : decode cX9_branches 75 = .ok (.laload, 1) := dk_47 (dk_at dksX9_branches_3 4 rfl rfl)
theorem dX9_branches_76 : decode cX9_branches 76 = .ok (.ldiv, 1) := dk_109 (dk_at dksX9_branches_3 5 rfl rfl)
theorem dX9_branches_77 : decode cX9_branches 77 = .ok (.l2i, 1) := dk_136 (dk_at dksX9_branches_3 6 rfl rfl)
theorem dX9_branches_78 : decode cX9_branches 78 = .ok (.istore 4, 2) := dk_54 4 (dk_at dksX9_branches_3 7 rfl rfl)
theorem dX9_branches_80 : decode cX9_branches 80 = .ok (.aload_n 0, 1) := dk_42 (dk_at dksX9_branches_3 9 rfl rfl)
theorem dX9_branches_81 : decode cX9_branches 81 = .ok (.iload_n 2, 1) := dk_28 (dk_at dksX9_branches_3 10 rfl rfl)
theorem dX9_branches_82 : decode cX9_branches 82 = .ok (.iload_n 3, 1) := dk_29 (dk_at dksX9_branches_3 11 rfl rfl)
theorem dX9_branches_83 : decode cX9_branches 83 = .ok (.iconst 0, 1) := dk_3 (dk_at dksX9_branches_3 12 rfl rfl)
theorem dX9_branches_84 : decode cX9_branches 84 = .ok (.iload 4, 2) := dk_21 4 (dk_at dksX9_branches_3 13 rfl rfl)
theorem dX9_branches_86 : decode cX9_branches 86 = .ok (.invokevirtual 384, 3) := dk_182 1 128 (dk_at dksX9_branches_3 15 rfl rfl)
theorem dX9_branches_89 : decode cX9_branches 89 = .ok (.istore_n 1, 1) := dk_60 (dk_at dksX9_branches_3 18 rfl rfl)
theorem dX9_branches_90 : decode cX9_branches 90 = .ok (.iload_n 1, 1) := dk_27 (dk_at dksX9_branches_3 19 rfl rfl)
theorem dX9_branches_91 : decode cX9_branches 91 = .ok (.iconst 1, 1) := dk_4 (dk_at dksX9_branches_3 20 rfl rfl)
theorem dX9_branches_92 : decode cX9_branches 92 = .ok (.if_icmp .ne 15, 3) := dk_160 0 15 (dk_at dksX9_branches_3 21 rfl rfl)
theorem dX9_branches_95 : decode cX9_branches 95 = .ok (.aload_n 0, 1) := dk_42 (dk_at dksX9_branches_4 0 rfl rfl)
theorem dX9_branches_96 : decode cX9_branches 96 = .ok (.iload_n 2, 1) := dk_28 (dk_at dksX9_branches_4 1 rfl rfl)
theorem dX9_branches_97 : decode cX9_branches 97 = .ok (.iload_n 3, 1) := dk_29 (dk_at dksX9_branches_4 2 rfl rfl)
theorem dX9_branches_98 : decode cX9_branches 98 = .ok (.iload 4, 2) := dk_21 4 (dk_at dksX9_branches_4 3 rfl rfl)
theorem dX9_branches_100 : decode cX9_branches 100 = .ok (.iconst 1, 1) := dk_4 (dk_at dksX9_branches_4 5 rfl rfl)
theorem dX9_branches_101 : decode cX9_branches 101 = .ok (.iadd, 1) := dk_96 (dk_at dksX9_branches_4 6 rfl rfl)
theorem dX9_branches_102 : decode cX9_branches 102 = .ok (.iconst (-1), 1) := dk_2 (dk_at dksX9_branches_4 7 rfl rfl)
theorem dX9_branches_103 : decode cX9_branches 103 = .ok (.invokevirtual 384, 3) := dk_182 1 128 (dk_at dksX9_branches_4 8 rfl rfl)
theorem dX9_branches_106 : decode cX9_branches 106 = .ok (.istore_n 1, 1) := dk_60 (dk_at dksX9_branches_4 11 rfl rfl)
theorem dX9_branches_107 : decode cX9_branches 107 = .ok (.goto (-88), 3) := dk_167 255 168 (dk_at dksX9_branches_4 12 rfl rfl)
theorem dX9_branches_110 : decode cX9_branches 110 = .ok (.iload_n 1, 1) := dk_27 (dk_at dksX9_branches_4 15 rfl rfl)
theorem dX9_branches_111 : decode cX9_branches 111 = .ok (.ireturn, 1) := dk_172 (dk_at dksX9_branches_4 16 rfl rfl)
abbrev cX9_comes : ByteArray := prog_19_method_76_code
def yX9_comes : MethodName := ⟨RX9, "comes", "(IIII)I"⟩
def dkwX9_comes_7 : List UInt8 := [172]
abbrev dktX9_comes_7 : List UInt8 := dkwX9_comes_7 ++ []
def dkwX9_comes_6 : List UInt8 := [21, 4, 155, 0, 16, 42, 180, 0, 49, 8, 21, 5, 104, 28, 96, 21, 4, 79, 42, 21, 5, 182, 1, 118]
abbrev dktX9_comes_6 : List UInt8 := dkwX9_comes_6 ++ dktX9_comes_7
def dkwX9_comes_5 : List UInt8 := [180, 0, 52, 27, 46, 4, 96, 79, 29, 158, 0, 15, 42, 180, 0, 46, 8, 21, 5, 104, 28, 96, 29, 79]
abbrev dktX9_comes_5 : List UInt8 := dkwX9_comes_5 ++ dktX9_comes_6
def dkwX9_comes_4 : List UInt8 := [96, 46, 79, 132, 6, 1, 167, 255, 185, 42, 180, 0, 52, 21, 5, 27, 156, 0, 7, 3, 167, 0, 11, 42]
abbrev dktX9_comes_4 : List UInt8 := dkwX9_comes_4 ++ dktX9_comes_5
def dkwX9_comes_3 : List UInt8 := [8, 21, 5, 104, 21, 6, 96, 27, 156, 0, 7, 2, 167, 0, 14, 42, 180, 0, 49, 8, 27, 104, 21, 6]
abbrev dktX9_comes_3 : List UInt8 := dkwX9_comes_3 ++ dktX9_comes_4
def dkwX9_comes_2 : List UInt8 := [27, 156, 0, 7, 3, 167, 0, 14, 42, 180, 0, 46, 8, 27, 104, 21, 6, 96, 46, 79, 42, 180, 0, 49]
abbrev dktX9_comes_2 : List UInt8 := dkwX9_comes_2 ++ dktX9_comes_3
def dkwX9_comes_1 : List UInt8 := [96, 181, 1, 115, 3, 54, 6, 21, 6, 8, 162, 0, 71, 42, 180, 0, 46, 8, 21, 5, 104, 21, 6, 96]
abbrev dktX9_comes_1 : List UInt8 := dkwX9_comes_1 ++ dktX9_comes_2
def dkwX9_comes_0 : List UInt8 := [42, 180, 1, 115, 16, 40, 160, 0, 6, 16, 250, 172, 42, 180, 1, 115, 54, 5, 42, 89, 180, 1, 115, 4]
abbrev dktX9_comes_0 : List UInt8 := dkwX9_comes_0 ++ dktX9_comes_1
theorem dksX9_comes_0 : cX9_comes.data.toList.drop 0 = dktX9_comes_0 := by decide +kernel
theorem dksX9_comes_1 : cX9_comes.data.toList.drop 24 = dktX9_comes_1 := dk_seg dksX9_comes_0 24 rfl rfl
theorem dksX9_comes_2 : cX9_comes.data.toList.drop 48 = dktX9_comes_2 := dk_seg dksX9_comes_1 24 rfl rfl
theorem dksX9_comes_3 : cX9_comes.data.toList.drop 72 = dktX9_comes_3 := dk_seg dksX9_comes_2 24 rfl rfl
theorem dksX9_comes_4 : cX9_comes.data.toList.drop 96 = dktX9_comes_4 := dk_seg dksX9_comes_3 24 rfl rfl
theorem dksX9_comes_5 : cX9_comes.data.toList.drop 120 = dktX9_comes_5 := dk_seg dksX9_comes_4 24 rfl rfl
theorem dksX9_comes_6 : cX9_comes.data.toList.drop 144 = dktX9_comes_6 := dk_seg dksX9_comes_5 24 rfl rfl
theorem dksX9_comes_7 : cX9_comes.data.toList.drop 168 = dktX9_comes_7 := dk_seg dksX9_comes_6 24 rfl rfl
theorem dX9_comes_0 : decode cX9_comes 0 = .ok (.aload_n 0, 1) := dk_42 (dk_at dksX9_comes_0 0 rfl rfl)
theorem dX9_comes_1 : decode cX9_comes 1 = .ok (.getfield 371, 3) := dk_180 1 115 (dk_at dksX9_comes_0 1 rfl rfl)
theorem dX9_comes_4 : decode cX9_comes 4 = .ok (.bipush 40, 2) := dk_16 40 (dk_at dksX9_comes_0 4 rfl rfl)
theorem dX9_comes_6 : decode cX9_comes 6 = .ok (.if_icmp .ne 6, 3) := dk_160 0 6 (dk_at dksX9_comes_0 6 rfl rfl)
theorem dX9_comes_9 : decode cX9_comes 9 = .ok (.bipush (-6), 2) := dk_16 250 (dk_at dksX9_comes_0 9 rfl rfl)
theorem dX9_comes_11 : decode cX9_comes 11 = .ok (.ireturn, 1) := dk_172 (dk_at dksX9_comes_0 11 rfl rfl)
theorem dX9_comes_12 : decode cX9_comes 12 = .ok (.aload_n 0, 1) := dk_42 (dk_at dksX9_comes_0 12 rfl rfl)
theorem dX9_comes_13 : decode cX9_comes 13 = .ok (.getfield 371, 3) := dk_180 1 115 (dk_at dksX9_comes_0 13 rfl rfl)
theorem dX9_comes_16 : decode cX9_comes 16 = .ok (.istore 5, 2) := dk_54 5 (dk_at dksX9_comes_0 16 rfl rfl)
theorem dX9_comes_18 : decode cX9_comes 18 = .ok (.aload_n 0, 1) := dk_42 (dk_at dksX9_comes_0 18 rfl rfl)
theorem dX9_comes_19 : decode cX9_comes 19 = .ok (.dup, 1) := dk_89 (dk_at dksX9_comes_0 19 rfl rfl)
theorem dX9_comes_20 : decode cX9_comes 20 = .ok (.getfield 371, 3) := dk_180 1 115 (dk_at dksX9_comes_0 20 rfl rfl)
theorem dX9_comes_23 : decode cX9_comes 23 = .ok (.iconst 1, 1) := dk_4 (dk_at dksX9_comes_0 23 rfl rfl)
theorem dX9_comes_24 : decode cX9_comes 24 = .ok (.iadd, 1) := dk_96 (dk_at dksX9_comes_1 0 rfl rfl)
theorem dX9_comes_25 : decode cX9_comes 25 = .ok (.putfield 371, 3) := dk_181 1 115 (dk_at dksX9_comes_1 1 rfl rfl)
theorem dX9_comes_28 : decode cX9_comes 28 = .ok (.iconst 0, 1) := dk_3 (dk_at dksX9_comes_1 4 rfl rfl)
theorem dX9_comes_29 : decode cX9_comes 29 = .ok (.istore 6, 2) := dk_54 6 (dk_at dksX9_comes_1 5 rfl rfl)
theorem dX9_comes_31 : decode cX9_comes 31 = .ok (.iload 6, 2) := dk_21 6 (dk_at dksX9_comes_1 7 rfl rfl)
theorem dX9_comes_33 : decode cX9_comes 33 = .ok (.iconst 5, 1) := dk_8 (dk_at dksX9_comes_1 9 rfl rfl)
theorem dX9_comes_34 : decode cX9_comes 34 = .ok (.if_icmp .ge 71, 3) := dk_162 0 71 (dk_at dksX9_comes_1 10 rfl rfl)
theorem dX9_comes_37 : decode cX9_comes 37 = .ok (.aload_n 0, 1) := dk_42 (dk_at dksX9_comes_1 13 rfl rfl)
theorem dX9_comes_38 : decode cX9_comes 38 = .ok (.getfield 46, 3) := dk_180 0 46 (dk_at dksX9_comes_1 14 rfl rfl)
theorem dX9_comes_41 : decode cX9_comes 41 = .ok (.iconst 5, 1) := dk_8 (dk_at dksX9_comes_1 17 rfl rfl)
theorem dX9_comes_42 : decode cX9_comes 42 = .ok (.iload 5, 2) := dk_21 5 (dk_at dksX9_comes_1 18 rfl rfl)
theorem dX9_comes_44 : decode cX9_comes 44 = .ok (.imul, 1) := dk_104 (dk_at dksX9_comes_1 20 rfl rfl)
theorem dX9_comes_45 : decode cX9_comes 45 = .ok (.iload 6, 2) := dk_21 6 (dk_at dksX9_comes_1 21 rfl rfl)
theorem dX9_comes_47 : decode cX9_comes 47 = .ok (.iadd, 1) := dk_96 (dk_at dksX9_comes_1 23 rfl rfl)
theorem dX9_comes_48 : decode cX9_comes 48 = .ok (.iload_n 1, 1) := dk_27 (dk_at dksX9_comes_2 0 rfl rfl)
theorem dX9_comes_49 : decode cX9_comes 49 = .ok (.ifCond .ge 7, 3) := dk_156 0 7 (dk_at dksX9_comes_2 1 rfl rfl)
theorem dX9_comes_52 : decode cX9_comes 52 = .ok (.iconst 0, 1) := dk_3 (dk_at dksX9_comes_2 4 rfl rfl)
theorem dX9_comes_53 : decode cX9_comes 53 = .ok (.goto 14, 3) := dk_167 0 14 (dk_at dksX9_comes_2 5 rfl rfl)
theorem dX9_comes_56 : decode cX9_comes 56 = .ok (.aload_n 0, 1) := dk_42 (dk_at dksX9_comes_2 8 rfl rfl)
theorem dX9_comes_57 : decode cX9_comes 57 = .ok (.getfield 46, 3) := dk_180 0 46 (dk_at dksX9_comes_2 9 rfl rfl)
theorem dX9_comes_60 : decode cX9_comes 60 = .ok (.iconst 5, 1) := dk_8 (dk_at dksX9_comes_2 12 rfl rfl)
theorem dX9_comes_61 : decode cX9_comes 61 = .ok (.iload_n 1, 1) := dk_27 (dk_at dksX9_comes_2 13 rfl rfl)
theorem dX9_comes_62 : decode cX9_comes 62 = .ok (.imul, 1) := dk_104 (dk_at dksX9_comes_2 14 rfl rfl)
theorem dX9_comes_63 : decode cX9_comes 63 = .ok (.iload 6, 2) := dk_21 6 (dk_at dksX9_comes_2 15 rfl rfl)
theorem dX9_comes_65 : decode cX9_comes 65 = .ok (.iadd, 1) := dk_96 (dk_at dksX9_comes_2 17 rfl rfl)
theorem dX9_comes_66 : decode cX9_comes 66 = .ok (.iaload, 1) := dk_46 (dk_at dksX9_comes_2 18 rfl rfl)
theorem dX9_comes_67 : decode cX9_comes 67 = .ok (.iastore, 1) := dk_79 (dk_at dksX9_comes_2 19 rfl rfl)
theorem dX9_comes_68 : decode cX9_comes 68 = .ok (.aload_n 0, 1) := dk_42 (dk_at dksX9_comes_2 20 rfl rfl)
theorem dX9_comes_69 : decode cX9_comes 69 = .ok (.getfield 49, 3) := dk_180 0 49 (dk_at dksX9_comes_2 21 rfl rfl)
theorem dX9_comes_72 : decode cX9_comes 72 = .ok (.iconst 5, 1) := dk_8 (dk_at dksX9_comes_3 0 rfl rfl)
theorem dX9_comes_73 : decode cX9_comes 73 = .ok (.iload 5, 2) := dk_21 5 (dk_at dksX9_comes_3 1 rfl rfl)
theorem dX9_comes_75 : decode cX9_comes 75 = .ok (.imul, 1) := dk_104 (dk_at dksX9_comes_3 3 rfl rfl)
theorem dX9_comes_76 : decode cX9_comes 76 = .ok (.iload 6, 2) := dk_21 6 (dk_at dksX9_comes_3 4 rfl rfl)
theorem dX9_comes_78 : decode cX9_comes 78 = .ok (.iadd, 1) := dk_96 (dk_at dksX9_comes_3 6 rfl rfl)
theorem dX9_comes_79 : decode cX9_comes 79 = .ok (.iload_n 1, 1) := dk_27 (dk_at dksX9_comes_3 7 rfl rfl)
theorem dX9_comes_80 : decode cX9_comes 80 = .ok (.ifCond .ge 7, 3) := dk_156 0 7 (dk_at dksX9_comes_3 8 rfl rfl)
theorem dX9_comes_83 : decode cX9_comes 83 = .ok (.iconst (-1), 1) := dk_2 (dk_at dksX9_comes_3 11 rfl rfl)
theorem dX9_comes_84 : decode cX9_comes 84 = .ok (.goto 14, 3) := dk_167 0 14 (dk_at dksX9_comes_3 12 rfl rfl)
theorem dX9_comes_87 : decode cX9_comes 87 = .ok (.aload_n 0, 1) := dk_42 (dk_at dksX9_comes_3 15 rfl rfl)
theorem dX9_comes_88 : decode cX9_comes 88 = .ok (.getfield 49, 3) := dk_180 0 49 (dk_at dksX9_comes_3 16 rfl rfl)
theorem dX9_comes_91 : decode cX9_comes 91 = .ok (.iconst 5, 1) := dk_8 (dk_at dksX9_comes_3 19 rfl rfl)
theorem dX9_comes_92 : decode cX9_comes 92 = .ok (.iload_n 1, 1) := dk_27 (dk_at dksX9_comes_3 20 rfl rfl)
theorem dX9_comes_93 : decode cX9_comes 93 = .ok (.imul, 1) := dk_104 (dk_at dksX9_comes_3 21 rfl rfl)
theorem dX9_comes_94 : decode cX9_comes 94 = .ok (.iload 6, 2) := dk_21 6 (dk_at dksX9_comes_3 22 rfl rfl)
theorem dX9_comes_96 : decode cX9_comes 96 = .ok (.iadd, 1) := dk_96 (dk_at dksX9_comes_4 0 rfl rfl)
theorem dX9_comes_97 : decode cX9_comes 97 = .ok (.iaload, 1) := dk_46 (dk_at dksX9_comes_4 1 rfl rfl)
theorem dX9_comes_98 : decode cX9_comes 98 = .ok (.iastore, 1) := dk_79 (dk_at dksX9_comes_4 2 rfl rfl)
theorem dX9_comes_99 : decode cX9_comes 99 = .ok (.iinc 6 1, 3) := dk_132 6 1 (dk_at dksX9_comes_4 3 rfl rfl)
theorem dX9_comes_102 : decode cX9_comes 102 = .ok (.goto (-71), 3) := dk_167 255 185 (dk_at dksX9_comes_4 6 rfl rfl)
theorem dX9_comes_105 : decode cX9_comes 105 = .ok (.aload_n 0, 1) := dk_42 (dk_at dksX9_comes_4 9 rfl rfl)
theorem dX9_comes_106 : decode cX9_comes 106 = .ok (.getfield 52, 3) := dk_180 0 52 (dk_at dksX9_comes_4 10 rfl rfl)
theorem dX9_comes_109 : decode cX9_comes 109 = .ok (.iload 5, 2) := dk_21 5 (dk_at dksX9_comes_4 13 rfl rfl)
theorem dX9_comes_111 : decode cX9_comes 111 = .ok (.iload_n 1, 1) := dk_27 (dk_at dksX9_comes_4 15 rfl rfl)
theorem dX9_comes_112 : decode cX9_comes 112 = .ok (.ifCond .ge 7, 3) := dk_156 0 7 (dk_at dksX9_comes_4 16 rfl rfl)
theorem dX9_comes_115 : decode cX9_comes 115 = .ok (.iconst 0, 1) := dk_3 (dk_at dksX9_comes_4 19 rfl rfl)
theorem dX9_comes_116 : decode cX9_comes 116 = .ok (.goto 11, 3) := dk_167 0 11 (dk_at dksX9_comes_4 20 rfl rfl)
theorem dX9_comes_119 : decode cX9_comes 119 = .ok (.aload_n 0, 1) := dk_42 (dk_at dksX9_comes_4 23 rfl rfl)
theorem dX9_comes_120 : decode cX9_comes 120 = .ok (.getfield 52, 3) := dk_180 0 52 (dk_at dksX9_comes_5 0 rfl rfl)
theorem dX9_comes_123 : decode cX9_comes 123 = .ok (.iload_n 1, 1) := dk_27 (dk_at dksX9_comes_5 3 rfl rfl)
theorem dX9_comes_124 : decode cX9_comes 124 = .ok (.iaload, 1) := dk_46 (dk_at dksX9_comes_5 4 rfl rfl)
theorem dX9_comes_125 : decode cX9_comes 125 = .ok (.iconst 1, 1) := dk_4 (dk_at dksX9_comes_5 5 rfl rfl)
theorem dX9_comes_126 : decode cX9_comes 126 = .ok (.iadd, 1) := dk_96 (dk_at dksX9_comes_5 6 rfl rfl)
theorem dX9_comes_127 : decode cX9_comes 127 = .ok (.iastore, 1) := dk_79 (dk_at dksX9_comes_5 7 rfl rfl)
theorem dX9_comes_128 : decode cX9_comes 128 = .ok (.iload_n 3, 1) := dk_29 (dk_at dksX9_comes_5 8 rfl rfl)
theorem dX9_comes_129 : decode cX9_comes 129 = .ok (.ifCond .le 15, 3) := dk_158 0 15 (dk_at dksX9_comes_5 9 rfl rfl)
theorem dX9_comes_132 : decode cX9_comes 132 = .ok (.aload_n 0, 1) := dk_42 (dk_at dksX9_comes_5 12 rfl rfl)
theorem dX9_comes_133 : decode cX9_comes 133 = .ok (.getfield 46, 3) := dk_180 0 46 (dk_at dksX9_comes_5 13 rfl rfl)
theorem dX9_comes_136 : decode cX9_comes 136 = .ok (.iconst 5, 1) := dk_8 (dk_at dksX9_comes_5 16 rfl rfl)
theorem dX9_comes_137 : decode cX9_comes 137 = .ok (.iload 5, 2) := dk_21 5 (dk_at dksX9_comes_5 17 rfl rfl)
theorem dX9_comes_139 : decode cX9_comes 139 = .ok (.imul, 1) := dk_104 (dk_at dksX9_comes_5 19 rfl rfl)
theorem dX9_comes_140 : decode cX9_comes 140 = .ok (.iload_n 2, 1) := dk_28 (dk_at dksX9_comes_5 20 rfl rfl)
theorem dX9_comes_141 : decode cX9_comes 141 = .ok (.iadd, 1) := dk_96 (dk_at dksX9_comes_5 21 rfl rfl)
theorem dX9_comes_142 : decode cX9_comes 142 = .ok (.iload_n 3, 1) := dk_29 (dk_at dksX9_comes_5 22 rfl rfl)
theorem dX9_comes_143 : decode cX9_comes 143 = .ok (.iastore, 1) := dk_79 (dk_at dksX9_comes_5 23 rfl rfl)
theorem dX9_comes_144 : decode cX9_comes 144 = .ok (.iload 4, 2) := dk_21 4 (dk_at dksX9_comes_6 0 rfl rfl)
theorem dX9_comes_146 : decode cX9_comes 146 = .ok (.ifCond .lt 16, 3) := dk_155 0 16 (dk_at dksX9_comes_6 2 rfl rfl)
theorem dX9_comes_149 : decode cX9_comes 149 = .ok (.aload_n 0, 1) := dk_42 (dk_at dksX9_comes_6 5 rfl rfl)
theorem dX9_comes_150 : decode cX9_comes 150 = .ok (.getfield 49, 3) := dk_180 0 49 (dk_at dksX9_comes_6 6 rfl rfl)
theorem dX9_comes_153 : decode cX9_comes 153 = .ok (.iconst 5, 1) := dk_8 (dk_at dksX9_comes_6 9 rfl rfl)
theorem dX9_comes_154 : decode cX9_comes 154 = .ok (.iload 5, 2) := dk_21 5 (dk_at dksX9_comes_6 10 rfl rfl)
theorem dX9_comes_156 : decode cX9_comes 156 = .ok (.imul, 1) := dk_104 (dk_at dksX9_comes_6 12 rfl rfl)
theorem dX9_comes_157 : decode cX9_comes 157 = .ok (.iload_n 2, 1) := dk_28 (dk_at dksX9_comes_6 13 rfl rfl)
theorem dX9_comes_158 : decode cX9_comes 158 = .ok (.iadd, 1) := dk_96 (dk_at dksX9_comes_6 14 rfl rfl)
theorem dX9_comes_159 : decode cX9_comes 159 = .ok (.iload 4, 2) := dk_21 4 (dk_at dksX9_comes_6 15 rfl rfl)
theorem dX9_comes_161 : decode cX9_comes 161 = .ok (.iastore, 1) := dk_79 (dk_at dksX9_comes_6 17 rfl rfl)
theorem dX9_comes_162 : decode cX9_comes 162 = .ok (.aload_n 0, 1) := dk_42 (dk_at dksX9_comes_6 18 rfl rfl)
theorem dX9_comes_163 : decode cX9_comes 163 = .ok (.iload 5, 2) := dk_21 5 (dk_at dksX9_comes_6 19 rfl rfl)
theorem dX9_comes_165 : decode cX9_comes 165 = .ok (.invokevirtual 374, 3) := dk_182 1 118 (dk_at dksX9_comes_6 21 rfl rfl)
theorem dX9_comes_168 : decode cX9_comes 168 = .ok (.ireturn, 1) := dk_172 (dk_at dksX9_comes_7 0 rfl rfl)
abbrev cX9_relaxes : ByteArray := prog_19_method_78_code
def yX9_relaxes : MethodName := ⟨RX9, "relaxes", "(I)I"⟩
def dkwX9_relaxes_6 : List UInt8 := [16, 250, 167, 0, 4, 4, 172]
abbrev dktX9_relaxes_6 : List UInt8 := dkwX9_relaxes_6 ++ []
def dkwX9_relaxes_5 : List UInt8 := [29, 96, 42, 42, 180, 0, 34, 29, 182, 1, 58, 80, 132, 3, 1, 167, 255, 226, 28, 16, 250, 160, 0, 8]
abbrev dktX9_relaxes_5 : List UInt8 := dkwX9_relaxes_5 ++ dktX9_relaxes_6
def dkwX9_relaxes_4 : List UInt8 := [180, 0, 34, 180, 0, 197, 80, 3, 62, 29, 42, 182, 0, 89, 162, 0, 28, 42, 180, 0, 55, 8, 27, 104]
abbrev dktX9_relaxes_4 : List UInt8 := dkwX9_relaxes_4 ++ dktX9_relaxes_5
def dkwX9_relaxes_3 : List UInt8 := [167, 0, 4, 3, 84, 42, 180, 0, 59, 27, 42, 180, 0, 34, 180, 0, 193, 80, 42, 180, 0, 62, 27, 42]
abbrev dktX9_relaxes_3 : List UInt8 := dkwX9_relaxes_3 ++ dktX9_relaxes_4
def dkwX9_relaxes_2 : List UInt8 := [42, 180, 0, 34, 180, 0, 190, 96, 181, 1, 125, 42, 180, 0, 65, 27, 28, 4, 160, 0, 7, 4]
abbrev dktX9_relaxes_2 : List UInt8 := dkwX9_relaxes_2 ++ dktX9_relaxes_3
def dkwX9_relaxes_1 : List UInt8 := [28, 182, 1, 121, 132, 2, 1, 167, 255, 235, 42, 42, 180, 0, 34, 182, 1, 34, 61, 42, 89, 180, 1, 125]
abbrev dktX9_relaxes_1 : List UInt8 := dkwX9_relaxes_1 ++ dktX9_relaxes_2
def dkwX9_relaxes_0 : List UInt8 := [42, 42, 180, 0, 34, 182, 1, 30, 3, 61, 28, 42, 182, 0, 89, 162, 0, 19, 42, 42, 180, 0, 34, 27]
abbrev dktX9_relaxes_0 : List UInt8 := dkwX9_relaxes_0 ++ dktX9_relaxes_1
theorem dksX9_relaxes_0 : cX9_relaxes.data.toList.drop 0 = dktX9_relaxes_0 := by decide +kernel
theorem dksX9_relaxes_1 : cX9_relaxes.data.toList.drop 24 = dktX9_relaxes_1 := dk_seg dksX9_relaxes_0 24 rfl rfl
theorem dksX9_relaxes_2 : cX9_relaxes.data.toList.drop 48 = dktX9_relaxes_2 := dk_seg dksX9_relaxes_1 24 rfl rfl
theorem dksX9_relaxes_3 : cX9_relaxes.data.toList.drop 70 = dktX9_relaxes_3 := dk_seg dksX9_relaxes_2 22 rfl rfl
theorem dksX9_relaxes_4 : cX9_relaxes.data.toList.drop 94 = dktX9_relaxes_4 := dk_seg dksX9_relaxes_3 24 rfl rfl
theorem dksX9_relaxes_5 : cX9_relaxes.data.toList.drop 118 = dktX9_relaxes_5 := dk_seg dksX9_relaxes_4 24 rfl rfl
theorem dksX9_relaxes_6 : cX9_relaxes.data.toList.drop 142 = dktX9_relaxes_6 := dk_seg dksX9_relaxes_5 24 rfl rfl
theorem dX9_relaxes_0 : decode cX9_relaxes 0 = .ok (.aload_n 0, 1) := dk_42 (dk_at dksX9_relaxes_0 0 rfl rfl)
theorem dX9_relaxes_1 : decode cX9_relaxes 1 = .ok (.aload_n 0, 1) := dk_42 (dk_at dksX9_relaxes_0 1 rfl rfl)
theorem dX9_relaxes_2 : decode cX9_relaxes 2 = .ok (.getfield 34, 3) := dk_180 0 34 (dk_at dksX9_relaxes_0 2 rfl rfl)
theorem dX9_relaxes_5 : decode cX9_relaxes 5 = .ok (.invokevirtual 286, 3) := dk_182 1 30 (dk_at dksX9_relaxes_0 5 rfl rfl)
theorem dX9_relaxes_8 : decode cX9_relaxes 8 = .ok (.iconst 0, 1) := dk_3 (dk_at dksX9_relaxes_0 8 rfl rfl)
theorem dX9_relaxes_9 : decode cX9_relaxes 9 = .ok (.istore_n 2, 1) := dk_61 (dk_at dksX9_relaxes_0 9 rfl rfl)
theorem dX9_relaxes_10 : decode cX9_relaxes 10 = .ok (.iload_n 2, 1) := dk_28 (dk_at dksX9_relaxes_0 10 rfl rfl)
theorem dX9_relaxes_11 : decode cX9_relaxes 11 = .ok (.aload_n 0, 1) := dk_42 (dk_at dksX9_relaxes_0 11 rfl rfl)
theorem dX9_relaxes_12 : decode cX9_relaxes 12 = .ok (.invokevirtual 89, 3) := dk_182 0 89 (dk_at dksX9_relaxes_0 12 rfl rfl)
theorem dX9_relaxes_15 : decode cX9_relaxes 15 = .ok (.if_icmp .ge 19, 3) := dk_162 0 19 (dk_at dksX9_relaxes_0 15 rfl rfl)
theorem dX9_relaxes_18 : decode cX9_relaxes 18 = .ok (.aload_n 0, 1) := dk_42 (dk_at dksX9_relaxes_0 18 rfl rfl)
theorem dX9_relaxes_19 : decode cX9_relaxes 19 = .ok (.aload_n 0, 1) := dk_42 (dk_at dksX9_relaxes_0 19 rfl rfl)
theorem dX9_relaxes_20 : decode cX9_relaxes 20 = .ok (.getfield 34, 3) := dk_180 0 34 (dk_at dksX9_relaxes_0 20 rfl rfl)
theorem dX9_relaxes_23 : decode cX9_relaxes 23 = .ok (.iload_n 1, 1) := dk_27 (dk_at dksX9_relaxes_0 23 rfl rfl)
theorem dX9_relaxes_24 : decode cX9_relaxes 24 = .ok (.iload_n 2, 1) := dk_28 (dk_at dksX9_relaxes_1 0 rfl rfl)
theorem dX9_relaxes_25 : decode cX9_relaxes 25 = .ok (.invokevirtual 377, 3) := dk_182 1 121 (dk_at dksX9_relaxes_1 1 rfl rfl)
theorem dX9_relaxes_28 : decode cX9_relaxes 28 = .ok (.iinc 2 1, 3) := dk_132 2 1 (dk_at dksX9_relaxes_1 4 rfl rfl)
theorem dX9_relaxes_31 : decode cX9_relaxes 31 = .ok (.goto (-21), 3) := dk_167 255 235 (dk_at dksX9_relaxes_1 7 rfl rfl)
theorem dX9_relaxes_34 : decode cX9_relaxes 34 = .ok (.aload_n 0, 1) := dk_42 (dk_at dksX9_relaxes_1 10 rfl rfl)
theorem dX9_relaxes_35 : decode cX9_relaxes 35 = .ok (.aload_n 0, 1) := dk_42 (dk_at dksX9_relaxes_1 11 rfl rfl)
theorem dX9_relaxes_36 : decode cX9_relaxes 36 = .ok (.getfield 34, 3) := dk_180 0 34 (dk_at dksX9_relaxes_1 12 rfl rfl)
theorem dX9_relaxes_39 : decode cX9_relaxes 39 = .ok (.invokevirtual 290, 3) := dk_182 1 34 (dk_at dksX9_relaxes_1 15 rfl rfl)
theorem dX9_relaxes_42 : decode cX9_relaxes 42 = .ok (.istore_n 2, 1) := dk_61 (dk_at dksX9_relaxes_1 18 rfl rfl)
theorem dX9_relaxes_43 : decode cX9_relaxes 43 = .ok (.aload_n 0, 1) := dk_42 (dk_at dksX9_relaxes_1 19 rfl rfl)
theorem dX9_relaxes_44 : decode cX9_relaxes 44 = .ok (.dup, 1) := dk_89 (dk_at dksX9_relaxes_1 20 rfl rfl)
theorem dX9_relaxes_45 : decode cX9_relaxes 45 = .ok (.getfield 381, 3) := dk_180 1 125 (dk_at dksX9_relaxes_1 21 rfl rfl)
theorem dX9_relaxes_48 : decode cX9_relaxes 48 = .ok (.aload_n 0, 1) := dk_42 (dk_at dksX9_relaxes_2 0 rfl rfl)
theorem dX9_relaxes_49 : decode cX9_relaxes 49 = .ok (.getfield 34, 3) := dk_180 0 34 (dk_at dksX9_relaxes_2 1 rfl rfl)
theorem dX9_relaxes_52 : decode cX9_relaxes 52 = .ok (.getfield 190, 3) := dk_180 0 190 (dk_at dksX9_relaxes_2 4 rfl rfl)
theorem dX9_relaxes_55 : decode cX9_relaxes 55 = .ok (.iadd, 1) := dk_96 (dk_at dksX9_relaxes_2 7 rfl rfl)
theorem dX9_relaxes_56 : decode cX9_relaxes 56 = .ok (.putfield 381, 3) := dk_181 1 125 (dk_at dksX9_relaxes_2 8 rfl rfl)
theorem dX9_relaxes_59 : decode cX9_relaxes 59 = .ok (.aload_n 0, 1) := dk_42 (dk_at dksX9_relaxes_2 11 rfl rfl)
theorem dX9_relaxes_60 : decode cX9_relaxes 60 = .ok (.getfield 65, 3) := dk_180 0 65 (dk_at dksX9_relaxes_2 12 rfl rfl)
theorem dX9_relaxes_63 : decode cX9_relaxes 63 = .ok (.iload_n 1, 1) := dk_27 (dk_at dksX9_relaxes_2 15 rfl rfl)
theorem dX9_relaxes_64 : decode cX9_relaxes 64 = .ok (.iload_n 2, 1) := dk_28 (dk_at dksX9_relaxes_2 16 rfl rfl)
theorem dX9_relaxes_65 : decode cX9_relaxes 65 = .ok (.iconst 1, 1) := dk_4 (dk_at dksX9_relaxes_2 17 rfl rfl)
theorem dX9_relaxes_66 : decode cX9_relaxes 66 = .ok (.if_icmp .ne 7, 3) := dk_160 0 7 (dk_at dksX9_relaxes_2 18 rfl rfl)
theorem dX9_relaxes_69 : decode cX9_relaxes 69 = .ok (.iconst 1, 1) := dk_4 (dk_at dksX9_relaxes_2 21 rfl rfl)
theorem dX9_relaxes_70 : decode cX9_relaxes 70 = .ok (.goto 4, 3) := dk_167 0 4 (dk_at dksX9_relaxes_3 0 rfl rfl)
theorem dX9_relaxes_73 : decode cX9_relaxes 73 = .ok (.iconst 0, 1) := dk_3 (dk_at dksX9_relaxes_3 3 rfl rfl)
theorem dX9_relaxes_74 : decode cX9_relaxes 74 = .ok (.bastore, 1) := dk_84 (dk_at dksX9_relaxes_3 4 rfl rfl)
theorem dX9_relaxes_75 : decode cX9_relaxes 75 = .ok (.aload_n 0, 1) := dk_42 (dk_at dksX9_relaxes_3 5 rfl rfl)
theorem dX9_relaxes_76 : decode cX9_relaxes 76 = .ok (.getfield 59, 3) := dk_180 0 59 (dk_at dksX9_relaxes_3 6 rfl rfl)
theorem dX9_relaxes_79 : decode cX9_relaxes 79 = .ok (.iload_n 1, 1) := dk_27 (dk_at dksX9_relaxes_3 9 rfl rfl)
theorem dX9_relaxes_80 : decode cX9_relaxes 80 = .ok (.aload_n 0, 1) := dk_42 (dk_at dksX9_relaxes_3 10 rfl rfl)
theorem dX9_relaxes_81 : decode cX9_relaxes 81 = .ok (.getfield 34, 3) := dk_180 0 34 (dk_at dksX9_relaxes_3 11 rfl rfl)
theorem dX9_relaxes_84 : decode cX9_relaxes 84 = .ok (.getfield 193, 3) := dk_180 0 193 (dk_at dksX9_relaxes_3 14 rfl rfl)
theorem dX9_relaxes_87 : decode cX9_relaxes 87 = .ok (.lastore, 1) := dk_80 (dk_at dksX9_relaxes_3 17 rfl rfl)
theorem dX9_relaxes_88 : decode cX9_relaxes 88 = .ok (.aload_n 0, 1) := dk_42 (dk_at dksX9_relaxes_3 18 rfl rfl)
theorem dX9_relaxes_89 : decode cX9_relaxes 89 = .ok (.getfield 62, 3) := dk_180 0 62 (dk_at dksX9_relaxes_3 19 rfl rfl)
theorem dX9_relaxes_92 : decode cX9_relaxes 92 = .ok (.iload_n 1, 1) := dk_27 (dk_at dksX9_relaxes_3 22 rfl rfl)
theorem dX9_relaxes_93 : decode cX9_relaxes 93 = .ok (.aload_n 0, 1) := dk_42 (dk_at dksX9_relaxes_3 23 rfl rfl)
theorem dX9_relaxes_94 : decode cX9_relaxes 94 = .ok (.getfield 34, 3) := dk_180 0 34 (dk_at dksX9_relaxes_4 0 rfl rfl)
theorem dX9_relaxes_97 : decode cX9_relaxes 97 = .ok (.getfield 197, 3) := dk_180 0 197 (dk_at dksX9_relaxes_4 3 rfl rfl)
theorem dX9_relaxes_100 : decode cX9_relaxes 100 = .ok (.lastore, 1) := dk_80 (dk_at dksX9_relaxes_4 6 rfl rfl)
theorem dX9_relaxes_101 : decode cX9_relaxes 101 = .ok (.iconst 0, 1) := dk_3 (dk_at dksX9_relaxes_4 7 rfl rfl)
theorem dX9_relaxes_102 : decode cX9_relaxes 102 = .ok (.istore_n 3, 1) := dk_62 (dk_at dksX9_relaxes_4 8 rfl rfl)
theorem dX9_relaxes_103 : decode cX9_relaxes 103 = .ok (.iload_n 3, 1) := dk_29 (dk_at dksX9_relaxes_4 9 rfl rfl)
theorem dX9_relaxes_104 : decode cX9_relaxes 104 = .ok (.aload_n 0, 1) := dk_42 (dk_at dksX9_relaxes_4 10 rfl rfl)
theorem dX9_relaxes_105 : decode cX9_relaxes 105 = .ok (.invokevirtual 89, 3) := dk_182 0 89 (dk_at dksX9_relaxes_4 11 rfl rfl)
theorem dX9_relaxes_108 : decode cX9_relaxes 108 = .ok (.if_icmp .ge 28, 3) := dk_162 0 28 (dk_at dksX9_relaxes_4 14 rfl rfl)
theorem dX9_relaxes_111 : decode cX9_relaxes 111 = .ok (.aload_n 0, 1) := dk_42 (dk_at dksX9_relaxes_4 17 rfl rfl)
theorem dX9_relaxes_112 : decode cX9_relaxes 112 = .ok (.getfield 55, 3) := dk_180 0 55 (dk_at dksX9_relaxes_4 18 rfl rfl)
theorem dX9_relaxes_115 : decode cX9_relaxes 115 = .ok (.iconst 5, 1) := dk_8 (dk_at dksX9_relaxes_4 21 rfl rfl)
theorem dX9_relaxes_116 : decode cX9_relaxes 116 = .ok (.iload_n 1, 1) := dk_27 (dk_at dksX9_relaxes_4 22 rfl rfl)
theorem dX9_relaxes_117 : decode cX9_relaxes 117 = .ok (.imul, 1) := dk_104 (dk_at dksX9_relaxes_4 23 rfl rfl)
theorem dX9_relaxes_118 : decode cX9_relaxes 118 = .ok (.iload_n 3, 1) := dk_29 (dk_at dksX9_relaxes_5 0 rfl rfl)
theorem dX9_relaxes_119 : decode cX9_relaxes 119 = .ok (.iadd, 1) := dk_96 (dk_at dksX9_relaxes_5 1 rfl rfl)
theorem dX9_relaxes_120 : decode cX9_relaxes 120 = .ok (.aload_n 0, 1) := dk_42 (dk_at dksX9_relaxes_5 2 rfl rfl)
theorem dX9_relaxes_121 : decode cX9_relaxes 121 = .ok (.aload_n 0, 1) := dk_42 (dk_at dksX9_relaxes_5 3 rfl rfl)
theorem dX9_relaxes_122 : decode cX9_relaxes 122 = .ok (.getfield 34, 3) := dk_180 0 34 (dk_at dksX9_relaxes_5 4 rfl rfl)
theorem dX9_relaxes_125 : decode cX9_relaxes 125 = .ok (.iload_n 3, 1) := dk_29 (dk_at dksX9_relaxes_5 7 rfl rfl)
theorem dX9_relaxes_126 : decode cX9_relaxes 126 = .ok (.invokevirtual 314, 3) := dk_182 1 58 (dk_at dksX9_relaxes_5 8 rfl rfl)
theorem dX9_relaxes_129 : decode cX9_relaxes 129 = .ok (.lastore, 1) := dk_80 (dk_at dksX9_relaxes_5 11 rfl rfl)
theorem dX9_relaxes_130 : decode cX9_relaxes 130 = .ok (.iinc 3 1, 3) := dk_132 3 1 (dk_at dksX9_relaxes_5 12 rfl rfl)
theorem dX9_relaxes_133 : decode cX9_relaxes 133 = .ok (.goto (-30), 3) := dk_167 255 226 (dk_at dksX9_relaxes_5 15 rfl rfl)
theorem dX9_relaxes_136 : decode cX9_relaxes 136 = .ok (.iload_n 2, 1) := dk_28 (dk_at dksX9_relaxes_5 18 rfl rfl)
theorem dX9_relaxes_137 : decode cX9_relaxes 137 = .ok (.bipush (-6), 2) := dk_16 250 (dk_at dksX9_relaxes_5 19 rfl rfl)
theorem dX9_relaxes_139 : decode cX9_relaxes 139 = .ok (.if_icmp .ne 8, 3) := dk_160 0 8 (dk_at dksX9_relaxes_5 21 rfl rfl)
theorem dX9_relaxes_142 : decode cX9_relaxes 142 = .ok (.bipush (-6), 2) := dk_16 250 (dk_at dksX9_relaxes_6 0 rfl rfl)
theorem dX9_relaxes_144 : decode cX9_relaxes 144 = .ok (.goto 4, 3) := dk_167 0 4 (dk_at dksX9_relaxes_6 2 rfl rfl)
theorem dX9_relaxes_147 : decode cX9_relaxes 147 = .ok (.iconst 1, 1) := dk_4 (dk_at dksX9_relaxes_6 5 rfl rfl)
theorem dX9_relaxes_148 : decode cX9_relaxes 148 = .ok (.ireturn, 1) := dk_172 (dk_at dksX9_relaxes_6 6 rfl rfl)
abbrev cX9_bounds : ByteArray := prog_19_method_77_code
def yX9_bounds : MethodName := ⟨RX9, "bounds", "(LWholePacksModel$Table;II)V"⟩
def dkwX9_bounds_4 : List UInt8 := [104, 29, 96, 10, 80, 177]
abbrev dktX9_bounds_4 : List UInt8 := dkwX9_bounds_4 ++ []
def dkwX9_bounds_3 : List UInt8 := [180, 0, 49, 8, 28, 104, 29, 96, 46, 133, 182, 0, 213, 43, 180, 0, 175, 8, 43, 180, 0, 178, 4, 100]
abbrev dktX9_bounds_3 : List UInt8 := dkwX9_bounds_3 ++ dktX9_bounds_4
def dkwX9_bounds_2 : List UInt8 := [20, 0, 242, 80, 42, 180, 0, 49, 8, 28, 104, 29, 96, 46, 155, 0, 39, 42, 43, 16, 50, 29, 96, 42]
abbrev dktX9_bounds_2 : List UInt8 := dkwX9_bounds_2 ++ dktX9_bounds_3
def dkwX9_bounds_1 : List UInt8 := [28, 104, 29, 96, 46, 116, 133, 182, 0, 213, 43, 180, 0, 175, 8, 43, 180, 0, 178, 4, 100, 104, 29, 96]
abbrev dktX9_bounds_1 : List UInt8 := dkwX9_bounds_1 ++ dktX9_bounds_2
def dkwX9_bounds_0 : List UInt8 := [42, 180, 0, 46, 8, 28, 104, 29, 96, 46, 158, 0, 42, 42, 43, 16, 40, 29, 96, 42, 180, 0, 46, 8]
abbrev dktX9_bounds_0 : List UInt8 := dkwX9_bounds_0 ++ dktX9_bounds_1
theorem dksX9_bounds_0 : cX9_bounds.data.toList.drop 0 = dktX9_bounds_0 := by decide +kernel
theorem dksX9_bounds_1 : cX9_bounds.data.toList.drop 24 = dktX9_bounds_1 := dk_seg dksX9_bounds_0 24 rfl rfl
theorem dksX9_bounds_2 : cX9_bounds.data.toList.drop 48 = dktX9_bounds_2 := dk_seg dksX9_bounds_1 24 rfl rfl
theorem dksX9_bounds_3 : cX9_bounds.data.toList.drop 72 = dktX9_bounds_3 := dk_seg dksX9_bounds_2 24 rfl rfl
theorem dksX9_bounds_4 : cX9_bounds.data.toList.drop 96 = dktX9_bounds_4 := dk_seg dksX9_bounds_3 24 rfl rfl
theorem dX9_bounds_0 : decode cX9_bounds 0 = .ok (.aload_n 0, 1) := dk_42 (dk_at dksX9_bounds_0 0 rfl rfl)
theorem dX9_bounds_1 : decode cX9_bounds 1 = .ok (.getfield 46, 3) := dk_180 0 46 (dk_at dksX9_bounds_0 1 rfl rfl)
theorem dX9_bounds_4 : decode cX9_bounds 4 = .ok (.iconst 5, 1) := dk_8 (dk_at dksX9_bounds_0 4 rfl rfl)
theorem dX9_bounds_5 : decode cX9_bounds 5 = .ok (.iload_n 2, 1) := dk_28 (dk_at dksX9_bounds_0 5 rfl rfl)
theorem dX9_bounds_6 : decode cX9_bounds 6 = .ok (.imul, 1) := dk_104 (dk_at dksX9_bounds_0 6 rfl rfl)
theorem dX9_bounds_7 : decode cX9_bounds 7 = .ok (.iload_n 3, 1) := dk_29 (dk_at dksX9_bounds_0 7 rfl rfl)
theorem dX9_bounds_8 : decode cX9_bounds 8 = .ok (.iadd, 1) := dk_96 (dk_at dksX9_bounds_0 8 rfl rfl)
theorem dX9_bounds_9 : decode cX9_bounds 9 = .ok (.iaload, 1) := dk_46 (dk_at dksX9_bounds_0 9 rfl rfl)
theorem dX9_bounds_10 : decode cX9_bounds 10 = .ok (.ifCond .le 42, 3) := dk_158 0 42 (dk_at dksX9_bounds_0 10 rfl rfl)
theorem dX9_bounds_13 : decode cX9_bounds 13 = .ok (.aload_n 0, 1) := dk_42 (dk_at dksX9_bounds_0 13 rfl rfl)
theorem dX9_bounds_14 : decode cX9_bounds 14 = .ok (.aload_n 1, 1) := dk_43 (dk_at dksX9_bounds_0 14 rfl rfl)
theorem dX9_bounds_15 : decode cX9_bounds 15 = .ok (.bipush 40, 2) := dk_16 40 (dk_at dksX9_bounds_0 15 rfl rfl)
theorem dX9_bounds_17 : decode cX9_bounds 17 = .ok (.iload_n 3, 1) := dk_29 (dk_at dksX9_bounds_0 17 rfl rfl)
theorem dX9_bounds_18 : decode cX9_bounds 18 = .ok (.iadd, 1) := dk_96 (dk_at dksX9_bounds_0 18 rfl rfl)
theorem dX9_bounds_19 : decode cX9_bounds 19 = .ok (.aload_n 0, 1) := dk_42 (dk_at dksX9_bounds_0 19 rfl rfl)
theorem dX9_bounds_20 : decode cX9_bounds 20 = .ok (.getfield 46, 3) := dk_180 0 46 (dk_at dksX9_bounds_0 20 rfl rfl)
theorem dX9_bounds_23 : decode cX9_bounds 23 = .ok (.iconst 5, 1) := dk_8 (dk_at dksX9_bounds_0 23 rfl rfl)
theorem dX9_bounds_24 : decode cX9_bounds 24 = .ok (.iload_n 2, 1) := dk_28 (dk_at dksX9_bounds_1 0 rfl rfl)
theorem dX9_bounds_25 : decode cX9_bounds 25 = .ok (.imul, 1) := dk_104 (dk_at dksX9_bounds_1 1 rfl rfl)
theorem dX9_bounds_26 : decode cX9_bounds 26 = .ok (.iload_n 3, 1) := dk_29 (dk_at dksX9_bounds_1 2 rfl rfl)
theorem dX9_bounds_27 : decode cX9_bounds 27 = .ok (.iadd, 1) := dk_96 (dk_at dksX9_bounds_1 3 rfl rfl)
theorem dX9_bounds_28 : decode cX9_bounds 28 = .ok (.iaload, 1) := dk_46 (dk_at dksX9_bounds_1 4 rfl rfl)
theorem dX9_bounds_29 : decode cX9_bounds 29 = .ok (.ineg, 1) := dk_116 (dk_at dksX9_bounds_1 5 rfl rfl)
theorem dX9_bounds_30 : decode cX9_bounds 30 = .ok (.i2l, 1) := dk_133 (dk_at dksX9_bounds_1 6 rfl rfl)
theorem dX9_bounds_31 : decode cX9_bounds 31 = .ok (.invokevirtual 213, 3) := dk_182 0 213 (dk_at dksX9_bounds_1 7 rfl rfl)
theorem dX9_bounds_34 : decode cX9_bounds 34 = .ok (.aload_n 1, 1) := dk_43 (dk_at dksX9_bounds_1 10 rfl rfl)
theorem dX9_bounds_35 : decode cX9_bounds 35 = .ok (.getfield 175, 3) := dk_180 0 175 (dk_at dksX9_bounds_1 11 rfl rfl)
theorem dX9_bounds_38 : decode cX9_bounds 38 = .ok (.iconst 5, 1) := dk_8 (dk_at dksX9_bounds_1 14 rfl rfl)
theorem dX9_bounds_39 : decode cX9_bounds 39 = .ok (.aload_n 1, 1) := dk_43 (dk_at dksX9_bounds_1 15 rfl rfl)
theorem dX9_bounds_40 : decode cX9_bounds 40 = .ok (.getfield 178, 3) := dk_180 0 178 (dk_at dksX9_bounds_1 16 rfl rfl)
theorem dX9_bounds_43 : decode cX9_bounds 43 = .ok (.iconst 1, 1) := dk_4 (dk_at dksX9_bounds_1 19 rfl rfl)
theorem dX9_bounds_44 : decode cX9_bounds 44 = .ok (.isub, 1) := dk_100 (dk_at dksX9_bounds_1 20 rfl rfl)
theorem dX9_bounds_45 : decode cX9_bounds 45 = .ok (.imul, 1) := dk_104 (dk_at dksX9_bounds_1 21 rfl rfl)
theorem dX9_bounds_46 : decode cX9_bounds 46 = .ok (.iload_n 3, 1) := dk_29 (dk_at dksX9_bounds_1 22 rfl rfl)
theorem dX9_bounds_47 : decode cX9_bounds 47 = .ok (.iadd, 1) := dk_96 (dk_at dksX9_bounds_1 23 rfl rfl)
theorem dX9_bounds_48 : decode cX9_bounds 48 = .ok (.ldc2_w 242, 3) := dk_20 0 242 (dk_at dksX9_bounds_2 0 rfl rfl)
theorem dX9_bounds_51 : decode cX9_bounds 51 = .ok (.lastore, 1) := dk_80 (dk_at dksX9_bounds_2 3 rfl rfl)
theorem dX9_bounds_52 : decode cX9_bounds 52 = .ok (.aload_n 0, 1) := dk_42 (dk_at dksX9_bounds_2 4 rfl rfl)
theorem dX9_bounds_53 : decode cX9_bounds 53 = .ok (.getfield 49, 3) := dk_180 0 49 (dk_at dksX9_bounds_2 5 rfl rfl)
theorem dX9_bounds_56 : decode cX9_bounds 56 = .ok (.iconst 5, 1) := dk_8 (dk_at dksX9_bounds_2 8 rfl rfl)
theorem dX9_bounds_57 : decode cX9_bounds 57 = .ok (.iload_n 2, 1) := dk_28 (dk_at dksX9_bounds_2 9 rfl rfl)
theorem dX9_bounds_58 : decode cX9_bounds 58 = .ok (.imul, 1) := dk_104 (dk_at dksX9_bounds_2 10 rfl rfl)
theorem dX9_bounds_59 : decode cX9_bounds 59 = .ok (.iload_n 3, 1) := dk_29 (dk_at dksX9_bounds_2 11 rfl rfl)
theorem dX9_bounds_60 : decode cX9_bounds 60 = .ok (.iadd, 1) := dk_96 (dk_at dksX9_bounds_2 12 rfl rfl)
theorem dX9_bounds_61 : decode cX9_bounds 61 = .ok (.iaload, 1) := dk_46 (dk_at dksX9_bounds_2 13 rfl rfl)
theorem dX9_bounds_62 : decode cX9_bounds 62 = .ok (.ifCond .lt 39, 3) := dk_155 0 39 (dk_at dksX9_bounds_2 14 rfl rfl)
theorem dX9_bounds_65 : decode cX9_bounds 65 = .ok (.aload_n 0, 1) := dk_42 (dk_at dksX9_bounds_2 17 rfl rfl)
theorem dX9_bounds_66 : decode cX9_bounds 66 = .ok (.aload_n 1, 1) := dk_43 (dk_at dksX9_bounds_2 18 rfl rfl)
theorem dX9_bounds_67 : decode cX9_bounds 67 = .ok (.bipush 50, 2) := dk_16 50 (dk_at dksX9_bounds_2 19 rfl rfl)
theorem dX9_bounds_69 : decode cX9_bounds 69 = .ok (.iload_n 3, 1) := dk_29 (dk_at dksX9_bounds_2 21 rfl rfl)
theorem dX9_bounds_70 : decode cX9_bounds 70 = .ok (.iadd, 1) := dk_96 (dk_at dksX9_bounds_2 22 rfl rfl)
theorem dX9_bounds_71 : decode cX9_bounds 71 = .ok (.aload_n 0, 1) := dk_42 (dk_at dksX9_bounds_2 23 rfl rfl)
theorem dX9_bounds_72 : decode cX9_bounds 72 = .ok (.getfield 49, 3) := dk_180 0 49 (dk_at dksX9_bounds_3 0 rfl rfl)
theorem dX9_bounds_75 : decode cX9_bounds 75 = .ok (.iconst 5, 1) := dk_8 (dk_at dksX9_bounds_3 3 rfl rfl)
theorem dX9_bounds_76 : decode cX9_bounds 76 = .ok (.iload_n 2, 1) := dk_28 (dk_at dksX9_bounds_3 4 rfl rfl)
theorem dX9_bounds_77 : decode cX9_bounds 77 = .ok (.imul, 1) := dk_104 (dk_at dksX9_bounds_3 5 rfl rfl)
theorem dX9_bounds_78 : decode cX9_bounds 78 = .ok (.iload_n 3, 1) := dk_29 (dk_at dksX9_bounds_3 6 rfl rfl)
theorem dX9_bounds_79 : decode cX9_bounds 79 = .ok (.iadd, 1) := dk_96 (dk_at dksX9_bounds_3 7 rfl rfl)
theorem dX9_bounds_80 : decode cX9_bounds 80 = .ok (.iaload, 1) := dk_46 (dk_at dksX9_bounds_3 8 rfl rfl)
theorem dX9_bounds_81 : decode cX9_bounds 81 = .ok (.i2l, 1) := dk_133 (dk_at dksX9_bounds_3 9 rfl rfl)
theorem dX9_bounds_82 : decode cX9_bounds 82 = .ok (.invokevirtual 213, 3) := dk_182 0 213 (dk_at dksX9_bounds_3 10 rfl rfl)
theorem dX9_bounds_85 : decode cX9_bounds 85 = .ok (.aload_n 1, 1) := dk_43 (dk_at dksX9_bounds_3 13 rfl rfl)
theorem dX9_bounds_86 : decode cX9_bounds 86 = .ok (.getfield 175, 3) := dk_180 0 175 (dk_at dksX9_bounds_3 14 rfl rfl)
theorem dX9_bounds_89 : decode cX9_bounds 89 = .ok (.iconst 5, 1) := dk_8 (dk_at dksX9_bounds_3 17 rfl rfl)
theorem dX9_bounds_90 : decode cX9_bounds 90 = .ok (.aload_n 1, 1) := dk_43 (dk_at dksX9_bounds_3 18 rfl rfl)
theorem dX9_bounds_91 : decode cX9_bounds 91 = .ok (.getfield 178, 3) := dk_180 0 178 (dk_at dksX9_bounds_3 19 rfl rfl)
theorem dX9_bounds_94 : decode cX9_bounds 94 = .ok (.iconst 1, 1) := dk_4 (dk_at dksX9_bounds_3 22 rfl rfl)
theorem dX9_bounds_95 : decode cX9_bounds 95 = .ok (.isub, 1) := dk_100 (dk_at dksX9_bounds_3 23 rfl rfl)
theorem dX9_bounds_96 : decode cX9_bounds 96 = .ok (.imul, 1) := dk_104 (dk_at dksX9_bounds_4 0 rfl rfl)
theorem dX9_bounds_97 : decode cX9_bounds 97 = .ok (.iload_n 3, 1) := dk_29 (dk_at dksX9_bounds_4 1 rfl rfl)
theorem dX9_bounds_98 : decode cX9_bounds 98 = .ok (.iadd, 1) := dk_96 (dk_at dksX9_bounds_4 2 rfl rfl)
theorem dX9_bounds_99 : decode cX9_bounds 99 = .ok (.lconst 1, 1) := dk_10 (dk_at dksX9_bounds_4 3 rfl rfl)
theorem dX9_bounds_100 : decode cX9_bounds 100 = .ok (.lastore, 1) := dk_80 (dk_at dksX9_bounds_4 4 rfl rfl)
theorem dX9_bounds_101 : decode cX9_bounds 101 = .ok (.return_, 1) := dk_177 (dk_at dksX9_bounds_4 5 rfl rfl)
abbrev cX9_hopeful : ByteArray := prog_19_method_79_code
def yX9_hopeful : MethodName := ⟨RX9, "hopeful", "()I"⟩
def dkwX9_hopeful_2 : List UInt8 := [180, 0, 62, 28, 47, 105, 148, 156, 0, 5, 28, 60, 132, 2, 1, 167, 255, 200, 27, 172]
abbrev dktX9_hopeful_2 : List UInt8 := dkwX9_hopeful_2 ++ []
def dkwX9_hopeful_1 : List UInt8 := [155, 0, 33, 42, 180, 0, 59, 28, 47, 42, 180, 0, 62, 27, 47, 105, 42, 180, 0, 59, 27, 47, 42]
abbrev dktX9_hopeful_1 : List UInt8 := dkwX9_hopeful_1 ++ dktX9_hopeful_2
def dkwX9_hopeful_0 : List UInt8 := [2, 60, 3, 61, 28, 42, 180, 1, 115, 162, 0, 54, 42, 180, 0, 65, 28, 51, 153, 0, 39, 27]
abbrev dktX9_hopeful_0 : List UInt8 := dkwX9_hopeful_0 ++ dktX9_hopeful_1
theorem dksX9_hopeful_0 : cX9_hopeful.data.toList.drop 0 = dktX9_hopeful_0 := by decide +kernel
theorem dksX9_hopeful_1 : cX9_hopeful.data.toList.drop 22 = dktX9_hopeful_1 := dk_seg dksX9_hopeful_0 22 rfl rfl
theorem dksX9_hopeful_2 : cX9_hopeful.data.toList.drop 45 = dktX9_hopeful_2 := dk_seg dksX9_hopeful_1 23 rfl rfl
theorem dX9_hopeful_0 : decode cX9_hopeful 0 = .ok (.iconst (-1), 1) := dk_2 (dk_at dksX9_hopeful_0 0 rfl rfl)
theorem dX9_hopeful_1 : decode cX9_hopeful 1 = .ok (.istore_n 1, 1) := dk_60 (dk_at dksX9_hopeful_0 1 rfl rfl)
theorem dX9_hopeful_2 : decode cX9_hopeful 2 = .ok (.iconst 0, 1) := dk_3 (dk_at dksX9_hopeful_0 2 rfl rfl)
theorem dX9_hopeful_3 : decode cX9_hopeful 3 = .ok (.istore_n 2, 1) := dk_61 (dk_at dksX9_hopeful_0 3 rfl rfl)
theorem dX9_hopeful_4 : decode cX9_hopeful 4 = .ok (.iload_n 2, 1) := dk_28 (dk_at dksX9_hopeful_0 4 rfl rfl)
theorem dX9_hopeful_5 : decode cX9_hopeful 5 = .ok (.aload_n 0, 1) := dk_42 (dk_at dksX9_hopeful_0 5 rfl rfl)
theorem dX9_hopeful_6 : decode cX9_hopeful 6 = .ok (.getfield 371, 3) := dk_180 1 115 (dk_at dksX9_hopeful_0 6 rfl rfl)
theorem dX9_hopeful_9 : decode cX9_hopeful 9 = .ok (.if_icmp .ge 54, 3) := dk_162 0 54 (dk_at dksX9_hopeful_0 9 rfl rfl)
theorem dX9_hopeful_12 : decode cX9_hopeful 12 = .ok (.aload_n 0, 1) := dk_42 (dk_at dksX9_hopeful_0 12 rfl rfl)
theorem dX9_hopeful_13 : decode cX9_hopeful 13 = .ok (.getfield 65, 3) := dk_180 0 65 (dk_at dksX9_hopeful_0 13 rfl rfl)
theorem dX9_hopeful_16 : decode cX9_hopeful 16 = .ok (.iload_n 2, 1) := dk_28 (dk_at dksX9_hopeful_0 16 rfl rfl)
theorem dX9_hopeful_17 : decode cX9_hopeful 17 = .ok (.baload, 1) := dk_51 (dk_at dksX9_hopeful_0 17 rfl rfl)
theorem dX9_hopeful_18 : decode cX9_hopeful 18 = .ok (.ifCond .eq 39, 3) := dk_153 0 39 (dk_at dksX9_hopeful_0 18 rfl rfl)
theorem dX9_hopeful_21 : decode cX9_hopeful 21 = .ok (.iload_n 1, 1) := dk_27 (dk_at dksX9_hopeful_0 21 rfl rfl)
theorem dX9_hopeful_22 : decode cX9_hopeful 22 = .ok (.ifCond .lt 33, 3) := dk_155 0 33 (dk_at dksX9_hopeful_1 0 rfl rfl)
theorem dX9_hopeful_25 : decode cX9_hopeful 25 = .ok (.aload_n 0, 1) := dk_42 (dk_at dksX9_hopeful_1 3 rfl rfl)
theorem dX9_hopeful_26 : decode cX9_hopeful 26 = .ok (.getfield 59, 3) := dk_180 0 59 (dk_at dksX9_hopeful_1 4 rfl rfl)
theorem dX9_hopeful_29 : decode cX9_hopeful 29 = .ok (.iload_n 2, 1) := dk_28 (dk_at dksX9_hopeful_1 7 rfl rfl)
theorem dX9_hopeful_30 : decode cX9_hopeful 30 = .ok (.laload, 1) := dk_47 (dk_at dksX9_hopeful_1 8 rfl rfl)
theorem dX9_hopeful_31 : decode cX9_hopeful 31 = .ok (.aload_n 0, 1) := dk_42 (dk_at dksX9_hopeful_1 9 rfl rfl)
theorem dX9_hopeful_32 : decode cX9_hopeful 32 = .ok (.getfield 62, 3) := dk_180 0 62 (dk_at dksX9_hopeful_1 10 rfl rfl)
theorem dX9_hopeful_35 : decode cX9_hopeful 35 = .ok (.iload_n 1, 1) := dk_27 (dk_at dksX9_hopeful_1 13 rfl rfl)
theorem dX9_hopeful_36 : decode cX9_hopeful 36 = .ok (.laload, 1) := dk_47 (dk_at dksX9_hopeful_1 14 rfl rfl)
theorem dX9_hopeful_37 : decode cX9_hopeful 37 = .ok (.lmul, 1) := dk_105 (dk_at dksX9_hopeful_1 15 rfl rfl)
theorem dX9_hopeful_38 : decode cX9_hopeful 38 = .ok (.aload_n 0, 1) := dk_42 (dk_at dksX9_hopeful_1 16 rfl rfl)
theorem dX9_hopeful_39 : decode cX9_hopeful 39 = .ok (.getfield 59, 3) := dk_180 0 59 (dk_at dksX9_hopeful_1 17 rfl rfl)
theorem dX9_hopeful_42 : decode cX9_hopeful 42 = .ok (.iload_n 1, 1) := dk_27 (dk_at dksX9_hopeful_1 20 rfl rfl)
theorem dX9_hopeful_43 : decode cX9_hopeful 43 = .ok (.laload, 1) := dk_47 (dk_at dksX9_hopeful_1 21 rfl rfl)
theorem dX9_hopeful_44 : decode cX9_hopeful 44 = .ok (.aload_n 0, 1) := dk_42 (dk_at dksX9_hopeful_1 22 rfl rfl)
theorem dX9_hopeful_45 : decode cX9_hopeful 45 = .ok (.getfield 62, 3) := dk_180 0 62 (dk_at dksX9_hopeful_2 0 rfl rfl)
theorem dX9_hopeful_48 : decode cX9_hopeful 48 = .ok (.iload_n 2, 1) := dk_28 (dk_at dksX9_hopeful_2 3 rfl rfl)
theorem dX9_hopeful_49 : decode cX9_hopeful 49 = .ok (.laload, 1) := dk_47 (dk_at dksX9_hopeful_2 4 rfl rfl)
theorem dX9_hopeful_50 : decode cX9_hopeful 50 = .ok (.lmul, 1) := dk_105 (dk_at dksX9_hopeful_2 5 rfl rfl)
theorem dX9_hopeful_51 : decode cX9_hopeful 51 = .ok (.lcmp, 1) := dk_148 (dk_at dksX9_hopeful_2 6 rfl rfl)
theorem dX9_hopeful_52 : decode cX9_hopeful 52 = .ok (.ifCond .ge 5, 3) := dk_156 0 5 (dk_at dksX9_hopeful_2 7 rfl rfl)
theorem dX9_hopeful_55 : decode cX9_hopeful 55 = .ok (.iload_n 2, 1) := dk_28 (dk_at dksX9_hopeful_2 10 rfl rfl)
theorem dX9_hopeful_56 : decode cX9_hopeful 56 = .ok (.istore_n 1, 1) := dk_60 (dk_at dksX9_hopeful_2 11 rfl rfl)
theorem dX9_hopeful_57 : decode cX9_hopeful 57 = .ok (.iinc 2 1, 3) := dk_132 2 1 (dk_at dksX9_hopeful_2 12 rfl rfl)
theorem dX9_hopeful_60 : decode cX9_hopeful 60 = .ok (.goto (-56), 3) := dk_167 255 200 (dk_at dksX9_hopeful_2 15 rfl rfl)
theorem dX9_hopeful_63 : decode cX9_hopeful 63 = .ok (.iload_n 1, 1) := dk_27 (dk_at dksX9_hopeful_2 18 rfl rfl)
theorem dX9_hopeful_64 : decode cX9_hopeful 64 = .ok (.ireturn, 1) := dk_172 (dk_at dksX9_hopeful_2 19 rfl rfl)
abbrev cX9_partlyOf : ByteArray := prog_19_method_80_code
def yX9_partlyOf : MethodName := ⟨RX9, "partlyOf", "(I)I"⟩
def dkwX9_partlyOf_1 : List UInt8 := [27, 47, 113, 9, 148, 153, 0, 5, 28, 172, 132, 2, 1, 167, 255, 221, 2, 172]
abbrev dktX9_partlyOf_1 : List UInt8 := dkwX9_partlyOf_1 ++ []
def dkwX9_partlyOf_0 : List UInt8 := [3, 61, 28, 42, 182, 0, 89, 162, 0, 33, 42, 180, 0, 55, 8, 27, 104, 28, 96, 47, 42, 180, 0, 62]
abbrev dktX9_partlyOf_0 : List UInt8 := dkwX9_partlyOf_0 ++ dktX9_partlyOf_1
theorem dksX9_partlyOf_0 : cX9_partlyOf.data.toList.drop 0 = dktX9_partlyOf_0 := by decide +kernel
theorem dksX9_partlyOf_1 : cX9_partlyOf.data.toList.drop 24 = dktX9_partlyOf_1 := dk_seg dksX9_partlyOf_0 24 rfl rfl
theorem dX9_partlyOf_0 : decode cX9_partlyOf 0 = .ok (.iconst 0, 1) := dk_3 (dk_at dksX9_partlyOf_0 0 rfl rfl)
theorem dX9_partlyOf_1 : decode cX9_partlyOf 1 = .ok (.istore_n 2, 1) := dk_61 (dk_at dksX9_partlyOf_0 1 rfl rfl)
theorem dX9_partlyOf_2 : decode cX9_partlyOf 2 = .ok (.iload_n 2, 1) := dk_28 (dk_at dksX9_partlyOf_0 2 rfl rfl)
theorem dX9_partlyOf_3 : decode cX9_partlyOf 3 = .ok (.aload_n 0, 1) := dk_42 (dk_at dksX9_partlyOf_0 3 rfl rfl)
theorem dX9_partlyOf_4 : decode cX9_partlyOf 4 = .ok (.invokevirtual 89, 3) := dk_182 0 89 (dk_at dksX9_partlyOf_0 4 rfl rfl)
theorem dX9_partlyOf_7 : decode cX9_partlyOf 7 = .ok (.if_icmp .ge 33, 3) := dk_162 0 33 (dk_at dksX9_partlyOf_0 7 rfl rfl)
theorem dX9_partlyOf_10 : decode cX9_partlyOf 10 = .ok (.aload_n 0, 1) := dk_42 (dk_at dksX9_partlyOf_0 10 rfl rfl)
theorem dX9_partlyOf_11 : decode cX9_partlyOf 11 = .ok (.getfield 55, 3) := dk_180 0 55 (dk_at dksX9_partlyOf_0 11 rfl rfl)
theorem dX9_partlyOf_14 : decode cX9_partlyOf 14 = .ok (.iconst 5, 1) := dk_8 (dk_at dksX9_partlyOf_0 14 rfl rfl)
theorem dX9_partlyOf_15 : decode cX9_partlyOf 15 = .ok (.iload_n 1, 1) := dk_27 (dk_at dksX9_partlyOf_0 15 rfl rfl)
theorem dX9_partlyOf_16 : decode cX9_partlyOf 16 = .ok (.imul, 1) := dk_104 (dk_at dksX9_partlyOf_0 16 rfl rfl)
theorem dX9_partlyOf_17 : decode cX9_partlyOf 17 = .ok (.iload_n 2, 1) := dk_28 (dk_at dksX9_partlyOf_0 17 rfl rfl)
theorem dX9_partlyOf_18 : decode cX9_partlyOf 18 = .ok (.iadd, 1) := dk_96 (dk_at dksX9_partlyOf_0 18 rfl rfl)
theorem dX9_partlyOf_19 : decode cX9_partlyOf 19 = .ok (.laload, 1) := dk_47 (dk_at dksX9_partlyOf_0 19 rfl rfl)
theorem dX9_partlyOf_20 : decode cX9_partlyOf 20 = .ok (.aload_n 0, 1) := dk_42 (dk_at dksX9_partlyOf_0 20 rfl rfl)
theorem dX9_partlyOf_21 : decode cX9_partlyOf 21 = .ok (.getfield 62, 3) := dk_180 0 62 (dk_at dksX9_partlyOf_0 21 rfl rfl)
theorem dX9_partlyOf_24 : decode cX9_partlyOf 24 = .ok (.iload_n 1, 1) := dk_27 (dk_at dksX9_partlyOf_1 0 rfl rfl)
theorem dX9_partlyOf_25 : decode cX9_partlyOf 25 = .ok (.laload, 1) := dk_47 (dk_at dksX9_partlyOf_1 1 rfl rfl)
theorem dX9_partlyOf_26 : decode cX9_partlyOf 26 = .ok (.lrem, 1) := dk_113 (dk_at dksX9_partlyOf_1 2 rfl rfl)
theorem dX9_partlyOf_27 : decode cX9_partlyOf 27 = .ok (.lconst 0, 1) := dk_9 (dk_at dksX9_partlyOf_1 3 rfl rfl)
theorem dX9_partlyOf_28 : decode cX9_partlyOf 28 = .ok (.lcmp, 1) := dk_148 (dk_at dksX9_partlyOf_1 4 rfl rfl)
theorem dX9_partlyOf_29 : decode cX9_partlyOf 29 = .ok (.ifCond .eq 5, 3) := dk_153 0 5 (dk_at dksX9_partlyOf_1 5 rfl rfl)
theorem dX9_partlyOf_32 : decode cX9_partlyOf 32 = .ok (.iload_n 2, 1) := dk_28 (dk_at dksX9_partlyOf_1 8 rfl rfl)
theorem dX9_partlyOf_33 : decode cX9_partlyOf 33 = .ok (.ireturn, 1) := dk_172 (dk_at dksX9_partlyOf_1 9 rfl rfl)
theorem dX9_partlyOf_34 : decode cX9_partlyOf 34 = .ok (.iinc 2 1, 3) := dk_132 2 1 (dk_at dksX9_partlyOf_1 10 rfl rfl)
theorem dX9_partlyOf_37 : decode cX9_partlyOf 37 = .ok (.goto (-35), 3) := dk_167 255 221 (dk_at dksX9_partlyOf_1 13 rfl rfl)
theorem dX9_partlyOf_40 : decode cX9_partlyOf 40 = .ok (.iconst (-1), 1) := dk_2 (dk_at dksX9_partlyOf_1 16 rfl rfl)
theorem dX9_partlyOf_41 : decode cX9_partlyOf 41 = .ok (.ireturn, 1) := dk_172 (dk_at dksX9_partlyOf_1 17 rfl rfl)
abbrev cX9_would : ByteArray := prog_19_method_84_code
def yX9_would : MethodName := ⟨RX9, "would", "(II)I"⟩
def dkwX9_would_1 : List UInt8 := [153, 0, 12, 42, 27, 28, 182, 1, 147, 167, 0, 5, 16, 254, 172]
abbrev dktX9_would_1 : List UInt8 := dkwX9_would_1 ++ []
def dkwX9_would_0 : List UInt8 := [42, 27, 182, 0, 124, 154, 0, 7, 2, 167, 0, 28, 28, 133, 20, 0, 116, 20, 0, 118, 184, 0, 93]
abbrev dktX9_would_0 : List UInt8 := dkwX9_would_0 ++ dktX9_would_1
theorem dksX9_would_0 : cX9_would.data.toList.drop 0 = dktX9_would_0 := by decide +kernel
theorem dksX9_would_1 : cX9_would.data.toList.drop 23 = dktX9_would_1 := dk_seg dksX9_would_0 23 rfl rfl
theorem dX9_would_0 : decode cX9_would 0 = .ok (.aload_n 0, 1) := dk_42 (dk_at dksX9_would_0 0 rfl rfl)
theorem dX9_would_1 : decode cX9_would 1 = .ok (.iload_n 1, 1) := dk_27 (dk_at dksX9_would_0 1 rfl rfl)
theorem dX9_would_2 : decode cX9_would 2 = .ok (.invokevirtual 124, 3) := dk_182 0 124 (dk_at dksX9_would_0 2 rfl rfl)
theorem dX9_would_5 : decode cX9_would 5 = .ok (.ifCond .ne 7, 3) := dk_154 0 7 (dk_at dksX9_would_0 5 rfl rfl)
theorem dX9_would_8 : decode cX9_would 8 = .ok (.iconst (-1), 1) := dk_2 (dk_at dksX9_would_0 8 rfl rfl)
theorem dX9_would_9 : decode cX9_would 9 = .ok (.goto 28, 3) := dk_167 0 28 (dk_at dksX9_would_0 9 rfl rfl)
theorem dX9_would_12 : decode cX9_would 12 = .ok (.iload_n 2, 1) := dk_28 (dk_at dksX9_would_0 12 rfl rfl)
theorem dX9_would_13 : decode cX9_would 13 = .ok (.i2l, 1) := dk_133 (dk_at dksX9_would_0 13 rfl rfl)
theorem dX9_would_14 : decode cX9_would 14 = .ok (.ldc2_w 116, 3) := dk_20 0 116 (dk_at dksX9_would_0 14 rfl rfl)
theorem dX9_would_17 : decode cX9_would 17 = .ok (.ldc2_w 118, 3) := dk_20 0 118 (dk_at dksX9_would_0 17 rfl rfl)
theorem dX9_would_20 : decode cX9_would 20 = .ok (.invokestatic 93, 3) := dk_184 0 93 (dk_at dksX9_would_0 20 rfl rfl)
theorem dX9_would_23 : decode cX9_would 23 = .ok (.ifCond .eq 12, 3) := dk_153 0 12 (dk_at dksX9_would_1 0 rfl rfl)
theorem dX9_would_26 : decode cX9_would 26 = .ok (.aload_n 0, 1) := dk_42 (dk_at dksX9_would_1 3 rfl rfl)
theorem dX9_would_27 : decode cX9_would 27 = .ok (.iload_n 1, 1) := dk_27 (dk_at dksX9_would_1 4 rfl rfl)
theorem dX9_would_28 : decode cX9_would 28 = .ok (.iload_n 2, 1) := dk_28 (dk_at dksX9_would_1 5 rfl rfl)
theorem dX9_would_29 : decode cX9_would 29 = .ok (.invokevirtual 403, 3) := dk_182 1 147 (dk_at dksX9_would_1 6 rfl rfl)
theorem dX9_would_32 : decode cX9_would 32 = .ok (.goto 5, 3) := dk_167 0 5 (dk_at dksX9_would_1 9 rfl rfl)
theorem dX9_would_35 : decode cX9_would 35 = .ok (.bipush (-2), 2) := dk_16 254 (dk_at dksX9_would_1 12 rfl rfl)
theorem dX9_would_37 : decode cX9_would 37 = .ok (.ireturn, 1) := dk_172 (dk_at dksX9_would_1 14 rfl rfl)
abbrev cX9_worthWith : ByteArray := prog_19_method_83_code
def yX9_worthWith : MethodName := ⟨RX9, "worthWith", "(II)I"⟩
def dkwX9_worthWith_1 : List UInt8 := [79, 42, 182, 1, 144, 54, 5, 42, 180, 0, 11, 29, 21, 4, 79, 21, 5, 172]
abbrev dktX9_worthWith_1 : List UInt8 := dkwX9_worthWith_1 ++ []
def dkwX9_worthWith_0 : List UInt8 := [16, 12, 16, 7, 27, 104, 96, 4, 96, 62, 42, 180, 0, 11, 29, 46, 54, 4, 42, 180, 0, 11, 29, 28]
abbrev dktX9_worthWith_0 : List UInt8 := dkwX9_worthWith_0 ++ dktX9_worthWith_1
theorem dksX9_worthWith_0 : cX9_worthWith.data.toList.drop 0 = dktX9_worthWith_0 := by decide +kernel
theorem dksX9_worthWith_1 : cX9_worthWith.data.toList.drop 24 = dktX9_worthWith_1 := dk_seg dksX9_worthWith_0 24 rfl rfl
theorem dX9_worthWith_0 : decode cX9_worthWith 0 = .ok (.bipush 12, 2) := dk_16 12 (dk_at dksX9_worthWith_0 0 rfl rfl)
theorem dX9_worthWith_2 : decode cX9_worthWith 2 = .ok (.bipush 7, 2) := dk_16 7 (dk_at dksX9_worthWith_0 2 rfl rfl)
theorem dX9_worthWith_4 : decode cX9_worthWith 4 = .ok (.iload_n 1, 1) := dk_27 (dk_at dksX9_worthWith_0 4 rfl rfl)
theorem dX9_worthWith_5 : decode cX9_worthWith 5 = .ok (.imul, 1) := dk_104 (dk_at dksX9_worthWith_0 5 rfl rfl)
theorem dX9_worthWith_6 : decode cX9_worthWith 6 = .ok (.iadd, 1) := dk_96 (dk_at dksX9_worthWith_0 6 rfl rfl)
theorem dX9_worthWith_7 : decode cX9_worthWith 7 = .ok (.iconst 1, 1) := dk_4 (dk_at dksX9_worthWith_0 7 rfl rfl)
theorem dX9_worthWith_8 : decode cX9_worthWith 8 = .ok (.iadd, 1) := dk_96 (dk_at dksX9_worthWith_0 8 rfl rfl)
theorem dX9_worthWith_9 : decode cX9_worthWith 9 = .ok (.istore_n 3, 1) := dk_62 (dk_at dksX9_worthWith_0 9 rfl rfl)
theorem dX9_worthWith_10 : decode cX9_worthWith 10 = .ok (.aload_n 0, 1) := dk_42 (dk_at dksX9_worthWith_0 10 rfl rfl)
theorem dX9_worthWith_11 : decode cX9_worthWith 11 = .ok (.getfield 11, 3) := dk_180 0 11 (dk_at dksX9_worthWith_0 11 rfl rfl)
theorem dX9_worthWith_14 : decode cX9_worthWith 14 = .ok (.iload_n 3, 1) := dk_29 (dk_at dksX9_worthWith_0 14 rfl rfl)
theorem dX9_worthWith_15 : decode cX9_worthWith 15 = .ok (.iaload, 1) := dk_46 (dk_at dksX9_worthWith_0 15 rfl rfl)
theorem dX9_worthWith_16 : decode cX9_worthWith 16 = .ok (.istore 4, 2) := dk_54 4 (dk_at dksX9_worthWith_0 16 rfl rfl)
theorem dX9_worthWith_18 : decode cX9_worthWith 18 = .ok (.aload_n 0, 1) := dk_42 (dk_at dksX9_worthWith_0 18 rfl rfl)
theorem dX9_worthWith_19 : decode cX9_worthWith 19 = .ok (.getfield 11, 3) := dk_180 0 11 (dk_at dksX9_worthWith_0 19 rfl rfl)
theorem dX9_worthWith_22 : decode cX9_worthWith 22 = .ok (.iload_n 3, 1) := dk_29 (dk_at dksX9_worthWith_0 22 rfl rfl)
theorem dX9_worthWith_23 : decode cX9_worthWith 23 = .ok (.iload_n 2, 1) := dk_28 (dk_at dksX9_worthWith_0 23 rfl rfl)
theorem dX9_worthWith_24 : decode cX9_worthWith 24 = .ok (.iastore, 1) := dk_79 (dk_at dksX9_worthWith_1 0 rfl rfl)
theorem dX9_worthWith_25 : decode cX9_worthWith 25 = .ok (.aload_n 0, 1) := dk_42 (dk_at dksX9_worthWith_1 1 rfl rfl)
theorem dX9_worthWith_26 : decode cX9_worthWith 26 = .ok (.invokevirtual 400, 3) := dk_182 1 144 (dk_at dksX9_worthWith_1 2 rfl rfl)
theorem dX9_worthWith_29 : decode cX9_worthWith 29 = .ok (.istore 5, 2) := dk_54 5 (dk_at dksX9_worthWith_1 5 rfl rfl)
theorem dX9_worthWith_31 : decode cX9_worthWith 31 = .ok (.aload_n 0, 1) := dk_42 (dk_at dksX9_worthWith_1 7 rfl rfl)
theorem dX9_worthWith_32 : decode cX9_worthWith 32 = .ok (.getfield 11, 3) := dk_180 0 11 (dk_at dksX9_worthWith_1 8 rfl rfl)
theorem dX9_worthWith_35 : decode cX9_worthWith 35 = .ok (.iload_n 3, 1) := dk_29 (dk_at dksX9_worthWith_1 11 rfl rfl)
theorem dX9_worthWith_36 : decode cX9_worthWith 36 = .ok (.iload 4, 2) := dk_21 4 (dk_at dksX9_worthWith_1 12 rfl rfl)
theorem dX9_worthWith_38 : decode cX9_worthWith 38 = .ok (.iastore, 1) := dk_79 (dk_at dksX9_worthWith_1 14 rfl rfl)
theorem dX9_worthWith_39 : decode cX9_worthWith 39 = .ok (.iload 5, 2) := dk_21 5 (dk_at dksX9_worthWith_1 15 rfl rfl)
theorem dX9_worthWith_41 : decode cX9_worthWith 41 = .ok (.ireturn, 1) := dk_172 (dk_at dksX9_worthWith_1 17 rfl rfl)
abbrev cX9_worth : ByteArray := prog_19_method_45_code
def yX9_worth : MethodName := ⟨RX9, "worth", "()I"⟩
def dkwX9_worth_1 : List UInt8 := [180, 0, 34, 180, 0, 197, 109, 136, 167, 0, 14, 27, 154, 0, 8, 16, 251, 167, 0, 5, 16, 250, 172]
abbrev dktX9_worth_1 : List UInt8 := dkwX9_worth_1 ++ []
def dkwX9_worth_0 : List UInt8 := [42, 42, 180, 0, 34, 16, 12, 182, 1, 43, 60, 27, 4, 160, 0, 22, 42, 180, 0, 34, 180, 0, 193, 42]
abbrev dktX9_worth_0 : List UInt8 := dkwX9_worth_0 ++ dktX9_worth_1
theorem dksX9_worth_0 : cX9_worth.data.toList.drop 0 = dktX9_worth_0 := by decide +kernel
theorem dksX9_worth_1 : cX9_worth.data.toList.drop 24 = dktX9_worth_1 := dk_seg dksX9_worth_0 24 rfl rfl
theorem dX9_worth_0 : decode cX9_worth 0 = .ok (.aload_n 0, 1) := dk_42 (dk_at dksX9_worth_0 0 rfl rfl)
theorem dX9_worth_1 : decode cX9_worth 1 = .ok (.aload_n 0, 1) := dk_42 (dk_at dksX9_worth_0 1 rfl rfl)
theorem dX9_worth_2 : decode cX9_worth 2 = .ok (.getfield 34, 3) := dk_180 0 34 (dk_at dksX9_worth_0 2 rfl rfl)
theorem dX9_worth_5 : decode cX9_worth 5 = .ok (.bipush 12, 2) := dk_16 12 (dk_at dksX9_worth_0 5 rfl rfl)
theorem dX9_worth_7 : decode cX9_worth 7 = .ok (.invokevirtual 299, 3) := dk_182 1 43 (dk_at dksX9_worth_0 7 rfl rfl)
theorem dX9_worth_10 : decode cX9_worth 10 = .ok (.istore_n 1, 1) := dk_60 (dk_at dksX9_worth_0 10 rfl rfl)
theorem dX9_worth_11 : decode cX9_worth 11 = .ok (.iload_n 1, 1) := dk_27 (dk_at dksX9_worth_0 11 rfl rfl)
theorem dX9_worth_12 : decode cX9_worth 12 = .ok (.iconst 1, 1) := dk_4 (dk_at dksX9_worth_0 12 rfl rfl)
theorem dX9_worth_13 : decode cX9_worth 13 = .ok (.if_icmp .ne 22, 3) := dk_160 0 22 (dk_at dksX9_worth_0 13 rfl rfl)
theorem dX9_worth_16 : decode cX9_worth 16 = .ok (.aload_n 0, 1) := dk_42 (dk_at dksX9_worth_0 16 rfl rfl)
theorem dX9_worth_17 : decode cX9_worth 17 = .ok (.getfield 34, 3) := dk_180 0 34 (dk_at dksX9_worth_0 17 rfl rfl)
theorem dX9_worth_20 : decode cX9_worth 20 = .ok (.getfield 193, 3) := dk_180 0 193 (dk_at dksX9_worth_0 20 rfl rfl)
theorem dX9_worth_23 : decode cX9_worth 23 = .ok (.aload_n 0, 1) := dk_42 (dk_at dksX9_worth_0 23 rfl rfl)
theorem dX9_worth_24 : decode cX9_worth 24 = .ok (.getfield 34, 3) := dk_180 0 34 (dk_at dksX9_worth_1 0 rfl rfl)
theorem dX9_worth_27 : decode cX9_worth 27 = .ok (.getfield 197, 3) := dk_180 0 197 (dk_at dksX9_worth_1 3 rfl rfl)
theorem dX9_worth_30 : decode cX9_worth 30 = .ok (.ldiv, 1) := dk_109 (dk_at dksX9_worth_1 6 rfl rfl)
theorem dX9_worth_31 : decode cX9_worth 31 = .ok (.l2i, 1) := dk_136 (dk_at dksX9_worth_1 7 rfl rfl)
theorem dX9_worth_32 : decode cX9_worth 32 = .ok (.goto 14, 3) := dk_167 0 14 (dk_at dksX9_worth_1 8 rfl rfl)
theorem dX9_worth_35 : decode cX9_worth 35 = .ok (.iload_n 1, 1) := dk_27 (dk_at dksX9_worth_1 11 rfl rfl)
theorem dX9_worth_36 : decode cX9_worth 36 = .ok (.ifCond .ne 8, 3) := dk_154 0 8 (dk_at dksX9_worth_1 12 rfl rfl)
theorem dX9_worth_39 : decode cX9_worth 39 = .ok (.bipush (-5), 2) := dk_16 251 (dk_at dksX9_worth_1 15 rfl rfl)
theorem dX9_worth_41 : decode cX9_worth 41 = .ok (.goto 5, 3) := dk_167 0 5 (dk_at dksX9_worth_1 17 rfl rfl)
theorem dX9_worth_44 : decode cX9_worth 44 = .ok (.bipush (-6), 2) := dk_16 250 (dk_at dksX9_worth_1 20 rfl rfl)
theorem dX9_worth_46 : decode cX9_worth 46 = .ok (.ireturn, 1) := dk_172 (dk_at dksX9_worth_1 22 rfl rfl)
abbrev cX9_see : ByteArray := prog_19_method_85_code
def yX9_see : MethodName := ⟨RX9, "see", "(II)I"⟩
def dkwX9_see_4 : List UInt8 := [46, 4, 96, 79, 42, 180, 0, 11, 7, 46, 172]
abbrev dktX9_see_4 : List UInt8 := dkwX9_see_4 ++ []
def dkwX9_see_3 : List UInt8 := [180, 0, 11, 16, 76, 5, 42, 180, 0, 11, 7, 46, 104, 96, 4, 96, 28, 79, 42, 180, 0, 11, 7, 92]
abbrev dktX9_see_3 : List UInt8 := dkwX9_see_3 ++ dktX9_see_4
def dkwX9_see_2 : List UInt8 := [160, 0, 6, 16, 252, 172, 42, 180, 0, 11, 16, 76, 5, 42, 180, 0, 11, 7, 46, 104, 96, 27, 79, 42]
abbrev dktX9_see_2 : List UInt8 := dkwX9_see_2 ++ dktX9_see_3
def dkwX9_see_1 : List UInt8 := [28, 133, 9, 20, 0, 118, 184, 0, 93, 154, 0, 6, 16, 254, 172, 42, 180, 0, 11, 7, 46, 8]
abbrev dktX9_see_1 : List UInt8 := dkwX9_see_1 ++ dktX9_see_2
def dkwX9_see_0 : List UInt8 := [27, 2, 160, 0, 12, 42, 180, 0, 11, 7, 3, 79, 3, 172, 42, 27, 182, 0, 110, 154, 0, 5, 2, 172]
abbrev dktX9_see_0 : List UInt8 := dkwX9_see_0 ++ dktX9_see_1
theorem dksX9_see_0 : cX9_see.data.toList.drop 0 = dktX9_see_0 := by decide +kernel
theorem dksX9_see_1 : cX9_see.data.toList.drop 24 = dktX9_see_1 := dk_seg dksX9_see_0 24 rfl rfl
theorem dksX9_see_2 : cX9_see.data.toList.drop 46 = dktX9_see_2 := dk_seg dksX9_see_1 22 rfl rfl
theorem dksX9_see_3 : cX9_see.data.toList.drop 70 = dktX9_see_3 := dk_seg dksX9_see_2 24 rfl rfl
theorem dksX9_see_4 : cX9_see.data.toList.drop 94 = dktX9_see_4 := dk_seg dksX9_see_3 24 rfl rfl
theorem dX9_see_0 : decode cX9_see 0 = .ok (.iload_n 1, 1) := dk_27 (dk_at dksX9_see_0 0 rfl rfl)
theorem dX9_see_1 : decode cX9_see 1 = .ok (.iconst (-1), 1) := dk_2 (dk_at dksX9_see_0 1 rfl rfl)
theorem dX9_see_2 : decode cX9_see 2 = .ok (.if_icmp .ne 12, 3) := dk_160 0 12 (dk_at dksX9_see_0 2 rfl rfl)
theorem dX9_see_5 : decode cX9_see 5 = .ok (.aload_n 0, 1) := dk_42 (dk_at dksX9_see_0 5 rfl rfl)
theorem dX9_see_6 : decode cX9_see 6 = .ok (.getfield 11, 3) := dk_180 0 11 (dk_at dksX9_see_0 6 rfl rfl)
theorem dX9_see_9 : decode cX9_see 9 = .ok (.iconst 4, 1) := dk_7 (dk_at dksX9_see_0 9 rfl rfl)
theorem dX9_see_10 : decode cX9_see 10 = .ok (.iconst 0, 1) := dk_3 (dk_at dksX9_see_0 10 rfl rfl)
theorem dX9_see_11 : decode cX9_see 11 = .ok (.iastore, 1) := dk_79 (dk_at dksX9_see_0 11 rfl rfl)
theorem dX9_see_12 : decode cX9_see 12 = .ok (.iconst 0, 1) := dk_3 (dk_at dksX9_see_0 12 rfl rfl)
theorem dX9_see_13 : decode cX9_see 13 = .ok (.ireturn, 1) := dk_172 (dk_at dksX9_see_0 13 rfl rfl)
theorem dX9_see_14 : decode cX9_see 14 = .ok (.aload_n 0, 1) := dk_42 (dk_at dksX9_see_0 14 rfl rfl)
theorem dX9_see_15 : decode cX9_see 15 = .ok (.iload_n 1, 1) := dk_27 (dk_at dksX9_see_0 15 rfl rfl)
theorem dX9_see_16 : decode cX9_see 16 = .ok (.invokevirtual 110, 3) := dk_182 0 110 (dk_at dksX9_see_0 16 rfl rfl)
theorem dX9_see_19 : decode cX9_see 19 = .ok (.ifCond .ne 5, 3) := dk_154 0 5 (dk_at dksX9_see_0 19 rfl rfl)
theorem dX9_see_22 : decode cX9_see 22 = .ok (.iconst (-1), 1) := dk_2 (dk_at dksX9_see_0 22 rfl rfl)
theorem dX9_see_23 : decode cX9_see 23 = .ok (.ireturn, 1) := dk_172 (dk_at dksX9_see_0 23 rfl rfl)
theorem dX9_see_24 : decode cX9_see 24 = .ok (.iload_n 2, 1) := dk_28 (dk_at dksX9_see_1 0 rfl rfl)
theorem dX9_see_25 : decode cX9_see 25 = .ok (.i2l, 1) := dk_133 (dk_at dksX9_see_1 1 rfl rfl)
theorem dX9_see_26 : decode cX9_see 26 = .ok (.lconst 0, 1) := dk_9 (dk_at dksX9_see_1 2 rfl rfl)
theorem dX9_see_27 : decode cX9_see 27 = .ok (.ldc2_w 118, 3) := dk_20 0 118 (dk_at dksX9_see_1 3 rfl rfl)
theorem dX9_see_30 : decode cX9_see 30 = .ok (.invokestatic 93, 3) := dk_184 0 93 (dk_at dksX9_see_1 6 rfl rfl)
theorem dX9_see_33 : decode cX9_see 33 = .ok (.ifCond .ne 6, 3) := dk_154 0 6 (dk_at dksX9_see_1 9 rfl rfl)
theorem dX9_see_36 : decode cX9_see 36 = .ok (.bipush (-2), 2) := dk_16 254 (dk_at dksX9_see_1 12 rfl rfl)
theorem dX9_see_38 : decode cX9_see 38 = .ok (.ireturn, 1) := dk_172 (dk_at dksX9_see_1 14 rfl rfl)
theorem dX9_see_39 : decode cX9_see 39 = .ok (.aload_n 0, 1) := dk_42 (dk_at dksX9_see_1 15 rfl rfl)
theorem dX9_see_40 : decode cX9_see 40 = .ok (.getfield 11, 3) := dk_180 0 11 (dk_at dksX9_see_1 16 rfl rfl)
theorem dX9_see_43 : decode cX9_see 43 = .ok (.iconst 4, 1) := dk_7 (dk_at dksX9_see_1 19 rfl rfl)
theorem dX9_see_44 : decode cX9_see 44 = .ok (.iaload, 1) := dk_46 (dk_at dksX9_see_1 20 rfl rfl)
theorem dX9_see_45 : decode cX9_see 45 = .ok (.iconst 5, 1) := dk_8 (dk_at dksX9_see_1 21 rfl rfl)
theorem dX9_see_46 : decode cX9_see 46 = .ok (.if_icmp .ne 6, 3) := dk_160 0 6 (dk_at dksX9_see_2 0 rfl rfl)
theorem dX9_see_49 : decode cX9_see 49 = .ok (.bipush (-4), 2) := dk_16 252 (dk_at dksX9_see_2 3 rfl rfl)
theorem dX9_see_51 : decode cX9_see 51 = .ok (.ireturn, 1) := dk_172 (dk_at dksX9_see_2 5 rfl rfl)
theorem dX9_see_52 : decode cX9_see 52 = .ok (.aload_n 0, 1) := dk_42 (dk_at dksX9_see_2 6 rfl rfl)
theorem dX9_see_53 : decode cX9_see 53 = .ok (.getfield 11, 3) := dk_180 0 11 (dk_at dksX9_see_2 7 rfl rfl)
theorem dX9_see_56 : decode cX9_see 56 = .ok (.bipush 76, 2) := dk_16 76 (dk_at dksX9_see_2 10 rfl rfl)
theorem dX9_see_58 : decode cX9_see 58 = .ok (.iconst 2, 1) := dk_5 (dk_at dksX9_see_2 12 rfl rfl)
theorem dX9_see_59 : decode cX9_see 59 = .ok (.aload_n 0, 1) := dk_42 (dk_at dksX9_see_2 13 rfl rfl)
theorem dX9_see_60 : decode cX9_see 60 = .ok (.getfield 11, 3) := dk_180 0 11 (dk_at dksX9_see_2 14 rfl rfl)
theorem dX9_see_63 : decode cX9_see 63 = .ok (.iconst 4, 1) := dk_7 (dk_at dksX9_see_2 17 rfl rfl)
theorem dX9_see_64 : decode cX9_see 64 = .ok (.iaload, 1) := dk_46 (dk_at dksX9_see_2 18 rfl rfl)
theorem dX9_see_65 : decode cX9_see 65 = .ok (.imul, 1) := dk_104 (dk_at dksX9_see_2 19 rfl rfl)
theorem dX9_see_66 : decode cX9_see 66 = .ok (.iadd, 1) := dk_96 (dk_at dksX9_see_2 20 rfl rfl)
theorem dX9_see_67 : decode cX9_see 67 = .ok (.iload_n 1, 1) := dk_27 (dk_at dksX9_see_2 21 rfl rfl)
theorem dX9_see_68 : decode cX9_see 68 = .ok (.iastore, 1) := dk_79 (dk_at dksX9_see_2 22 rfl rfl)
theorem dX9_see_69 : decode cX9_see 69 = .ok (.aload_n 0, 1) := dk_42 (dk_at dksX9_see_2 23 rfl rfl)
theorem dX9_see_70 : decode cX9_see 70 = .ok (.getfield 11, 3) := dk_180 0 11 (dk_at dksX9_see_3 0 rfl rfl)
theorem dX9_see_73 : decode cX9_see 73 = .ok (.bipush 76, 2) := dk_16 76 (dk_at dksX9_see_3 3 rfl rfl)
theorem dX9_see_75 : decode cX9_see 75 = .ok (.iconst 2, 1) := dk_5 (dk_at dksX9_see_3 5 rfl rfl)
theorem dX9_see_76 : decode cX9_see 76 = .ok (.aload_n 0, 1) := dk_42 (dk_at dksX9_see_3 6 rfl rfl)
theorem dX9_see_77 : decode cX9_see 77 = .ok (.getfield 11, 3) := dk_180 0 11 (dk_at dksX9_see_3 7 rfl rfl)
theorem dX9_see_80 : decode cX9_see 80 = .ok (.iconst 4, 1) := dk_7 (dk_at dksX9_see_3 10 rfl rfl)
theorem dX9_see_81 : decode cX9_see 81 = .ok (.iaload, 1) := dk_46 (dk_at dksX9_see_3 11 rfl rfl)
theorem dX9_see_82 : decode cX9_see 82 = .ok (.imul, 1) := dk_104 (dk_at dksX9_see_3 12 rfl rfl)
theorem dX9_see_83 : decode cX9_see 83 = .ok (.iadd, 1) := dk_96 (dk_at dksX9_see_3 13 rfl rfl)
theorem dX9_see_84 : decode cX9_see 84 = .ok (.iconst 1, 1) := dk_4 (dk_at dksX9_see_3 14 rfl rfl)
theorem dX9_see_85 : decode cX9_see 85 = .ok (.iadd, 1) := dk_96 (dk_at dksX9_see_3 15 rfl rfl)
theorem dX9_see_86 : decode cX9_see 86 = .ok (.iload_n 2, 1) := dk_28 (dk_at dksX9_see_3 16 rfl rfl)
theorem dX9_see_87 : decode cX9_see 87 = .ok (.iastore, 1) := dk_79 (dk_at dksX9_see_3 17 rfl rfl)
theorem dX9_see_88 : decode cX9_see 88 = .ok (.aload_n 0, 1) := dk_42 (dk_at dksX9_see_3 18 rfl rfl)
theorem dX9_see_89 : decode cX9_see 89 = .ok (.getfield 11, 3) := dk_180 0 11 (dk_at dksX9_see_3 19 rfl rfl)
theorem dX9_see_92 : decode cX9_see 92 = .ok (.iconst 4, 1) := dk_7 (dk_at dksX9_see_3 22 rfl rfl)
theorem dX9_see_93 : decode cX9_see 93 = .ok (.dup2, 1) := dk_92 (dk_at dksX9_see_3 23 rfl rfl)
theorem dX9_see_94 : decode cX9_see 94 = .ok (.iaload, 1) := dk_46 (dk_at dksX9_see_4 0 rfl rfl)
theorem dX9_see_95 : decode cX9_see 95 = .ok (.iconst 1, 1) := dk_4 (dk_at dksX9_see_4 1 rfl rfl)
theorem dX9_see_96 : decode cX9_see 96 = .ok (.iadd, 1) := dk_96 (dk_at dksX9_see_4 2 rfl rfl)
theorem dX9_see_97 : decode cX9_see 97 = .ok (.iastore, 1) := dk_79 (dk_at dksX9_see_4 3 rfl rfl)
theorem dX9_see_98 : decode cX9_see 98 = .ok (.aload_n 0, 1) := dk_42 (dk_at dksX9_see_4 4 rfl rfl)
theorem dX9_see_99 : decode cX9_see 99 = .ok (.getfield 11, 3) := dk_180 0 11 (dk_at dksX9_see_4 5 rfl rfl)
theorem dX9_see_102 : decode cX9_see 102 = .ok (.iconst 4, 1) := dk_7 (dk_at dksX9_see_4 8 rfl rfl)
theorem dX9_see_103 : decode cX9_see 103 = .ok (.iaload, 1) := dk_46 (dk_at dksX9_see_4 9 rfl rfl)
theorem dX9_see_104 : decode cX9_see 104 = .ok (.ireturn, 1) := dk_172 (dk_at dksX9_see_4 10 rfl rfl)
abbrev cX9_fits : ByteArray := prog_19_method_87_code
def yX9_fits : MethodName := ⟨RX9, "fits", "(II)I"⟩
def dkwX9_fits_3 : List UInt8 := [154, 0, 7, 29, 167, 0, 5, 21, 4, 172]
abbrev dktX9_fits_3 : List UInt8 := dkwX9_fits_3 ++ []
def dkwX9_fits_2 : List UInt8 := [182, 1, 150, 154, 0, 6, 167, 0, 10, 132, 3, 1, 21, 5, 54, 4, 132, 5, 251, 167, 255, 221, 28]
abbrev dktX9_fits_2 : List UInt8 := dkwX9_fits_2 ++ dktX9_fits_3
def dkwX9_fits_1 : List UInt8 := [54, 4, 16, 45, 54, 5, 21, 5, 155, 0, 36, 42, 27, 21, 5, 182, 1, 147, 155, 0, 20, 42]
abbrev dktX9_fits_1 : List UInt8 := dkwX9_fits_1 ++ dktX9_fits_2
def dkwX9_fits_0 : List UInt8 := [42, 27, 182, 0, 124, 153, 0, 13, 28, 133, 9, 10, 184, 0, 93, 154, 0, 5, 2, 172, 3, 62, 16, 251]
abbrev dktX9_fits_0 : List UInt8 := dkwX9_fits_0 ++ dktX9_fits_1
theorem dksX9_fits_0 : cX9_fits.data.toList.drop 0 = dktX9_fits_0 := by decide +kernel
theorem dksX9_fits_1 : cX9_fits.data.toList.drop 24 = dktX9_fits_1 := dk_seg dksX9_fits_0 24 rfl rfl
theorem dksX9_fits_2 : cX9_fits.data.toList.drop 46 = dktX9_fits_2 := dk_seg dksX9_fits_1 22 rfl rfl
theorem dksX9_fits_3 : cX9_fits.data.toList.drop 69 = dktX9_fits_3 := dk_seg dksX9_fits_2 23 rfl rfl
theorem dX9_fits_0 : decode cX9_fits 0 = .ok (.aload_n 0, 1) := dk_42 (dk_at dksX9_fits_0 0 rfl rfl)
theorem dX9_fits_1 : decode cX9_fits 1 = .ok (.iload_n 1, 1) := dk_27 (dk_at dksX9_fits_0 1 rfl rfl)
theorem dX9_fits_2 : decode cX9_fits 2 = .ok (.invokevirtual 124, 3) := dk_182 0 124 (dk_at dksX9_fits_0 2 rfl rfl)
theorem dX9_fits_5 : decode cX9_fits 5 = .ok (.ifCond .eq 13, 3) := dk_153 0 13 (dk_at dksX9_fits_0 5 rfl rfl)
theorem dX9_fits_8 : decode cX9_fits 8 = .ok (.iload_n 2, 1) := dk_28 (dk_at dksX9_fits_0 8 rfl rfl)
theorem dX9_fits_9 : decode cX9_fits 9 = .ok (.i2l, 1) := dk_133 (dk_at dksX9_fits_0 9 rfl rfl)
theorem dX9_fits_10 : decode cX9_fits 10 = .ok (.lconst 0, 1) := dk_9 (dk_at dksX9_fits_0 10 rfl rfl)
theorem dX9_fits_11 : decode cX9_fits 11 = .ok (.lconst 1, 1) := dk_10 (dk_at dksX9_fits_0 11 rfl rfl)
theorem dX9_fits_12 : decode cX9_fits 12 = .ok (.invokestatic 93, 3) := dk_184 0 93 (dk_at dksX9_fits_0 12 rfl rfl)
theorem dX9_fits_15 : decode cX9_fits 15 = .ok (.ifCond .ne 5, 3) := dk_154 0 5 (dk_at dksX9_fits_0 15 rfl rfl)
theorem dX9_fits_18 : decode cX9_fits 18 = .ok (.iconst (-1), 1) := dk_2 (dk_at dksX9_fits_0 18 rfl rfl)
theorem dX9_fits_19 : decode cX9_fits 19 = .ok (.ireturn, 1) := dk_172 (dk_at dksX9_fits_0 19 rfl rfl)
theorem dX9_fits_20 : decode cX9_fits 20 = .ok (.iconst 0, 1) := dk_3 (dk_at dksX9_fits_0 20 rfl rfl)
theorem dX9_fits_21 : decode cX9_fits 21 = .ok (.istore_n 3, 1) := dk_62 (dk_at dksX9_fits_0 21 rfl rfl)
theorem dX9_fits_22 : decode cX9_fits 22 = .ok (.bipush (-5), 2) := dk_16 251 (dk_at dksX9_fits_0 22 rfl rfl)
theorem dX9_fits_24 : decode cX9_fits 24 = .ok (.istore 4, 2) := dk_54 4 (dk_at dksX9_fits_1 0 rfl rfl)
theorem dX9_fits_26 : decode cX9_fits 26 = .ok (.bipush 45, 2) := dk_16 45 (dk_at dksX9_fits_1 2 rfl rfl)
theorem dX9_fits_28 : decode cX9_fits 28 = .ok (.istore 5, 2) := dk_54 5 (dk_at dksX9_fits_1 4 rfl rfl)
theorem dX9_fits_30 : decode cX9_fits 30 = .ok (.iload 5, 2) := dk_21 5 (dk_at dksX9_fits_1 6 rfl rfl)
theorem dX9_fits_32 : decode cX9_fits 32 = .ok (.ifCond .lt 36, 3) := dk_155 0 36 (dk_at dksX9_fits_1 8 rfl rfl)
theorem dX9_fits_35 : decode cX9_fits 35 = .ok (.aload_n 0, 1) := dk_42 (dk_at dksX9_fits_1 11 rfl rfl)
theorem dX9_fits_36 : decode cX9_fits 36 = .ok (.iload_n 1, 1) := dk_27 (dk_at dksX9_fits_1 12 rfl rfl)
theorem dX9_fits_37 : decode cX9_fits 37 = .ok (.iload 5, 2) := dk_21 5 (dk_at dksX9_fits_1 13 rfl rfl)
theorem dX9_fits_39 : decode cX9_fits 39 = .ok (.invokevirtual 403, 3) := dk_182 1 147 (dk_at dksX9_fits_1 15 rfl rfl)
theorem dX9_fits_42 : decode cX9_fits 42 = .ok (.ifCond .lt 20, 3) := dk_155 0 20 (dk_at dksX9_fits_1 18 rfl rfl)
theorem dX9_fits_45 : decode cX9_fits 45 = .ok (.aload_n 0, 1) := dk_42 (dk_at dksX9_fits_1 21 rfl rfl)
theorem dX9_fits_46 : decode cX9_fits 46 = .ok (.invokevirtual 406, 3) := dk_182 1 150 (dk_at dksX9_fits_2 0 rfl rfl)
theorem dX9_fits_49 : decode cX9_fits 49 = .ok (.ifCond .ne 6, 3) := dk_154 0 6 (dk_at dksX9_fits_2 3 rfl rfl)
theorem dX9_fits_52 : decode cX9_fits 52 = .ok (.goto 10, 3) := dk_167 0 10 (dk_at dksX9_fits_2 6 rfl rfl)
theorem dX9_fits_55 : decode cX9_fits 55 = .ok (.iinc 3 1, 3) := dk_132 3 1 (dk_at dksX9_fits_2 9 rfl rfl)
theorem dX9_fits_58 : decode cX9_fits 58 = .ok (.iload 5, 2) := dk_21 5 (dk_at dksX9_fits_2 12 rfl rfl)
theorem dX9_fits_60 : decode cX9_fits 60 = .ok (.istore 4, 2) := dk_54 4 (dk_at dksX9_fits_2 14 rfl rfl)
theorem dX9_fits_62 : decode cX9_fits 62 = .ok (.iinc 5 (-5), 3) := dk_132 5 251 (dk_at dksX9_fits_2 16 rfl rfl)
theorem dX9_fits_65 : decode cX9_fits 65 = .ok (.goto (-35), 3) := dk_167 255 221 (dk_at dksX9_fits_2 19 rfl rfl)
theorem dX9_fits_68 : decode cX9_fits 68 = .ok (.iload_n 2, 1) := dk_28 (dk_at dksX9_fits_2 22 rfl rfl)
theorem dX9_fits_69 : decode cX9_fits 69 = .ok (.ifCond .ne 7, 3) := dk_154 0 7 (dk_at dksX9_fits_3 0 rfl rfl)
theorem dX9_fits_72 : decode cX9_fits 72 = .ok (.iload_n 3, 1) := dk_29 (dk_at dksX9_fits_3 3 rfl rfl)
theorem dX9_fits_73 : decode cX9_fits 73 = .ok (.goto 5, 3) := dk_167 0 5 (dk_at dksX9_fits_3 4 rfl rfl)
theorem dX9_fits_76 : decode cX9_fits 76 = .ok (.iload 4, 2) := dk_21 4 (dk_at dksX9_fits_3 7 rfl rfl)
theorem dX9_fits_78 : decode cX9_fits 78 = .ok (.ireturn, 1) := dk_172 (dk_at dksX9_fits_3 9 rfl rfl)
abbrev cX9_isSeen : ByteArray := prog_19_method_86_code
def yX9_isSeen : MethodName := ⟨RX9, "isSeen", "()Z"⟩
def dkwX9_isSeen_2 : List UInt8 := [180, 0, 34, 180, 0, 197, 105, 148, 153, 0, 5, 3, 172, 132, 1, 1, 167, 255, 196, 4, 172]
abbrev dktX9_isSeen_2 : List UInt8 := dkwX9_isSeen_2 ++ []
def dkwX9_isSeen_1 : List UInt8 := [27, 104, 96, 46, 182, 1, 58, 42, 180, 0, 11, 16, 76, 5, 27, 104, 96, 4, 96, 46, 133, 42]
abbrev dktX9_isSeen_1 : List UInt8 := dkwX9_isSeen_1 ++ dktX9_isSeen_2
def dkwX9_isSeen_0 : List UInt8 := [3, 60, 27, 42, 180, 0, 11, 7, 46, 162, 0, 56, 42, 42, 180, 0, 34, 42, 180, 0, 11, 16, 76, 5]
abbrev dktX9_isSeen_0 : List UInt8 := dkwX9_isSeen_0 ++ dktX9_isSeen_1
theorem dksX9_isSeen_0 : cX9_isSeen.data.toList.drop 0 = dktX9_isSeen_0 := by decide +kernel
theorem dksX9_isSeen_1 : cX9_isSeen.data.toList.drop 24 = dktX9_isSeen_1 := dk_seg dksX9_isSeen_0 24 rfl rfl
theorem dksX9_isSeen_2 : cX9_isSeen.data.toList.drop 46 = dktX9_isSeen_2 := dk_seg dksX9_isSeen_1 22 rfl rfl
theorem dX9_isSeen_0 : decode cX9_isSeen 0 = .ok (.iconst 0, 1) := dk_3 (dk_at dksX9_isSeen_0 0 rfl rfl)
theorem dX9_isSeen_1 : decode cX9_isSeen 1 = .ok (.istore_n 1, 1) := dk_60 (dk_at dksX9_isSeen_0 1 rfl rfl)
theorem dX9_isSeen_2 : decode cX9_isSeen 2 = .ok (.iload_n 1, 1) := dk_27 (dk_at dksX9_isSeen_0 2 rfl rfl)
theorem dX9_isSeen_3 : decode cX9_isSeen 3 = .ok (.aload_n 0, 1) := dk_42 (dk_at dksX9_isSeen_0 3 rfl rfl)
theorem dX9_isSeen_4 : decode cX9_isSeen 4 = .ok (.getfield 11, 3) := dk_180 0 11 (dk_at dksX9_isSeen_0 4 rfl rfl)
theorem dX9_isSeen_7 : decode cX9_isSeen 7 = .ok (.iconst 4, 1) := dk_7 (dk_at dksX9_isSeen_0 7 rfl rfl)
theorem dX9_isSeen_8 : decode cX9_isSeen 8 = .ok (.iaload, 1) := dk_46 (dk_at dksX9_isSeen_0 8 rfl rfl)
theorem dX9_isSeen_9 : decode cX9_isSeen 9 = .ok (.if_icmp .ge 56, 3) := dk_162 0 56 (dk_at dksX9_isSeen_0 9 rfl rfl)
theorem dX9_isSeen_12 : decode cX9_isSeen 12 = .ok (.aload_n 0, 1) := dk_42 (dk_at dksX9_isSeen_0 12 rfl rfl)
theorem dX9_isSeen_13 : decode cX9_isSeen 13 = .ok (.aload_n 0, 1) := dk_42 (dk_at dksX9_isSeen_0 13 rfl rfl)
theorem dX9_isSeen_14 : decode cX9_isSeen 14 = .ok (.getfield 34, 3) := dk_180 0 34 (dk_at dksX9_isSeen_0 14 rfl rfl)
theorem dX9_isSeen_17 : decode cX9_isSeen 17 = .ok (.aload_n 0, 1) := dk_42 (dk_at dksX9_isSeen_0 17 rfl rfl)
theorem dX9_isSeen_18 : decode cX9_isSeen 18 = .ok (.getfield 11, 3) := dk_180 0 11 (dk_at dksX9_isSeen_0 18 rfl rfl)
theorem dX9_isSeen_21 : decode cX9_isSeen 21 = .ok (.bipush 76, 2) := dk_16 76 (dk_at dksX9_isSeen_0 21 rfl rfl)
theorem dX9_isSeen_23 : decode cX9_isSeen 23 = .ok (.iconst 2, 1) := dk_5 (dk_at dksX9_isSeen_0 23 rfl rfl)
theorem dX9_isSeen_24 : decode cX9_isSeen 24 = .ok (.iload_n 1, 1) := dk_27 (dk_at dksX9_isSeen_1 0 rfl rfl)
theorem dX9_isSeen_25 : decode cX9_isSeen 25 = .ok (.imul, 1) := dk_104 (dk_at dksX9_isSeen_1 1 rfl rfl)
theorem dX9_isSeen_26 : decode cX9_isSeen 26 = .ok (.iadd, 1) := dk_96 (dk_at dksX9_isSeen_1 2 rfl rfl)
theorem dX9_isSeen_27 : decode cX9_isSeen 27 = .ok (.iaload, 1) := dk_46 (dk_at dksX9_isSeen_1 3 rfl rfl)
theorem dX9_isSeen_28 : decode cX9_isSeen 28 = .ok (.invokevirtual 314, 3) := dk_182 1 58 (dk_at dksX9_isSeen_1 4 rfl rfl)
theorem dX9_isSeen_31 : decode cX9_isSeen 31 = .ok (.aload_n 0, 1) := dk_42 (dk_at dksX9_isSeen_1 7 rfl rfl)
theorem dX9_isSeen_32 : decode cX9_isSeen 32 = .ok (.getfield 11, 3) := dk_180 0 11 (dk_at dksX9_isSeen_1 8 rfl rfl)
theorem dX9_isSeen_35 : decode cX9_isSeen 35 = .ok (.bipush 76, 2) := dk_16 76 (dk_at dksX9_isSeen_1 11 rfl rfl)
theorem dX9_isSeen_37 : decode cX9_isSeen 37 = .ok (.iconst 2, 1) := dk_5 (dk_at dksX9_isSeen_1 13 rfl rfl)
theorem dX9_isSeen_38 : decode cX9_isSeen 38 = .ok (.iload_n 1, 1) := dk_27 (dk_at dksX9_isSeen_1 14 rfl rfl)
theorem dX9_isSeen_39 : decode cX9_isSeen 39 = .ok (.imul, 1) := dk_104 (dk_at dksX9_isSeen_1 15 rfl rfl)
theorem dX9_isSeen_40 : decode cX9_isSeen 40 = .ok (.iadd, 1) := dk_96 (dk_at dksX9_isSeen_1 16 rfl rfl)
theorem dX9_isSeen_41 : decode cX9_isSeen 41 = .ok (.iconst 1, 1) := dk_4 (dk_at dksX9_isSeen_1 17 rfl rfl)
theorem dX9_isSeen_42 : decode cX9_isSeen 42 = .ok (.iadd, 1) := dk_96 (dk_at dksX9_isSeen_1 18 rfl rfl)
theorem dX9_isSeen_43 : decode cX9_isSeen 43 = .ok (.iaload, 1) := dk_46 (dk_at dksX9_isSeen_1 19 rfl rfl)
theorem dX9_isSeen_44 : decode cX9_isSeen 44 = .ok (.i2l, 1) := dk_133 (dk_at dksX9_isSeen_1 20 rfl rfl)
theorem dX9_isSeen_45 : decode cX9_isSeen 45 = .ok (.aload_n 0, 1) := dk_42 (dk_at dksX9_isSeen_1 21 rfl rfl)
theorem dX9_isSeen_46 : decode cX9_isSeen 46 = .ok (.getfield 34, 3) := dk_180 0 34 (dk_at dksX9_isSeen_2 0 rfl rfl)
theorem dX9_isSeen_49 : decode cX9_isSeen 49 = .ok (.getfield 197, 3) := dk_180 0 197 (dk_at dksX9_isSeen_2 3 rfl rfl)
theorem dX9_isSeen_52 : decode cX9_isSeen 52 = .ok (.lmul, 1) := dk_105 (dk_at dksX9_isSeen_2 6 rfl rfl)
theorem dX9_isSeen_53 : decode cX9_isSeen 53 = .ok (.lcmp, 1) := dk_148 (dk_at dksX9_isSeen_2 7 rfl rfl)
theorem dX9_isSeen_54 : decode cX9_isSeen 54 = .ok (.ifCond .eq 5, 3) := dk_153 0 5 (dk_at dksX9_isSeen_2 8 rfl rfl)
theorem dX9_isSeen_57 : decode cX9_isSeen 57 = .ok (.iconst 0, 1) := dk_3 (dk_at dksX9_isSeen_2 11 rfl rfl)
theorem dX9_isSeen_58 : decode cX9_isSeen 58 = .ok (.ireturn, 1) := dk_172 (dk_at dksX9_isSeen_2 12 rfl rfl)
theorem dX9_isSeen_59 : decode cX9_isSeen 59 = .ok (.iinc 1 1, 3) := dk_132 1 1 (dk_at dksX9_isSeen_2 13 rfl rfl)
theorem dX9_isSeen_62 : decode cX9_isSeen 62 = .ok (.goto (-60), 3) := dk_167 255 196 (dk_at dksX9_isSeen_2 16 rfl rfl)
theorem dX9_isSeen_65 : decode cX9_isSeen 65 = .ok (.iconst 1, 1) := dk_4 (dk_at dksX9_isSeen_2 19 rfl rfl)
theorem dX9_isSeen_66 : decode cX9_isSeen 66 = .ok (.ireturn, 1) := dk_172 (dk_at dksX9_isSeen_2 20 rfl rfl)
abbrev cX9_odds : ByteArray := prog_19_method_88_code
def yX9_odds : MethodName := ⟨RX9, "odds", "(IIIII)J"⟩
def dkwX9_odds_4 : List UInt8 := [167, 0, 4, 3, 96, 54, 6, 132, 7, 1, 167, 255, 217, 21, 6, 133, 29, 133, 21, 5, 184, 1, 61, 173]
abbrev dktX9_odds_4 : List UInt8 := dkwX9_odds_4 ++ []
def dkwX9_odds_3 : List UInt8 := [21, 6, 42, 27, 28, 21, 7, 96, 182, 1, 147, 133, 9, 21, 4, 133, 184, 0, 93, 153, 0, 7, 4]
abbrev dktX9_odds_3 : List UInt8 := dkwX9_odds_3 ++ dktX9_odds_4
def dkwX9_odds_2 : List UInt8 := [21, 5, 184, 1, 55, 154, 0, 7, 20, 1, 50, 173, 3, 54, 6, 3, 54, 7, 21, 7, 29, 162, 0, 39]
abbrev dktX9_odds_2 : List UInt8 := dkwX9_odds_2 ++ dktX9_odds_3
def dkwX9_odds_1 : List UInt8 := [10, 20, 1, 153, 184, 0, 93, 153, 0, 25, 28, 29, 96, 17, 3, 232, 163, 0, 16, 21, 4, 155, 0, 11]
abbrev dktX9_odds_1 : List UInt8 := dkwX9_odds_1 ++ dktX9_odds_2
def dkwX9_odds_0 : List UInt8 := [42, 27, 182, 0, 124, 153, 0, 51, 28, 133, 20, 0, 116, 20, 0, 118, 184, 0, 93, 153, 0, 37, 29, 133]
abbrev dktX9_odds_0 : List UInt8 := dkwX9_odds_0 ++ dktX9_odds_1
theorem dksX9_odds_0 : cX9_odds.data.toList.drop 0 = dktX9_odds_0 := by decide +kernel
theorem dksX9_odds_1 : cX9_odds.data.toList.drop 24 = dktX9_odds_1 := dk_seg dksX9_odds_0 24 rfl rfl
theorem dksX9_odds_2 : cX9_odds.data.toList.drop 48 = dktX9_odds_2 := dk_seg dksX9_odds_1 24 rfl rfl
theorem dksX9_odds_3 : cX9_odds.data.toList.drop 72 = dktX9_odds_3 := dk_seg dksX9_odds_2 24 rfl rfl
theorem dksX9_odds_4 : cX9_odds.data.toList.drop 95 = dktX9_odds_4 := dk_seg dksX9_odds_3 23 rfl rfl
theorem dX9_odds_0 : decode cX9_odds 0 = .ok (.aload_n 0, 1) := dk_42 (dk_at dksX9_odds_0 0 rfl rfl)
theorem dX9_odds_1 : decode cX9_odds 1 = .ok (.iload_n 1, 1) := dk_27 (dk_at dksX9_odds_0 1 rfl rfl)
theorem dX9_odds_2 : decode cX9_odds 2 = .ok (.invokevirtual 124, 3) := dk_182 0 124 (dk_at dksX9_odds_0 2 rfl rfl)
theorem dX9_odds_5 : decode cX9_odds 5 = .ok (.ifCond .eq 51, 3) := dk_153 0 51 (dk_at dksX9_odds_0 5 rfl rfl)
theorem dX9_odds_8 : decode cX9_odds 8 = .ok (.iload_n 2, 1) := dk_28 (dk_at dksX9_odds_0 8 rfl rfl)
theorem dX9_odds_9 : decode cX9_odds 9 = .ok (.i2l, 1) := dk_133 (dk_at dksX9_odds_0 9 rfl rfl)
theorem dX9_odds_10 : decode cX9_odds 10 = .ok (.ldc2_w 116, 3) := dk_20 0 116 (dk_at dksX9_odds_0 10 rfl rfl)
theorem dX9_odds_13 : decode cX9_odds 13 = .ok (.ldc2_w 118, 3) := dk_20 0 118 (dk_at dksX9_odds_0 13 rfl rfl)
theorem dX9_odds_16 : decode cX9_odds 16 = .ok (.invokestatic 93, 3) := dk_184 0 93 (dk_at dksX9_odds_0 16 rfl rfl)
theorem dX9_odds_19 : decode cX9_odds 19 = .ok (.ifCond .eq 37, 3) := dk_153 0 37 (dk_at dksX9_odds_0 19 rfl rfl)
theorem dX9_odds_22 : decode cX9_odds 22 = .ok (.iload_n 3, 1) := dk_29 (dk_at dksX9_odds_0 22 rfl rfl)
theorem dX9_odds_23 : decode cX9_odds 23 = .ok (.i2l, 1) := dk_133 (dk_at dksX9_odds_0 23 rfl rfl)
theorem dX9_odds_24 : decode cX9_odds 24 = .ok (.lconst 1, 1) := dk_10 (dk_at dksX9_odds_1 0 rfl rfl)
theorem dX9_odds_25 : decode cX9_odds 25 = .ok (.ldc2_w 409, 3) := dk_20 1 153 (dk_at dksX9_odds_1 1 rfl rfl)
theorem dX9_odds_28 : decode cX9_odds 28 = .ok (.invokestatic 93, 3) := dk_184 0 93 (dk_at dksX9_odds_1 4 rfl rfl)
theorem dX9_odds_31 : decode cX9_odds 31 = .ok (.ifCond .eq 25, 3) := dk_153 0 25 (dk_at dksX9_odds_1 7 rfl rfl)
theorem dX9_odds_34 : decode cX9_odds 34 = .ok (.iload_n 2, 1) := dk_28 (dk_at dksX9_odds_1 10 rfl rfl)
theorem dX9_odds_35 : decode cX9_odds 35 = .ok (.iload_n 3, 1) := dk_29 (dk_at dksX9_odds_1 11 rfl rfl)
theorem dX9_odds_36 : decode cX9_odds 36 = .ok (.iadd, 1) := dk_96 (dk_at dksX9_odds_1 12 rfl rfl)
theorem dX9_odds_37 : decode cX9_odds 37 = .ok (.sipush 1000, 3) := dk_17 3 232 (dk_at dksX9_odds_1 13 rfl rfl)
theorem dX9_odds_40 : decode cX9_odds 40 = .ok (.if_icmp .gt 16, 3) := dk_163 0 16 (dk_at dksX9_odds_1 16 rfl rfl)
theorem dX9_odds_43 : decode cX9_odds 43 = .ok (.iload 4, 2) := dk_21 4 (dk_at dksX9_odds_1 19 rfl rfl)
theorem dX9_odds_45 : decode cX9_odds 45 = .ok (.ifCond .lt 11, 3) := dk_155 0 11 (dk_at dksX9_odds_1 21 rfl rfl)
theorem dX9_odds_48 : decode cX9_odds 48 = .ok (.iload 5, 2) := dk_21 5 (dk_at dksX9_odds_2 0 rfl rfl)
theorem dX9_odds_50 : decode cX9_odds 50 = .ok (.invokestatic 311, 3) := dk_184 1 55 (dk_at dksX9_odds_2 2 rfl rfl)
theorem dX9_odds_53 : decode cX9_odds 53 = .ok (.ifCond .ne 7, 3) := dk_154 0 7 (dk_at dksX9_odds_2 5 rfl rfl)
theorem dX9_odds_56 : decode cX9_odds 56 = .ok (.ldc2_w 306, 3) := dk_20 1 50 (dk_at dksX9_odds_2 8 rfl rfl)
theorem dX9_odds_59 : decode cX9_odds 59 = .ok (.lreturn, 1) := dk_173 (dk_at dksX9_odds_2 11 rfl rfl)
theorem dX9_odds_60 : decode cX9_odds 60 = .ok (.iconst 0, 1) := dk_3 (dk_at dksX9_odds_2 12 rfl rfl)
theorem dX9_odds_61 : decode cX9_odds 61 = .ok (.istore 6, 2) := dk_54 6 (dk_at dksX9_odds_2 13 rfl rfl)
theorem dX9_odds_63 : decode cX9_odds 63 = .ok (.iconst 0, 1) := dk_3 (dk_at dksX9_odds_2 15 rfl rfl)
theorem dX9_odds_64 : decode cX9_odds 64 = .ok (.istore 7, 2) := dk_54 7 (dk_at dksX9_odds_2 16 rfl rfl)
theorem dX9_odds_66 : decode cX9_odds 66 = .ok (.iload 7, 2) := dk_21 7 (dk_at dksX9_odds_2 18 rfl rfl)
theorem dX9_odds_68 : decode cX9_odds 68 = .ok (.iload_n 3, 1) := dk_29 (dk_at dksX9_odds_2 20 rfl rfl)
theorem dX9_odds_69 : decode cX9_odds 69 = .ok (.if_icmp .ge 39, 3) := dk_162 0 39 (dk_at dksX9_odds_2 21 rfl rfl)
theorem dX9_odds_72 : decode cX9_odds 72 = .ok (.iload 6, 2) := dk_21 6 (dk_at dksX9_odds_3 0 rfl rfl)
theorem dX9_odds_74 : decode cX9_odds 74 = .ok (.aload_n 0, 1) := dk_42 (dk_at dksX9_odds_3 2 rfl rfl)
theorem dX9_odds_75 : decode cX9_odds 75 = .ok (.iload_n 1, 1) := dk_27 (dk_at dksX9_odds_3 3 rfl rfl)
theorem dX9_odds_76 : decode cX9_odds 76 = .ok (.iload_n 2, 1) := dk_28 (dk_at dksX9_odds_3 4 rfl rfl)
theorem dX9_odds_77 : decode cX9_odds 77 = .ok (.iload 7, 2) := dk_21 7 (dk_at dksX9_odds_3 5 rfl rfl)
theorem dX9_odds_79 : decode cX9_odds 79 = .ok (.iadd, 1) := dk_96 (dk_at dksX9_odds_3 7 rfl rfl)
theorem dX9_odds_80 : decode cX9_odds 80 = .ok (.invokevirtual 403, 3) := dk_182 1 147 (dk_at dksX9_odds_3 8 rfl rfl)
theorem dX9_odds_83 : decode cX9_odds 83 = .ok (.i2l, 1) := dk_133 (dk_at dksX9_odds_3 11 rfl rfl)
theorem dX9_odds_84 : decode cX9_odds 84 = .ok (.lconst 0, 1) := dk_9 (dk_at dksX9_odds_3 12 rfl rfl)
theorem dX9_odds_85 : decode cX9_odds 85 = .ok (.iload 4, 2) := dk_21 4 (dk_at dksX9_odds_3 13 rfl rfl)
theorem dX9_odds_87 : decode cX9_odds 87 = .ok (.i2l, 1) := dk_133 (dk_at dksX9_odds_3 15 rfl rfl)
theorem dX9_odds_88 : decode cX9_odds 88 = .ok (.invokestatic 93, 3) := dk_184 0 93 (dk_at dksX9_odds_3 16 rfl rfl)
theorem dX9_odds_91 : decode cX9_odds 91 = .ok (.ifCond .eq 7, 3) := dk_153 0 7 (dk_at dksX9_odds_3 19 rfl rfl)
theorem dX9_odds_94 : decode cX9_odds 94 = .ok (.iconst 1, 1) := dk_4 (dk_at dksX9_odds_3 22 rfl rfl)
theorem dX9_odds_95 : decode cX9_odds 95 = .ok (.goto 4, 3) := dk_167 0 4 (dk_at dksX9_odds_4 0 rfl rfl)
theorem dX9_odds_98 : decode cX9_odds 98 = .ok (.iconst 0, 1) := dk_3 (dk_at dksX9_odds_4 3 rfl rfl)
theorem dX9_odds_99 : decode cX9_odds 99 = .ok (.iadd, 1) := dk_96 (dk_at dksX9_odds_4 4 rfl rfl)
theorem dX9_odds_100 : decode cX9_odds 100 = .ok (.istore 6, 2) := dk_54 6 (dk_at dksX9_odds_4 5 rfl rfl)
theorem dX9_odds_102 : decode cX9_odds 102 = .ok (.iinc 7 1, 3) := dk_132 7 1 (dk_at dksX9_odds_4 7 rfl rfl)
theorem dX9_odds_105 : decode cX9_odds 105 = .ok (.goto (-39), 3) := dk_167 255 217 (dk_at dksX9_odds_4 10 rfl rfl)
theorem dX9_odds_108 : decode cX9_odds 108 = .ok (.iload 6, 2) := dk_21 6 (dk_at dksX9_odds_4 13 rfl rfl)
theorem dX9_odds_110 : decode cX9_odds 110 = .ok (.i2l, 1) := dk_133 (dk_at dksX9_odds_4 15 rfl rfl)
theorem dX9_odds_111 : decode cX9_odds 111 = .ok (.iload_n 3, 1) := dk_29 (dk_at dksX9_odds_4 16 rfl rfl)
theorem dX9_odds_112 : decode cX9_odds 112 = .ok (.i2l, 1) := dk_133 (dk_at dksX9_odds_4 17 rfl rfl)
theorem dX9_odds_113 : decode cX9_odds 113 = .ok (.iload 5, 2) := dk_21 5 (dk_at dksX9_odds_4 18 rfl rfl)
theorem dX9_odds_115 : decode cX9_odds 115 = .ok (.invokestatic 317, 3) := dk_184 1 61 (dk_at dksX9_odds_4 20 rfl rfl)
theorem dX9_odds_118 : decode cX9_odds 118 = .ok (.lreturn, 1) := dk_173 (dk_at dksX9_odds_4 23 rfl rfl)
abbrev cX9_mean : ByteArray := prog_19_method_89_code
def yX9_mean : MethodName := ⟨RX9, "mean", "(I)J"⟩
def dkwX9_mean_2 : List UInt8 := [27, 184, 1, 61, 173]
abbrev dktX9_mean_2 : List UInt8 := dkwX9_mean_2 ++ []
def dkwX9_mean_1 : List UInt8 := [42, 180, 0, 11, 16, 7, 29, 96, 46, 96, 61, 132, 3, 1, 167, 255, 233, 28, 133, 42, 182, 0, 89, 133]
abbrev dktX9_mean_1 : List UInt8 := dkwX9_mean_1 ++ dktX9_mean_2
def dkwX9_mean_0 : List UInt8 := [27, 184, 1, 55, 154, 0, 7, 20, 1, 50, 173, 3, 61, 3, 62, 29, 42, 182, 0, 89, 162, 0, 21, 28]
abbrev dktX9_mean_0 : List UInt8 := dkwX9_mean_0 ++ dktX9_mean_1
theorem dksX9_mean_0 : cX9_mean.data.toList.drop 0 = dktX9_mean_0 := by decide +kernel
theorem dksX9_mean_1 : cX9_mean.data.toList.drop 24 = dktX9_mean_1 := dk_seg dksX9_mean_0 24 rfl rfl
theorem dksX9_mean_2 : cX9_mean.data.toList.drop 48 = dktX9_mean_2 := dk_seg dksX9_mean_1 24 rfl rfl
theorem dX9_mean_0 : decode cX9_mean 0 = .ok (.iload_n 1, 1) := dk_27 (dk_at dksX9_mean_0 0 rfl rfl)
theorem dX9_mean_1 : decode cX9_mean 1 = .ok (.invokestatic 311, 3) := dk_184 1 55 (dk_at dksX9_mean_0 1 rfl rfl)
theorem dX9_mean_4 : decode cX9_mean 4 = .ok (.ifCond .ne 7, 3) := dk_154 0 7 (dk_at dksX9_mean_0 4 rfl rfl)
theorem dX9_mean_7 : decode cX9_mean 7 = .ok (.ldc2_w 306, 3) := dk_20 1 50 (dk_at dksX9_mean_0 7 rfl rfl)
theorem dX9_mean_10 : decode cX9_mean 10 = .ok (.lreturn, 1) := dk_173 (dk_at dksX9_mean_0 10 rfl rfl)
theorem dX9_mean_11 : decode cX9_mean 11 = .ok (.iconst 0, 1) := dk_3 (dk_at dksX9_mean_0 11 rfl rfl)
theorem dX9_mean_12 : decode cX9_mean 12 = .ok (.istore_n 2, 1) := dk_61 (dk_at dksX9_mean_0 12 rfl rfl)
theorem dX9_mean_13 : decode cX9_mean 13 = .ok (.iconst 0, 1) := dk_3 (dk_at dksX9_mean_0 13 rfl rfl)
theorem dX9_mean_14 : decode cX9_mean 14 = .ok (.istore_n 3, 1) := dk_62 (dk_at dksX9_mean_0 14 rfl rfl)
theorem dX9_mean_15 : decode cX9_mean 15 = .ok (.iload_n 3, 1) := dk_29 (dk_at dksX9_mean_0 15 rfl rfl)
theorem dX9_mean_16 : decode cX9_mean 16 = .ok (.aload_n 0, 1) := dk_42 (dk_at dksX9_mean_0 16 rfl rfl)
theorem dX9_mean_17 : decode cX9_mean 17 = .ok (.invokevirtual 89, 3) := dk_182 0 89 (dk_at dksX9_mean_0 17 rfl rfl)
theorem dX9_mean_20 : decode cX9_mean 20 = .ok (.if_icmp .ge 21, 3) := dk_162 0 21 (dk_at dksX9_mean_0 20 rfl rfl)
theorem dX9_mean_23 : decode cX9_mean 23 = .ok (.iload_n 2, 1) := dk_28 (dk_at dksX9_mean_0 23 rfl rfl)
theorem dX9_mean_24 : decode cX9_mean 24 = .ok (.aload_n 0, 1) := dk_42 (dk_at dksX9_mean_1 0 rfl rfl)
theorem dX9_mean_25 : decode cX9_mean 25 = .ok (.getfield 11, 3) := dk_180 0 11 (dk_at dksX9_mean_1 1 rfl rfl)
theorem dX9_mean_28 : decode cX9_mean 28 = .ok (.bipush 7, 2) := dk_16 7 (dk_at dksX9_mean_1 4 rfl rfl)
theorem dX9_mean_30 : decode cX9_mean 30 = .ok (.iload_n 3, 1) := dk_29 (dk_at dksX9_mean_1 6 rfl rfl)
theorem dX9_mean_31 : decode cX9_mean 31 = .ok (.iadd, 1) := dk_96 (dk_at dksX9_mean_1 7 rfl rfl)
theorem dX9_mean_32 : decode cX9_mean 32 = .ok (.iaload, 1) := dk_46 (dk_at dksX9_mean_1 8 rfl rfl)
theorem dX9_mean_33 : decode cX9_mean 33 = .ok (.iadd, 1) := dk_96 (dk_at dksX9_mean_1 9 rfl rfl)
theorem dX9_mean_34 : decode cX9_mean 34 = .ok (.istore_n 2, 1) := dk_61 (dk_at dksX9_mean_1 10 rfl rfl)
theorem dX9_mean_35 : decode cX9_mean 35 = .ok (.iinc 3 1, 3) := dk_132 3 1 (dk_at dksX9_mean_1 11 rfl rfl)
theorem dX9_mean_38 : decode cX9_mean 38 = .ok (.goto (-23), 3) := dk_167 255 233 (dk_at dksX9_mean_1 14 rfl rfl)
theorem dX9_mean_41 : decode cX9_mean 41 = .ok (.iload_n 2, 1) := dk_28 (dk_at dksX9_mean_1 17 rfl rfl)
theorem dX9_mean_42 : decode cX9_mean 42 = .ok (.i2l, 1) := dk_133 (dk_at dksX9_mean_1 18 rfl rfl)
theorem dX9_mean_43 : decode cX9_mean 43 = .ok (.aload_n 0, 1) := dk_42 (dk_at dksX9_mean_1 19 rfl rfl)
theorem dX9_mean_44 : decode cX9_mean 44 = .ok (.invokevirtual 89, 3) := dk_182 0 89 (dk_at dksX9_mean_1 20 rfl rfl)
theorem dX9_mean_47 : decode cX9_mean 47 = .ok (.i2l, 1) := dk_133 (dk_at dksX9_mean_1 23 rfl rfl)
theorem dX9_mean_48 : decode cX9_mean 48 = .ok (.iload_n 1, 1) := dk_27 (dk_at dksX9_mean_2 0 rfl rfl)
theorem dX9_mean_49 : decode cX9_mean 49 = .ok (.invokestatic 317, 3) := dk_184 1 61 (dk_at dksX9_mean_2 1 rfl rfl)
theorem dX9_mean_52 : decode cX9_mean 52 = .ok (.lreturn, 1) := dk_173 (dk_at dksX9_mean_2 4 rfl rfl)
abbrev cX9_drawn : ByteArray := prog_19_method_93_code
def yX9_drawn : MethodName := ⟨RX9, "drawn", "(II)I"⟩
def dkwX9_drawn_5 : List UInt8 := [182, 1, 144, 62, 42, 182, 1, 167, 29, 172]
abbrev dktX9_drawn_5 : List UInt8 := dkwX9_drawn_5 ++ []
def dkwX9_drawn_4 : List UInt8 := [16, 12, 16, 7, 29, 104, 96, 4, 96, 42, 16, 60, 182, 1, 164, 79, 132, 3, 1, 167, 255, 174, 42]
abbrev dktX9_drawn_4 : List UInt8 := dkwX9_drawn_4 ++ dktX9_drawn_5
def dkwX9_drawn_3 : List UInt8 := [104, 96, 5, 96, 21, 4, 96, 42, 16, 10, 182, 1, 164, 79, 132, 4, 1, 167, 255, 221, 42, 180, 0, 11]
abbrev dktX9_drawn_3 : List UInt8 := dkwX9_drawn_3 ++ dktX9_drawn_4
def dkwX9_drawn_2 : List UInt8 := [96, 3, 79, 3, 54, 4, 21, 4, 42, 182, 0, 89, 162, 0, 32, 42, 180, 0, 11, 16, 12, 16, 7, 29]
abbrev dktX9_drawn_2 : List UInt8 := dkwX9_drawn_2 ++ dktX9_drawn_3
def dkwX9_drawn_1 : List UInt8 := [42, 180, 0, 11, 4, 28, 79, 3, 62, 29, 28, 162, 0, 83, 42, 180, 0, 11, 16, 12, 16, 7, 29, 104]
abbrev dktX9_drawn_1 : List UInt8 := dkwX9_drawn_1 ++ dktX9_drawn_2
def dkwX9_drawn_0 : List UInt8 := [28, 133, 10, 20, 1, 159, 184, 0, 93, 154, 0, 6, 16, 254, 172, 42, 182, 1, 161, 42, 27, 181, 1, 155]
abbrev dktX9_drawn_0 : List UInt8 := dkwX9_drawn_0 ++ dktX9_drawn_1
theorem dksX9_drawn_0 : cX9_drawn.data.toList.drop 0 = dktX9_drawn_0 := by decide +kernel
theorem dksX9_drawn_1 : cX9_drawn.data.toList.drop 24 = dktX9_drawn_1 := dk_seg dksX9_drawn_0 24 rfl rfl
theorem dksX9_drawn_2 : cX9_drawn.data.toList.drop 48 = dktX9_drawn_2 := dk_seg dksX9_drawn_1 24 rfl rfl
theorem dksX9_drawn_3 : cX9_drawn.data.toList.drop 72 = dktX9_drawn_3 := dk_seg dksX9_drawn_2 24 rfl rfl
theorem dksX9_drawn_4 : cX9_drawn.data.toList.drop 96 = dktX9_drawn_4 := dk_seg dksX9_drawn_3 24 rfl rfl
theorem dksX9_drawn_5 : cX9_drawn.data.toList.drop 119 = dktX9_drawn_5 := dk_seg dksX9_drawn_4 23 rfl rfl
theorem dX9_drawn_0 : decode cX9_drawn 0 = .ok (.iload_n 2, 1) := dk_28 (dk_at dksX9_drawn_0 0 rfl rfl)
theorem dX9_drawn_1 : decode cX9_drawn 1 = .ok (.i2l, 1) := dk_133 (dk_at dksX9_drawn_0 1 rfl rfl)
theorem dX9_drawn_2 : decode cX9_drawn 2 = .ok (.lconst 1, 1) := dk_10 (dk_at dksX9_drawn_0 2 rfl rfl)
theorem dX9_drawn_3 : decode cX9_drawn 3 = .ok (.ldc2_w 415, 3) := dk_20 1 159 (dk_at dksX9_drawn_0 3 rfl rfl)
theorem dX9_drawn_6 : decode cX9_drawn 6 = .ok (.invokestatic 93, 3) := dk_184 0 93 (dk_at dksX9_drawn_0 6 rfl rfl)
theorem dX9_drawn_9 : decode cX9_drawn 9 = .ok (.ifCond .ne 6, 3) := dk_154 0 6 (dk_at dksX9_drawn_0 9 rfl rfl)
theorem dX9_drawn_12 : decode cX9_drawn 12 = .ok (.bipush (-2), 2) := dk_16 254 (dk_at dksX9_drawn_0 12 rfl rfl)
theorem dX9_drawn_14 : decode cX9_drawn 14 = .ok (.ireturn, 1) := dk_172 (dk_at dksX9_drawn_0 14 rfl rfl)
theorem dX9_drawn_15 : decode cX9_drawn 15 = .ok (.aload_n 0, 1) := dk_42 (dk_at dksX9_drawn_0 15 rfl rfl)
theorem dX9_drawn_16 : decode cX9_drawn 16 = .ok (.invokevirtual 417, 3) := dk_182 1 161 (dk_at dksX9_drawn_0 16 rfl rfl)
theorem dX9_drawn_19 : decode cX9_drawn 19 = .ok (.aload_n 0, 1) := dk_42 (dk_at dksX9_drawn_0 19 rfl rfl)
theorem dX9_drawn_20 : decode cX9_drawn 20 = .ok (.iload_n 1, 1) := dk_27 (dk_at dksX9_drawn_0 20 rfl rfl)
theorem dX9_drawn_21 : decode cX9_drawn 21 = .ok (.putfield 411, 3) := dk_181 1 155 (dk_at dksX9_drawn_0 21 rfl rfl)
theorem dX9_drawn_24 : decode cX9_drawn 24 = .ok (.aload_n 0, 1) := dk_42 (dk_at dksX9_drawn_1 0 rfl rfl)
theorem dX9_drawn_25 : decode cX9_drawn 25 = .ok (.getfield 11, 3) := dk_180 0 11 (dk_at dksX9_drawn_1 1 rfl rfl)
theorem dX9_drawn_28 : decode cX9_drawn 28 = .ok (.iconst 1, 1) := dk_4 (dk_at dksX9_drawn_1 4 rfl rfl)
theorem dX9_drawn_29 : decode cX9_drawn 29 = .ok (.iload_n 2, 1) := dk_28 (dk_at dksX9_drawn_1 5 rfl rfl)
theorem dX9_drawn_30 : decode cX9_drawn 30 = .ok (.iastore, 1) := dk_79 (dk_at dksX9_drawn_1 6 rfl rfl)
theorem dX9_drawn_31 : decode cX9_drawn 31 = .ok (.iconst 0, 1) := dk_3 (dk_at dksX9_drawn_1 7 rfl rfl)
theorem dX9_drawn_32 : decode cX9_drawn 32 = .ok (.istore_n 3, 1) := dk_62 (dk_at dksX9_drawn_1 8 rfl rfl)
theorem dX9_drawn_33 : decode cX9_drawn 33 = .ok (.iload_n 3, 1) := dk_29 (dk_at dksX9_drawn_1 9 rfl rfl)
theorem dX9_drawn_34 : decode cX9_drawn 34 = .ok (.iload_n 2, 1) := dk_28 (dk_at dksX9_drawn_1 10 rfl rfl)
theorem dX9_drawn_35 : decode cX9_drawn 35 = .ok (.if_icmp .ge 83, 3) := dk_162 0 83 (dk_at dksX9_drawn_1 11 rfl rfl)
theorem dX9_drawn_38 : decode cX9_drawn 38 = .ok (.aload_n 0, 1) := dk_42 (dk_at dksX9_drawn_1 14 rfl rfl)
theorem dX9_drawn_39 : decode cX9_drawn 39 = .ok (.getfield 11, 3) := dk_180 0 11 (dk_at dksX9_drawn_1 15 rfl rfl)
theorem dX9_drawn_42 : decode cX9_drawn 42 = .ok (.bipush 12, 2) := dk_16 12 (dk_at dksX9_drawn_1 18 rfl rfl)
theorem dX9_drawn_44 : decode cX9_drawn 44 = .ok (.bipush 7, 2) := dk_16 7 (dk_at dksX9_drawn_1 20 rfl rfl)
theorem dX9_drawn_46 : decode cX9_drawn 46 = .ok (.iload_n 3, 1) := dk_29 (dk_at dksX9_drawn_1 22 rfl rfl)
theorem dX9_drawn_47 : decode cX9_drawn 47 = .ok (.imul, 1) := dk_104 (dk_at dksX9_drawn_1 23 rfl rfl)
theorem dX9_drawn_48 : decode cX9_drawn 48 = .ok (.iadd, 1) := dk_96 (dk_at dksX9_drawn_2 0 rfl rfl)
theorem dX9_drawn_49 : decode cX9_drawn 49 = .ok (.iconst 0, 1) := dk_3 (dk_at dksX9_drawn_2 1 rfl rfl)
theorem dX9_drawn_50 : decode cX9_drawn 50 = .ok (.iastore, 1) := dk_79 (dk_at dksX9_drawn_2 2 rfl rfl)
theorem dX9_drawn_51 : decode cX9_drawn 51 = .ok (.iconst 0, 1) := dk_3 (dk_at dksX9_drawn_2 3 rfl rfl)
theorem dX9_drawn_52 : decode cX9_drawn 52 = .ok (.istore 4, 2) := dk_54 4 (dk_at dksX9_drawn_2 4 rfl rfl)
theorem dX9_drawn_54 : decode cX9_drawn 54 = .ok (.iload 4, 2) := dk_21 4 (dk_at dksX9_drawn_2 6 rfl rfl)
theorem dX9_drawn_56 : decode cX9_drawn 56 = .ok (.aload_n 0, 1) := dk_42 (dk_at dksX9_drawn_2 8 rfl rfl)
theorem dX9_drawn_57 : decode cX9_drawn 57 = .ok (.invokevirtual 89, 3) := dk_182 0 89 (dk_at dksX9_drawn_2 9 rfl rfl)
theorem dX9_drawn_60 : decode cX9_drawn 60 = .ok (.if_icmp .ge 32, 3) := dk_162 0 32 (dk_at dksX9_drawn_2 12 rfl rfl)
theorem dX9_drawn_63 : decode cX9_drawn 63 = .ok (.aload_n 0, 1) := dk_42 (dk_at dksX9_drawn_2 15 rfl rfl)
theorem dX9_drawn_64 : decode cX9_drawn 64 = .ok (.getfield 11, 3) := dk_180 0 11 (dk_at dksX9_drawn_2 16 rfl rfl)
theorem dX9_drawn_67 : decode cX9_drawn 67 = .ok (.bipush 12, 2) := dk_16 12 (dk_at dksX9_drawn_2 19 rfl rfl)
theorem dX9_drawn_69 : decode cX9_drawn 69 = .ok (.bipush 7, 2) := dk_16 7 (dk_at dksX9_drawn_2 21 rfl rfl)
theorem dX9_drawn_71 : decode cX9_drawn 71 = .ok (.iload_n 3, 1) := dk_29 (dk_at dksX9_drawn_2 23 rfl rfl)
theorem dX9_drawn_72 : decode cX9_drawn 72 = .ok (.imul, 1) := dk_104 (dk_at dksX9_drawn_3 0 rfl rfl)
theorem dX9_drawn_73 : decode cX9_drawn 73 = .ok (.iadd, 1) := dk_96 (dk_at dksX9_drawn_3 1 rfl rfl)
theorem dX9_drawn_74 : decode cX9_drawn 74 = .ok (.iconst 2, 1) := dk_5 (dk_at dksX9_drawn_3 2 rfl rfl)
theorem dX9_drawn_75 : decode cX9_drawn 75 = .ok (.iadd, 1) := dk_96 (dk_at dksX9_drawn_3 3 rfl rfl)
theorem dX9_drawn_76 : decode cX9_drawn 76 = .ok (.iload 4, 2) := dk_21 4 (dk_at dksX9_drawn_3 4 rfl rfl)
theorem dX9_drawn_78 : decode cX9_drawn 78 = .ok (.iadd, 1) := dk_96 (dk_at dksX9_drawn_3 6 rfl rfl)
theorem dX9_drawn_79 : decode cX9_drawn 79 = .ok (.aload_n 0, 1) := dk_42 (dk_at dksX9_drawn_3 7 rfl rfl)
theorem dX9_drawn_80 : decode cX9_drawn 80 = .ok (.bipush 10, 2) := dk_16 10 (dk_at dksX9_drawn_3 8 rfl rfl)
theorem dX9_drawn_82 : decode cX9_drawn 82 = .ok (.invokevirtual 420, 3) := dk_182 1 164 (dk_at dksX9_drawn_3 10 rfl rfl)
theorem dX9_drawn_85 : decode cX9_drawn 85 = .ok (.iastore, 1) := dk_79 (dk_at dksX9_drawn_3 13 rfl rfl)
theorem dX9_drawn_86 : decode cX9_drawn 86 = .ok (.iinc 4 1, 3) := dk_132 4 1 (dk_at dksX9_drawn_3 14 rfl rfl)
theorem dX9_drawn_89 : decode cX9_drawn 89 = .ok (.goto (-35), 3) := dk_167 255 221 (dk_at dksX9_drawn_3 17 rfl rfl)
theorem dX9_drawn_92 : decode cX9_drawn 92 = .ok (.aload_n 0, 1) := dk_42 (dk_at dksX9_drawn_3 20 rfl rfl)
theorem dX9_drawn_93 : decode cX9_drawn 93 = .ok (.getfield 11, 3) := dk_180 0 11 (dk_at dksX9_drawn_3 21 rfl rfl)
theorem dX9_drawn_96 : decode cX9_drawn 96 = .ok (.bipush 12, 2) := dk_16 12 (dk_at dksX9_drawn_4 0 rfl rfl)
theorem dX9_drawn_98 : decode cX9_drawn 98 = .ok (.bipush 7, 2) := dk_16 7 (dk_at dksX9_drawn_4 2 rfl rfl)
theorem dX9_drawn_100 : decode cX9_drawn 100 = .ok (.iload_n 3, 1) := dk_29 (dk_at dksX9_drawn_4 4 rfl rfl)
theorem dX9_drawn_101 : decode cX9_drawn 101 = .ok (.imul, 1) := dk_104 (dk_at dksX9_drawn_4 5 rfl rfl)
theorem dX9_drawn_102 : decode cX9_drawn 102 = .ok (.iadd, 1) := dk_96 (dk_at dksX9_drawn_4 6 rfl rfl)
theorem dX9_drawn_103 : decode cX9_drawn 103 = .ok (.iconst 1, 1) := dk_4 (dk_at dksX9_drawn_4 7 rfl rfl)
theorem dX9_drawn_104 : decode cX9_drawn 104 = .ok (.iadd, 1) := dk_96 (dk_at dksX9_drawn_4 8 rfl rfl)
theorem dX9_drawn_105 : decode cX9_drawn 105 = .ok (.aload_n 0, 1) := dk_42 (dk_at dksX9_drawn_4 9 rfl rfl)
theorem dX9_drawn_106 : decode cX9_drawn 106 = .ok (.bipush 60, 2) := dk_16 60 (dk_at dksX9_drawn_4 10 rfl rfl)
theorem dX9_drawn_108 : decode cX9_drawn 108 = .ok (.invokevirtual 420, 3) := dk_182 1 164 (dk_at dksX9_drawn_4 12 rfl rfl)
theorem dX9_drawn_111 : decode cX9_drawn 111 = .ok (.iastore, 1) := dk_79 (dk_at dksX9_drawn_4 15 rfl rfl)
theorem dX9_drawn_112 : decode cX9_drawn 112 = .ok (.iinc 3 1, 3) := dk_132 3 1 (dk_at dksX9_drawn_4 16 rfl rfl)
theorem dX9_drawn_115 : decode cX9_drawn 115 = .ok (.goto (-82), 3) := dk_167 255 174 (dk_at dksX9_drawn_4 19 rfl rfl)
theorem dX9_drawn_118 : decode cX9_drawn 118 = .ok (.aload_n 0, 1) := dk_42 (dk_at dksX9_drawn_4 22 rfl rfl)
theorem dX9_drawn_119 : decode cX9_drawn 119 = .ok (.invokevirtual 400, 3) := dk_182 1 144 (dk_at dksX9_drawn_5 0 rfl rfl)
theorem dX9_drawn_122 : decode cX9_drawn 122 = .ok (.istore_n 3, 1) := dk_62 (dk_at dksX9_drawn_5 3 rfl rfl)
theorem dX9_drawn_123 : decode cX9_drawn 123 = .ok (.aload_n 0, 1) := dk_42 (dk_at dksX9_drawn_5 4 rfl rfl)
theorem dX9_drawn_124 : decode cX9_drawn 124 = .ok (.invokevirtual 423, 3) := dk_182 1 167 (dk_at dksX9_drawn_5 5 rfl rfl)
theorem dX9_drawn_127 : decode cX9_drawn 127 = .ok (.iload_n 3, 1) := dk_29 (dk_at dksX9_drawn_5 8 rfl rfl)
theorem dX9_drawn_128 : decode cX9_drawn 128 = .ok (.ireturn, 1) := dk_172 (dk_at dksX9_drawn_5 9 rfl rfl)
abbrev cX9_lends : ByteArray := prog_19_method_90_code
def yX9_lends : MethodName := ⟨RX9, "lends", "()V"⟩
def dkwX9_lends_1 : List UInt8 := [167, 255, 234, 177]
abbrev dktX9_lends_1 : List UInt8 := dkwX9_lends_1 ++ []
def dkwX9_lends_0 : List UInt8 := [3, 60, 27, 17, 0, 150, 162, 0, 21, 42, 180, 0, 18, 27, 42, 180, 0, 11, 27, 46, 79, 132, 1, 1]
abbrev dktX9_lends_0 : List UInt8 := dkwX9_lends_0 ++ dktX9_lends_1
theorem dksX9_lends_0 : cX9_lends.data.toList.drop 0 = dktX9_lends_0 := by decide +kernel
theorem dksX9_lends_1 : cX9_lends.data.toList.drop 24 = dktX9_lends_1 := dk_seg dksX9_lends_0 24 rfl rfl
theorem dX9_lends_0 : decode cX9_lends 0 = .ok (.iconst 0, 1) := dk_3 (dk_at dksX9_lends_0 0 rfl rfl)
theorem dX9_lends_1 : decode cX9_lends 1 = .ok (.istore_n 1, 1) := dk_60 (dk_at dksX9_lends_0 1 rfl rfl)
theorem dX9_lends_2 : decode cX9_lends 2 = .ok (.iload_n 1, 1) := dk_27 (dk_at dksX9_lends_0 2 rfl rfl)
theorem dX9_lends_3 : decode cX9_lends 3 = .ok (.sipush 150, 3) := dk_17 0 150 (dk_at dksX9_lends_0 3 rfl rfl)
theorem dX9_lends_6 : decode cX9_lends 6 = .ok (.if_icmp .ge 21, 3) := dk_162 0 21 (dk_at dksX9_lends_0 6 rfl rfl)
theorem dX9_lends_9 : decode cX9_lends 9 = .ok (.aload_n 0, 1) := dk_42 (dk_at dksX9_lends_0 9 rfl rfl)
theorem dX9_lends_10 : decode cX9_lends 10 = .ok (.getfield 18, 3) := dk_180 0 18 (dk_at dksX9_lends_0 10 rfl rfl)
theorem dX9_lends_13 : decode cX9_lends 13 = .ok (.iload_n 1, 1) := dk_27 (dk_at dksX9_lends_0 13 rfl rfl)
theorem dX9_lends_14 : decode cX9_lends 14 = .ok (.aload_n 0, 1) := dk_42 (dk_at dksX9_lends_0 14 rfl rfl)
theorem dX9_lends_15 : decode cX9_lends 15 = .ok (.getfield 11, 3) := dk_180 0 11 (dk_at dksX9_lends_0 15 rfl rfl)
theorem dX9_lends_18 : decode cX9_lends 18 = .ok (.iload_n 1, 1) := dk_27 (dk_at dksX9_lends_0 18 rfl rfl)
theorem dX9_lends_19 : decode cX9_lends 19 = .ok (.iaload, 1) := dk_46 (dk_at dksX9_lends_0 19 rfl rfl)
theorem dX9_lends_20 : decode cX9_lends 20 = .ok (.iastore, 1) := dk_79 (dk_at dksX9_lends_0 20 rfl rfl)
theorem dX9_lends_21 : decode cX9_lends 21 = .ok (.iinc 1 1, 3) := dk_132 1 1 (dk_at dksX9_lends_0 21 rfl rfl)
theorem dX9_lends_24 : decode cX9_lends 24 = .ok (.goto (-22), 3) := dk_167 255 234 (dk_at dksX9_lends_1 0 rfl rfl)
theorem dX9_lends_27 : decode cX9_lends 27 = .ok (.return_, 1) := dk_177 (dk_at dksX9_lends_1 3 rfl rfl)
abbrev cX9_draws : ByteArray := prog_19_method_92_code
def yX9_draws : MethodName := ⟨RX9, "draws", "(I)I"⟩
def dkwX9_draws_1 : List UInt8 := [112, 172]
abbrev dktX9_draws_1 : List UInt8 := dkwX9_draws_1 ++ []
def dkwX9_draws_0 : List UInt8 := [42, 42, 180, 1, 155, 19, 1, 158, 104, 17, 48, 57, 96, 181, 1, 155, 42, 180, 1, 155, 16, 9, 124, 27]
abbrev dktX9_draws_0 : List UInt8 := dkwX9_draws_0 ++ dktX9_draws_1
theorem dksX9_draws_0 : cX9_draws.data.toList.drop 0 = dktX9_draws_0 := by decide +kernel
theorem dksX9_draws_1 : cX9_draws.data.toList.drop 24 = dktX9_draws_1 := dk_seg dksX9_draws_0 24 rfl rfl
theorem dX9_draws_0 : decode cX9_draws 0 = .ok (.aload_n 0, 1) := dk_42 (dk_at dksX9_draws_0 0 rfl rfl)
theorem dX9_draws_1 : decode cX9_draws 1 = .ok (.aload_n 0, 1) := dk_42 (dk_at dksX9_draws_0 1 rfl rfl)
theorem dX9_draws_2 : decode cX9_draws 2 = .ok (.getfield 411, 3) := dk_180 1 155 (dk_at dksX9_draws_0 2 rfl rfl)
theorem dX9_draws_5 : decode cX9_draws 5 = .ok (.ldc_w 414, 3) := dk_19 1 158 (dk_at dksX9_draws_0 5 rfl rfl)
theorem dX9_draws_8 : decode cX9_draws 8 = .ok (.imul, 1) := dk_104 (dk_at dksX9_draws_0 8 rfl rfl)
theorem dX9_draws_9 : decode cX9_draws 9 = .ok (.sipush 12345, 3) := dk_17 48 57 (dk_at dksX9_draws_0 9 rfl rfl)
theorem dX9_draws_12 : decode cX9_draws 12 = .ok (.iadd, 1) := dk_96 (dk_at dksX9_draws_0 12 rfl rfl)
theorem dX9_draws_13 : decode cX9_draws 13 = .ok (.putfield 411, 3) := dk_181 1 155 (dk_at dksX9_draws_0 13 rfl rfl)
theorem dX9_draws_16 : decode cX9_draws 16 = .ok (.aload_n 0, 1) := dk_42 (dk_at dksX9_draws_0 16 rfl rfl)
theorem dX9_draws_17 : decode cX9_draws 17 = .ok (.getfield 411, 3) := dk_180 1 155 (dk_at dksX9_draws_0 17 rfl rfl)
theorem dX9_draws_20 : decode cX9_draws 20 = .ok (.bipush 9, 2) := dk_16 9 (dk_at dksX9_draws_0 20 rfl rfl)
theorem dX9_draws_22 : decode cX9_draws 22 = .ok (.iushr, 1) := dk_124 (dk_at dksX9_draws_0 22 rfl rfl)
theorem dX9_draws_23 : decode cX9_draws 23 = .ok (.iload_n 1, 1) := dk_27 (dk_at dksX9_draws_0 23 rfl rfl)
theorem dX9_draws_24 : decode cX9_draws 24 = .ok (.irem, 1) := dk_112 (dk_at dksX9_draws_1 0 rfl rfl)
theorem dX9_draws_25 : decode cX9_draws 25 = .ok (.ireturn, 1) := dk_172 (dk_at dksX9_draws_1 1 rfl rfl)
abbrev cX9_takesBack : ByteArray := prog_19_method_91_code
def yX9_takesBack : MethodName := ⟨RX9, "takesBack", "()V"⟩
def dkwX9_takesBack_1 : List UInt8 := [167, 255, 234, 177]
abbrev dktX9_takesBack_1 : List UInt8 := dkwX9_takesBack_1 ++ []
def dkwX9_takesBack_0 : List UInt8 := [3, 60, 27, 17, 0, 150, 162, 0, 21, 42, 180, 0, 11, 27, 42, 180, 0, 18, 27, 46, 79, 132, 1, 1]
abbrev dktX9_takesBack_0 : List UInt8 := dkwX9_takesBack_0 ++ dktX9_takesBack_1
theorem dksX9_takesBack_0 : cX9_takesBack.data.toList.drop 0 = dktX9_takesBack_0 := by decide +kernel
theorem dksX9_takesBack_1 : cX9_takesBack.data.toList.drop 24 = dktX9_takesBack_1 := dk_seg dksX9_takesBack_0 24 rfl rfl
theorem dX9_takesBack_0 : decode cX9_takesBack 0 = .ok (.iconst 0, 1) := dk_3 (dk_at dksX9_takesBack_0 0 rfl rfl)
theorem dX9_takesBack_1 : decode cX9_takesBack 1 = .ok (.istore_n 1, 1) := dk_60 (dk_at dksX9_takesBack_0 1 rfl rfl)
theorem dX9_takesBack_2 : decode cX9_takesBack 2 = .ok (.iload_n 1, 1) := dk_27 (dk_at dksX9_takesBack_0 2 rfl rfl)
theorem dX9_takesBack_3 : decode cX9_takesBack 3 = .ok (.sipush 150, 3) := dk_17 0 150 (dk_at dksX9_takesBack_0 3 rfl rfl)
theorem dX9_takesBack_6 : decode cX9_takesBack 6 = .ok (.if_icmp .ge 21, 3) := dk_162 0 21 (dk_at dksX9_takesBack_0 6 rfl rfl)
theorem dX9_takesBack_9 : decode cX9_takesBack 9 = .ok (.aload_n 0, 1) := dk_42 (dk_at dksX9_takesBack_0 9 rfl rfl)
theorem dX9_takesBack_10 : decode cX9_takesBack 10 = .ok (.getfield 11, 3) := dk_180 0 11 (dk_at dksX9_takesBack_0 10 rfl rfl)
theorem dX9_takesBack_13 : decode cX9_takesBack 13 = .ok (.iload_n 1, 1) := dk_27 (dk_at dksX9_takesBack_0 13 rfl rfl)
theorem dX9_takesBack_14 : decode cX9_takesBack 14 = .ok (.aload_n 0, 1) := dk_42 (dk_at dksX9_takesBack_0 14 rfl rfl)
theorem dX9_takesBack_15 : decode cX9_takesBack 15 = .ok (.getfield 18, 3) := dk_180 0 18 (dk_at dksX9_takesBack_0 15 rfl rfl)
theorem dX9_takesBack_18 : decode cX9_takesBack 18 = .ok (.iload_n 1, 1) := dk_27 (dk_at dksX9_takesBack_0 18 rfl rfl)
theorem dX9_takesBack_19 : decode cX9_takesBack 19 = .ok (.iaload, 1) := dk_46 (dk_at dksX9_takesBack_0 19 rfl rfl)
theorem dX9_takesBack_20 : decode cX9_takesBack 20 = .ok (.iastore, 1) := dk_79 (dk_at dksX9_takesBack_0 20 rfl rfl)
theorem dX9_takesBack_21 : decode cX9_takesBack 21 = .ok (.iinc 1 1, 3) := dk_132 1 1 (dk_at dksX9_takesBack_0 21 rfl rfl)
theorem dX9_takesBack_24 : decode cX9_takesBack 24 = .ok (.goto (-22), 3) := dk_167 255 234 (dk_at dksX9_takesBack_1 0 rfl rfl)
theorem dX9_takesBack_27 : decode cX9_takesBack 27 = .ok (.return_, 1) := dk_177 (dk_at dksX9_takesBack_1 3 rfl rfl)
abbrev cX9_offer : ByteArray := prog_19_method_95_code
def yX9_offer : MethodName := ⟨RX9, "offer", "(II)I"⟩
def dkwX9_offer_5 : List UInt8 := [79, 21, 4, 172]
abbrev dktX9_offer_5 : List UInt8 := dkwX9_offer_5 ++ []
def dkwX9_offer_4 : List UInt8 := [180, 0, 11, 16, 110, 5, 29, 104, 96, 27, 79, 42, 180, 0, 11, 16, 110, 5, 29, 104, 96, 4, 96, 28]
abbrev dktX9_offer_4 : List UInt8 := dkwX9_offer_4 ++ dktX9_offer_5
def dkwX9_offer_3 : List UInt8 := [29, 156, 0, 22, 42, 180, 0, 11, 16, 6, 46, 62, 42, 180, 0, 11, 16, 6, 92, 46, 4, 96, 79, 42]
abbrev dktX9_offer_3 : List UInt8 := dkwX9_offer_3 ++ dktX9_offer_4
def dkwX9_offer_2 : List UInt8 := [29, 156, 0, 8, 16, 251, 167, 0, 16, 42, 180, 0, 11, 16, 110, 5, 29, 104, 96, 4, 96, 46, 54, 4]
abbrev dktX9_offer_2 : List UInt8 := dkwX9_offer_2 ++ dktX9_offer_3
def dkwX9_offer_1 : List UInt8 := [27, 182, 1, 170, 62, 29, 156, 0, 18, 42, 180, 0, 11, 16, 6, 46, 16, 20, 160, 0, 6, 16, 252, 172]
abbrev dktX9_offer_1 : List UInt8 := dkwX9_offer_1 ++ dktX9_offer_2
def dkwX9_offer_0 : List UInt8 := [42, 27, 182, 1, 109, 153, 0, 15, 28, 133, 9, 20, 0, 118, 184, 0, 93, 154, 0, 6, 16, 254, 172, 42]
abbrev dktX9_offer_0 : List UInt8 := dkwX9_offer_0 ++ dktX9_offer_1
theorem dksX9_offer_0 : cX9_offer.data.toList.drop 0 = dktX9_offer_0 := by decide +kernel
theorem dksX9_offer_1 : cX9_offer.data.toList.drop 24 = dktX9_offer_1 := dk_seg dksX9_offer_0 24 rfl rfl
theorem dksX9_offer_2 : cX9_offer.data.toList.drop 48 = dktX9_offer_2 := dk_seg dksX9_offer_1 24 rfl rfl
theorem dksX9_offer_3 : cX9_offer.data.toList.drop 72 = dktX9_offer_3 := dk_seg dksX9_offer_2 24 rfl rfl
theorem dksX9_offer_4 : cX9_offer.data.toList.drop 96 = dktX9_offer_4 := dk_seg dksX9_offer_3 24 rfl rfl
theorem dksX9_offer_5 : cX9_offer.data.toList.drop 120 = dktX9_offer_5 := dk_seg dksX9_offer_4 24 rfl rfl
theorem dX9_offer_0 : decode cX9_offer 0 = .ok (.aload_n 0, 1) := dk_42 (dk_at dksX9_offer_0 0 rfl rfl)
theorem dX9_offer_1 : decode cX9_offer 1 = .ok (.iload_n 1, 1) := dk_27 (dk_at dksX9_offer_0 1 rfl rfl)
theorem dX9_offer_2 : decode cX9_offer 2 = .ok (.invokevirtual 365, 3) := dk_182 1 109 (dk_at dksX9_offer_0 2 rfl rfl)
theorem dX9_offer_5 : decode cX9_offer 5 = .ok (.ifCond .eq 15, 3) := dk_153 0 15 (dk_at dksX9_offer_0 5 rfl rfl)
theorem dX9_offer_8 : decode cX9_offer 8 = .ok (.iload_n 2, 1) := dk_28 (dk_at dksX9_offer_0 8 rfl rfl)
theorem dX9_offer_9 : decode cX9_offer 9 = .ok (.i2l, 1) := dk_133 (dk_at dksX9_offer_0 9 rfl rfl)
theorem dX9_offer_10 : decode cX9_offer 10 = .ok (.lconst 0, 1) := dk_9 (dk_at dksX9_offer_0 10 rfl rfl)
theorem dX9_offer_11 : decode cX9_offer 11 = .ok (.ldc2_w 118, 3) := dk_20 0 118 (dk_at dksX9_offer_0 11 rfl rfl)
theorem dX9_offer_14 : decode cX9_offer 14 = .ok (.invokestatic 93, 3) := dk_184 0 93 (dk_at dksX9_offer_0 14 rfl rfl)
theorem dX9_offer_17 : decode cX9_offer 17 = .ok (.ifCond .ne 6, 3) := dk_154 0 6 (dk_at dksX9_offer_0 17 rfl rfl)
theorem dX9_offer_20 : decode cX9_offer 20 = .ok (.bipush (-2), 2) := dk_16 254 (dk_at dksX9_offer_0 20 rfl rfl)
theorem dX9_offer_22 : decode cX9_offer 22 = .ok (.ireturn, 1) := dk_172 (dk_at dksX9_offer_0 22 rfl rfl)
theorem dX9_offer_23 : decode cX9_offer 23 = .ok (.aload_n 0, 1) := dk_42 (dk_at dksX9_offer_0 23 rfl rfl)
theorem dX9_offer_24 : decode cX9_offer 24 = .ok (.iload_n 1, 1) := dk_27 (dk_at dksX9_offer_1 0 rfl rfl)
theorem dX9_offer_25 : decode cX9_offer 25 = .ok (.invokevirtual 426, 3) := dk_182 1 170 (dk_at dksX9_offer_1 1 rfl rfl)
theorem dX9_offer_28 : decode cX9_offer 28 = .ok (.istore_n 3, 1) := dk_62 (dk_at dksX9_offer_1 4 rfl rfl)
theorem dX9_offer_29 : decode cX9_offer 29 = .ok (.iload_n 3, 1) := dk_29 (dk_at dksX9_offer_1 5 rfl rfl)
theorem dX9_offer_30 : decode cX9_offer 30 = .ok (.ifCond .ge 18, 3) := dk_156 0 18 (dk_at dksX9_offer_1 6 rfl rfl)
theorem dX9_offer_33 : decode cX9_offer 33 = .ok (.aload_n 0, 1) := dk_42 (dk_at dksX9_offer_1 9 rfl rfl)
theorem dX9_offer_34 : decode cX9_offer 34 = .ok (.getfield 11, 3) := dk_180 0 11 (dk_at dksX9_offer_1 10 rfl rfl)
theorem dX9_offer_37 : decode cX9_offer 37 = .ok (.bipush 6, 2) := dk_16 6 (dk_at dksX9_offer_1 13 rfl rfl)
theorem dX9_offer_39 : decode cX9_offer 39 = .ok (.iaload, 1) := dk_46 (dk_at dksX9_offer_1 15 rfl rfl)
theorem dX9_offer_40 : decode cX9_offer 40 = .ok (.bipush 20, 2) := dk_16 20 (dk_at dksX9_offer_1 16 rfl rfl)
theorem dX9_offer_42 : decode cX9_offer 42 = .ok (.if_icmp .ne 6, 3) := dk_160 0 6 (dk_at dksX9_offer_1 18 rfl rfl)
theorem dX9_offer_45 : decode cX9_offer 45 = .ok (.bipush (-4), 2) := dk_16 252 (dk_at dksX9_offer_1 21 rfl rfl)
theorem dX9_offer_47 : decode cX9_offer 47 = .ok (.ireturn, 1) := dk_172 (dk_at dksX9_offer_1 23 rfl rfl)
theorem dX9_offer_48 : decode cX9_offer 48 = .ok (.iload_n 3, 1) := dk_29 (dk_at dksX9_offer_2 0 rfl rfl)
theorem dX9_offer_49 : decode cX9_offer 49 = .ok (.ifCond .ge 8, 3) := dk_156 0 8 (dk_at dksX9_offer_2 1 rfl rfl)
theorem dX9_offer_52 : decode cX9_offer 52 = .ok (.bipush (-5), 2) := dk_16 251 (dk_at dksX9_offer_2 4 rfl rfl)
theorem dX9_offer_54 : decode cX9_offer 54 = .ok (.goto 16, 3) := dk_167 0 16 (dk_at dksX9_offer_2 6 rfl rfl)
theorem dX9_offer_57 : decode cX9_offer 57 = .ok (.aload_n 0, 1) := dk_42 (dk_at dksX9_offer_2 9 rfl rfl)
theorem dX9_offer_58 : decode cX9_offer 58 = .ok (.getfield 11, 3) := dk_180 0 11 (dk_at dksX9_offer_2 10 rfl rfl)
theorem dX9_offer_61 : decode cX9_offer 61 = .ok (.bipush 110, 2) := dk_16 110 (dk_at dksX9_offer_2 13 rfl rfl)
theorem dX9_offer_63 : decode cX9_offer 63 = .ok (.iconst 2, 1) := dk_5 (dk_at dksX9_offer_2 15 rfl rfl)
theorem dX9_offer_64 : decode cX9_offer 64 = .ok (.iload_n 3, 1) := dk_29 (dk_at dksX9_offer_2 16 rfl rfl)
theorem dX9_offer_65 : decode cX9_offer 65 = .ok (.imul, 1) := dk_104 (dk_at dksX9_offer_2 17 rfl rfl)
theorem dX9_offer_66 : decode cX9_offer 66 = .ok (.iadd, 1) := dk_96 (dk_at dksX9_offer_2 18 rfl rfl)
theorem dX9_offer_67 : decode cX9_offer 67 = .ok (.iconst 1, 1) := dk_4 (dk_at dksX9_offer_2 19 rfl rfl)
theorem dX9_offer_68 : decode cX9_offer 68 = .ok (.iadd, 1) := dk_96 (dk_at dksX9_offer_2 20 rfl rfl)
theorem dX9_offer_69 : decode cX9_offer 69 = .ok (.iaload, 1) := dk_46 (dk_at dksX9_offer_2 21 rfl rfl)
theorem dX9_offer_70 : decode cX9_offer 70 = .ok (.istore 4, 2) := dk_54 4 (dk_at dksX9_offer_2 22 rfl rfl)
theorem dX9_offer_72 : decode cX9_offer 72 = .ok (.iload_n 3, 1) := dk_29 (dk_at dksX9_offer_3 0 rfl rfl)
theorem dX9_offer_73 : decode cX9_offer 73 = .ok (.ifCond .ge 22, 3) := dk_156 0 22 (dk_at dksX9_offer_3 1 rfl rfl)
theorem dX9_offer_76 : decode cX9_offer 76 = .ok (.aload_n 0, 1) := dk_42 (dk_at dksX9_offer_3 4 rfl rfl)
theorem dX9_offer_77 : decode cX9_offer 77 = .ok (.getfield 11, 3) := dk_180 0 11 (dk_at dksX9_offer_3 5 rfl rfl)
theorem dX9_offer_80 : decode cX9_offer 80 = .ok (.bipush 6, 2) := dk_16 6 (dk_at dksX9_offer_3 8 rfl rfl)
theorem dX9_offer_82 : decode cX9_offer 82 = .ok (.iaload, 1) := dk_46 (dk_at dksX9_offer_3 10 rfl rfl)
theorem dX9_offer_83 : decode cX9_offer 83 = .ok (.istore_n 3, 1) := dk_62 (dk_at dksX9_offer_3 11 rfl rfl)
theorem dX9_offer_84 : decode cX9_offer 84 = .ok (.aload_n 0, 1) := dk_42 (dk_at dksX9_offer_3 12 rfl rfl)
theorem dX9_offer_85 : decode cX9_offer 85 = .ok (.getfield 11, 3) := dk_180 0 11 (dk_at dksX9_offer_3 13 rfl rfl)
theorem dX9_offer_88 : decode cX9_offer 88 = .ok (.bipush 6, 2) := dk_16 6 (dk_at dksX9_offer_3 16 rfl rfl)
theorem dX9_offer_90 : decode cX9_offer 90 = .ok (.dup2, 1) := dk_92 (dk_at dksX9_offer_3 18 rfl rfl)
theorem dX9_offer_91 : decode cX9_offer 91 = .ok (.iaload, 1) := dk_46 (dk_at dksX9_offer_3 19 rfl rfl)
theorem dX9_offer_92 : decode cX9_offer 92 = .ok (.iconst 1, 1) := dk_4 (dk_at dksX9_offer_3 20 rfl rfl)
theorem dX9_offer_93 : decode cX9_offer 93 = .ok (.iadd, 1) := dk_96 (dk_at dksX9_offer_3 21 rfl rfl)
theorem dX9_offer_94 : decode cX9_offer 94 = .ok (.iastore, 1) := dk_79 (dk_at dksX9_offer_3 22 rfl rfl)
theorem dX9_offer_95 : decode cX9_offer 95 = .ok (.aload_n 0, 1) := dk_42 (dk_at dksX9_offer_3 23 rfl rfl)
theorem dX9_offer_96 : decode cX9_offer 96 = .ok (.getfield 11, 3) := dk_180 0 11 (dk_at dksX9_offer_4 0 rfl rfl)
theorem dX9_offer_99 : decode cX9_offer 99 = .ok (.bipush 110, 2) := dk_16 110 (dk_at dksX9_offer_4 3 rfl rfl)
theorem dX9_offer_101 : decode cX9_offer 101 = .ok (.iconst 2, 1) := dk_5 (dk_at dksX9_offer_4 5 rfl rfl)
theorem dX9_offer_102 : decode cX9_offer 102 = .ok (.iload_n 3, 1) := dk_29 (dk_at dksX9_offer_4 6 rfl rfl)
theorem dX9_offer_103 : decode cX9_offer 103 = .ok (.imul, 1) := dk_104 (dk_at dksX9_offer_4 7 rfl rfl)
theorem dX9_offer_104 : decode cX9_offer 104 = .ok (.iadd, 1) := dk_96 (dk_at dksX9_offer_4 8 rfl rfl)
theorem dX9_offer_105 : decode cX9_offer 105 = .ok (.iload_n 1, 1) := dk_27 (dk_at dksX9_offer_4 9 rfl rfl)
theorem dX9_offer_106 : decode cX9_offer 106 = .ok (.iastore, 1) := dk_79 (dk_at dksX9_offer_4 10 rfl rfl)
theorem dX9_offer_107 : decode cX9_offer 107 = .ok (.aload_n 0, 1) := dk_42 (dk_at dksX9_offer_4 11 rfl rfl)
theorem dX9_offer_108 : decode cX9_offer 108 = .ok (.getfield 11, 3) := dk_180 0 11 (dk_at dksX9_offer_4 12 rfl rfl)
theorem dX9_offer_111 : decode cX9_offer 111 = .ok (.bipush 110, 2) := dk_16 110 (dk_at dksX9_offer_4 15 rfl rfl)
theorem dX9_offer_113 : decode cX9_offer 113 = .ok (.iconst 2, 1) := dk_5 (dk_at dksX9_offer_4 17 rfl rfl)
theorem dX9_offer_114 : decode cX9_offer 114 = .ok (.iload_n 3, 1) := dk_29 (dk_at dksX9_offer_4 18 rfl rfl)
theorem dX9_offer_115 : decode cX9_offer 115 = .ok (.imul, 1) := dk_104 (dk_at dksX9_offer_4 19 rfl rfl)
theorem dX9_offer_116 : decode cX9_offer 116 = .ok (.iadd, 1) := dk_96 (dk_at dksX9_offer_4 20 rfl rfl)
theorem dX9_offer_117 : decode cX9_offer 117 = .ok (.iconst 1, 1) := dk_4 (dk_at dksX9_offer_4 21 rfl rfl)
theorem dX9_offer_118 : decode cX9_offer 118 = .ok (.iadd, 1) := dk_96 (dk_at dksX9_offer_4 22 rfl rfl)
theorem dX9_offer_119 : decode cX9_offer 119 = .ok (.iload_n 2, 1) := dk_28 (dk_at dksX9_offer_4 23 rfl rfl)
theorem dX9_offer_120 : decode cX9_offer 120 = .ok (.iastore, 1) := dk_79 (dk_at dksX9_offer_5 0 rfl rfl)
theorem dX9_offer_121 : decode cX9_offer 121 = .ok (.iload 4, 2) := dk_21 4 (dk_at dksX9_offer_5 1 rfl rfl)
theorem dX9_offer_123 : decode cX9_offer 123 = .ok (.ireturn, 1) := dk_172 (dk_at dksX9_offer_5 3 rfl rfl)
abbrev cX9_offerOf : ByteArray := prog_19_method_94_code
def yX9_offerOf : MethodName := ⟨RX9, "offerOf", "(I)I"⟩
def dkwX9_offerOf_1 : List UInt8 := [27, 160, 0, 5, 28, 172, 132, 2, 1, 167, 255, 225, 2, 172]
abbrev dktX9_offerOf_1 : List UInt8 := dkwX9_offerOf_1 ++ []
def dkwX9_offerOf_0 : List UInt8 := [3, 61, 28, 42, 180, 0, 11, 16, 6, 46, 162, 0, 26, 42, 180, 0, 11, 16, 110, 5, 28, 104, 96, 46]
abbrev dktX9_offerOf_0 : List UInt8 := dkwX9_offerOf_0 ++ dktX9_offerOf_1
theorem dksX9_offerOf_0 : cX9_offerOf.data.toList.drop 0 = dktX9_offerOf_0 := by decide +kernel
theorem dksX9_offerOf_1 : cX9_offerOf.data.toList.drop 24 = dktX9_offerOf_1 := dk_seg dksX9_offerOf_0 24 rfl rfl
theorem dX9_offerOf_0 : decode cX9_offerOf 0 = .ok (.iconst 0, 1) := dk_3 (dk_at dksX9_offerOf_0 0 rfl rfl)
theorem dX9_offerOf_1 : decode cX9_offerOf 1 = .ok (.istore_n 2, 1) := dk_61 (dk_at dksX9_offerOf_0 1 rfl rfl)
theorem dX9_offerOf_2 : decode cX9_offerOf 2 = .ok (.iload_n 2, 1) := dk_28 (dk_at dksX9_offerOf_0 2 rfl rfl)
theorem dX9_offerOf_3 : decode cX9_offerOf 3 = .ok (.aload_n 0, 1) := dk_42 (dk_at dksX9_offerOf_0 3 rfl rfl)
theorem dX9_offerOf_4 : decode cX9_offerOf 4 = .ok (.getfield 11, 3) := dk_180 0 11 (dk_at dksX9_offerOf_0 4 rfl rfl)
theorem dX9_offerOf_7 : decode cX9_offerOf 7 = .ok (.bipush 6, 2) := dk_16 6 (dk_at dksX9_offerOf_0 7 rfl rfl)
theorem dX9_offerOf_9 : decode cX9_offerOf 9 = .ok (.iaload, 1) := dk_46 (dk_at dksX9_offerOf_0 9 rfl rfl)
theorem dX9_offerOf_10 : decode cX9_offerOf 10 = .ok (.if_icmp .ge 26, 3) := dk_162 0 26 (dk_at dksX9_offerOf_0 10 rfl rfl)
theorem dX9_offerOf_13 : decode cX9_offerOf 13 = .ok (.aload_n 0, 1) := dk_42 (dk_at dksX9_offerOf_0 13 rfl rfl)
theorem dX9_offerOf_14 : decode cX9_offerOf 14 = .ok (.getfield 11, 3) := dk_180 0 11 (dk_at dksX9_offerOf_0 14 rfl rfl)
theorem dX9_offerOf_17 : decode cX9_offerOf 17 = .ok (.bipush 110, 2) := dk_16 110 (dk_at dksX9_offerOf_0 17 rfl rfl)
theorem dX9_offerOf_19 : decode cX9_offerOf 19 = .ok (.iconst 2, 1) := dk_5 (dk_at dksX9_offerOf_0 19 rfl rfl)
theorem dX9_offerOf_20 : decode cX9_offerOf 20 = .ok (.iload_n 2, 1) := dk_28 (dk_at dksX9_offerOf_0 20 rfl rfl)
theorem dX9_offerOf_21 : decode cX9_offerOf 21 = .ok (.imul, 1) := dk_104 (dk_at dksX9_offerOf_0 21 rfl rfl)
theorem dX9_offerOf_22 : decode cX9_offerOf 22 = .ok (.iadd, 1) := dk_96 (dk_at dksX9_offerOf_0 22 rfl rfl)
theorem dX9_offerOf_23 : decode cX9_offerOf 23 = .ok (.iaload, 1) := dk_46 (dk_at dksX9_offerOf_0 23 rfl rfl)
theorem dX9_offerOf_24 : decode cX9_offerOf 24 = .ok (.iload_n 1, 1) := dk_27 (dk_at dksX9_offerOf_1 0 rfl rfl)
theorem dX9_offerOf_25 : decode cX9_offerOf 25 = .ok (.if_icmp .ne 5, 3) := dk_160 0 5 (dk_at dksX9_offerOf_1 1 rfl rfl)
theorem dX9_offerOf_28 : decode cX9_offerOf 28 = .ok (.iload_n 2, 1) := dk_28 (dk_at dksX9_offerOf_1 4 rfl rfl)
theorem dX9_offerOf_29 : decode cX9_offerOf 29 = .ok (.ireturn, 1) := dk_172 (dk_at dksX9_offerOf_1 5 rfl rfl)
theorem dX9_offerOf_30 : decode cX9_offerOf 30 = .ok (.iinc 2 1, 3) := dk_132 2 1 (dk_at dksX9_offerOf_1 6 rfl rfl)
theorem dX9_offerOf_33 : decode cX9_offerOf 33 = .ok (.goto (-31), 3) := dk_167 255 225 (dk_at dksX9_offerOf_1 9 rfl rfl)
theorem dX9_offerOf_36 : decode cX9_offerOf 36 = .ok (.iconst (-1), 1) := dk_2 (dk_at dksX9_offerOf_1 12 rfl rfl)
theorem dX9_offerOf_37 : decode cX9_offerOf 37 = .ok (.ireturn, 1) := dk_172 (dk_at dksX9_offerOf_1 13 rfl rfl)
abbrev cX9_offered : ByteArray := prog_19_method_98_code
def yX9_offered : MethodName := ⟨RX9, "offered", "(II)I"⟩
def dkwX9_offered_3 : List UInt8 := [172, 132, 3, 1, 167, 255, 196, 16, 254, 172]
abbrev dktX9_offered_3 : List UInt8 := dkwX9_offered_3 ++ []
def dkwX9_offered_2 : List UInt8 := [5, 29, 104, 96, 46, 182, 1, 97, 167, 0, 16, 42, 180, 0, 11, 16, 110, 5, 29, 104, 96, 28, 96, 46]
abbrev dktX9_offered_2 : List UInt8 := dkwX9_offered_2 ++ dktX9_offered_3
def dkwX9_offered_1 : List UInt8 := [162, 0, 55, 42, 29, 182, 1, 178, 27, 160, 0, 40, 28, 5, 160, 0, 21, 42, 42, 180, 0, 11, 16, 110]
abbrev dktX9_offered_1 : List UInt8 := dkwX9_offered_1 ++ dktX9_offered_2
def dkwX9_offered_0 : List UInt8 := [28, 133, 9, 20, 1, 176, 184, 0, 93, 154, 0, 5, 2, 172, 3, 62, 29, 42, 180, 0, 11, 16, 6, 46]
abbrev dktX9_offered_0 : List UInt8 := dkwX9_offered_0 ++ dktX9_offered_1
theorem dksX9_offered_0 : cX9_offered.data.toList.drop 0 = dktX9_offered_0 := by decide +kernel
theorem dksX9_offered_1 : cX9_offered.data.toList.drop 24 = dktX9_offered_1 := dk_seg dksX9_offered_0 24 rfl rfl
theorem dksX9_offered_2 : cX9_offered.data.toList.drop 48 = dktX9_offered_2 := dk_seg dksX9_offered_1 24 rfl rfl
theorem dksX9_offered_3 : cX9_offered.data.toList.drop 72 = dktX9_offered_3 := dk_seg dksX9_offered_2 24 rfl rfl
theorem dX9_offered_0 : decode cX9_offered 0 = .ok (.iload_n 2, 1) := dk_28 (dk_at dksX9_offered_0 0 rfl rfl)
theorem dX9_offered_1 : decode cX9_offered 1 = .ok (.i2l, 1) := dk_133 (dk_at dksX9_offered_0 1 rfl rfl)
theorem dX9_offered_2 : decode cX9_offered 2 = .ok (.lconst 0, 1) := dk_9 (dk_at dksX9_offered_0 2 rfl rfl)
theorem dX9_offered_3 : decode cX9_offered 3 = .ok (.ldc2_w 432, 3) := dk_20 1 176 (dk_at dksX9_offered_0 3 rfl rfl)
theorem dX9_offered_6 : decode cX9_offered 6 = .ok (.invokestatic 93, 3) := dk_184 0 93 (dk_at dksX9_offered_0 6 rfl rfl)
theorem dX9_offered_9 : decode cX9_offered 9 = .ok (.ifCond .ne 5, 3) := dk_154 0 5 (dk_at dksX9_offered_0 9 rfl rfl)
theorem dX9_offered_12 : decode cX9_offered 12 = .ok (.iconst (-1), 1) := dk_2 (dk_at dksX9_offered_0 12 rfl rfl)
theorem dX9_offered_13 : decode cX9_offered 13 = .ok (.ireturn, 1) := dk_172 (dk_at dksX9_offered_0 13 rfl rfl)
theorem dX9_offered_14 : decode cX9_offered 14 = .ok (.iconst 0, 1) := dk_3 (dk_at dksX9_offered_0 14 rfl rfl)
theorem dX9_offered_15 : decode cX9_offered 15 = .ok (.istore_n 3, 1) := dk_62 (dk_at dksX9_offered_0 15 rfl rfl)
theorem dX9_offered_16 : decode cX9_offered 16 = .ok (.iload_n 3, 1) := dk_29 (dk_at dksX9_offered_0 16 rfl rfl)
theorem dX9_offered_17 : decode cX9_offered 17 = .ok (.aload_n 0, 1) := dk_42 (dk_at dksX9_offered_0 17 rfl rfl)
theorem dX9_offered_18 : decode cX9_offered 18 = .ok (.getfield 11, 3) := dk_180 0 11 (dk_at dksX9_offered_0 18 rfl rfl)
theorem dX9_offered_21 : decode cX9_offered 21 = .ok (.bipush 6, 2) := dk_16 6 (dk_at dksX9_offered_0 21 rfl rfl)
theorem dX9_offered_23 : decode cX9_offered 23 = .ok (.iaload, 1) := dk_46 (dk_at dksX9_offered_0 23 rfl rfl)
theorem dX9_offered_24 : decode cX9_offered 24 = .ok (.if_icmp .ge 55, 3) := dk_162 0 55 (dk_at dksX9_offered_1 0 rfl rfl)
theorem dX9_offered_27 : decode cX9_offered 27 = .ok (.aload_n 0, 1) := dk_42 (dk_at dksX9_offered_1 3 rfl rfl)
theorem dX9_offered_28 : decode cX9_offered 28 = .ok (.iload_n 3, 1) := dk_29 (dk_at dksX9_offered_1 4 rfl rfl)
theorem dX9_offered_29 : decode cX9_offered 29 = .ok (.invokevirtual 434, 3) := dk_182 1 178 (dk_at dksX9_offered_1 5 rfl rfl)
theorem dX9_offered_32 : decode cX9_offered 32 = .ok (.iload_n 1, 1) := dk_27 (dk_at dksX9_offered_1 8 rfl rfl)
theorem dX9_offered_33 : decode cX9_offered 33 = .ok (.if_icmp .ne 40, 3) := dk_160 0 40 (dk_at dksX9_offered_1 9 rfl rfl)
theorem dX9_offered_36 : decode cX9_offered 36 = .ok (.iload_n 2, 1) := dk_28 (dk_at dksX9_offered_1 12 rfl rfl)
theorem dX9_offered_37 : decode cX9_offered 37 = .ok (.iconst 2, 1) := dk_5 (dk_at dksX9_offered_1 13 rfl rfl)
theorem dX9_offered_38 : decode cX9_offered 38 = .ok (.if_icmp .ne 21, 3) := dk_160 0 21 (dk_at dksX9_offered_1 14 rfl rfl)
theorem dX9_offered_41 : decode cX9_offered 41 = .ok (.aload_n 0, 1) := dk_42 (dk_at dksX9_offered_1 17 rfl rfl)
theorem dX9_offered_42 : decode cX9_offered 42 = .ok (.aload_n 0, 1) := dk_42 (dk_at dksX9_offered_1 18 rfl rfl)
theorem dX9_offered_43 : decode cX9_offered 43 = .ok (.getfield 11, 3) := dk_180 0 11 (dk_at dksX9_offered_1 19 rfl rfl)
theorem dX9_offered_46 : decode cX9_offered 46 = .ok (.bipush 110, 2) := dk_16 110 (dk_at dksX9_offered_1 22 rfl rfl)
theorem dX9_offered_48 : decode cX9_offered 48 = .ok (.iconst 2, 1) := dk_5 (dk_at dksX9_offered_2 0 rfl rfl)
theorem dX9_offered_49 : decode cX9_offered 49 = .ok (.iload_n 3, 1) := dk_29 (dk_at dksX9_offered_2 1 rfl rfl)
theorem dX9_offered_50 : decode cX9_offered 50 = .ok (.imul, 1) := dk_104 (dk_at dksX9_offered_2 2 rfl rfl)
theorem dX9_offered_51 : decode cX9_offered 51 = .ok (.iadd, 1) := dk_96 (dk_at dksX9_offered_2 3 rfl rfl)
theorem dX9_offered_52 : decode cX9_offered 52 = .ok (.iaload, 1) := dk_46 (dk_at dksX9_offered_2 4 rfl rfl)
theorem dX9_offered_53 : decode cX9_offered 53 = .ok (.invokevirtual 353, 3) := dk_182 1 97 (dk_at dksX9_offered_2 5 rfl rfl)
theorem dX9_offered_56 : decode cX9_offered 56 = .ok (.goto 16, 3) := dk_167 0 16 (dk_at dksX9_offered_2 8 rfl rfl)
theorem dX9_offered_59 : decode cX9_offered 59 = .ok (.aload_n 0, 1) := dk_42 (dk_at dksX9_offered_2 11 rfl rfl)
theorem dX9_offered_60 : decode cX9_offered 60 = .ok (.getfield 11, 3) := dk_180 0 11 (dk_at dksX9_offered_2 12 rfl rfl)
theorem dX9_offered_63 : decode cX9_offered 63 = .ok (.bipush 110, 2) := dk_16 110 (dk_at dksX9_offered_2 15 rfl rfl)
theorem dX9_offered_65 : decode cX9_offered 65 = .ok (.iconst 2, 1) := dk_5 (dk_at dksX9_offered_2 17 rfl rfl)
theorem dX9_offered_66 : decode cX9_offered 66 = .ok (.iload_n 3, 1) := dk_29 (dk_at dksX9_offered_2 18 rfl rfl)
theorem dX9_offered_67 : decode cX9_offered 67 = .ok (.imul, 1) := dk_104 (dk_at dksX9_offered_2 19 rfl rfl)
theorem dX9_offered_68 : decode cX9_offered 68 = .ok (.iadd, 1) := dk_96 (dk_at dksX9_offered_2 20 rfl rfl)
theorem dX9_offered_69 : decode cX9_offered 69 = .ok (.iload_n 2, 1) := dk_28 (dk_at dksX9_offered_2 21 rfl rfl)
theorem dX9_offered_70 : decode cX9_offered 70 = .ok (.iadd, 1) := dk_96 (dk_at dksX9_offered_2 22 rfl rfl)
theorem dX9_offered_71 : decode cX9_offered 71 = .ok (.iaload, 1) := dk_46 (dk_at dksX9_offered_2 23 rfl rfl)
theorem dX9_offered_72 : decode cX9_offered 72 = .ok (.ireturn, 1) := dk_172 (dk_at dksX9_offered_3 0 rfl rfl)
theorem dX9_offered_73 : decode cX9_offered 73 = .ok (.iinc 3 1, 3) := dk_132 3 1 (dk_at dksX9_offered_3 1 rfl rfl)
theorem dX9_offered_76 : decode cX9_offered 76 = .ok (.goto (-60), 3) := dk_167 255 196 (dk_at dksX9_offered_3 4 rfl rfl)
theorem dX9_offered_79 : decode cX9_offered 79 = .ok (.bipush (-2), 2) := dk_16 254 (dk_at dksX9_offered_3 7 rfl rfl)
theorem dX9_offered_81 : decode cX9_offered 81 = .ok (.ireturn, 1) := dk_172 (dk_at dksX9_offered_3 9 rfl rfl)
abbrev cX9_place : ByteArray := prog_19_method_97_code
def yX9_place : MethodName := ⟨RX9, "place", "(I)I"⟩
def dkwX9_place_1 : List UInt8 := [153, 0, 7, 4, 167, 0, 4, 3, 96, 61, 132, 3, 1, 167, 255, 225, 28, 172]
abbrev dktX9_place_1 : List UInt8 := dkwX9_place_1 ++ []
def dkwX9_place_0 : List UInt8 := [3, 61, 3, 62, 29, 42, 180, 0, 11, 16, 6, 46, 162, 0, 26, 28, 42, 29, 27, 182, 1, 173]
abbrev dktX9_place_0 : List UInt8 := dkwX9_place_0 ++ dktX9_place_1
theorem dksX9_place_0 : cX9_place.data.toList.drop 0 = dktX9_place_0 := by decide +kernel
theorem dksX9_place_1 : cX9_place.data.toList.drop 22 = dktX9_place_1 := dk_seg dksX9_place_0 22 rfl rfl
theorem dX9_place_0 : decode cX9_place 0 = .ok (.iconst 0, 1) := dk_3 (dk_at dksX9_place_0 0 rfl rfl)
theorem dX9_place_1 : decode cX9_place 1 = .ok (.istore_n 2, 1) := dk_61 (dk_at dksX9_place_0 1 rfl rfl)
theorem dX9_place_2 : decode cX9_place 2 = .ok (.iconst 0, 1) := dk_3 (dk_at dksX9_place_0 2 rfl rfl)
theorem dX9_place_3 : decode cX9_place 3 = .ok (.istore_n 3, 1) := dk_62 (dk_at dksX9_place_0 3 rfl rfl)
theorem dX9_place_4 : decode cX9_place 4 = .ok (.iload_n 3, 1) := dk_29 (dk_at dksX9_place_0 4 rfl rfl)
theorem dX9_place_5 : decode cX9_place 5 = .ok (.aload_n 0, 1) := dk_42 (dk_at dksX9_place_0 5 rfl rfl)
theorem dX9_place_6 : decode cX9_place 6 = .ok (.getfield 11, 3) := dk_180 0 11 (dk_at dksX9_place_0 6 rfl rfl)
theorem dX9_place_9 : decode cX9_place 9 = .ok (.bipush 6, 2) := dk_16 6 (dk_at dksX9_place_0 9 rfl rfl)
theorem dX9_place_11 : decode cX9_place 11 = .ok (.iaload, 1) := dk_46 (dk_at dksX9_place_0 11 rfl rfl)
theorem dX9_place_12 : decode cX9_place 12 = .ok (.if_icmp .ge 26, 3) := dk_162 0 26 (dk_at dksX9_place_0 12 rfl rfl)
theorem dX9_place_15 : decode cX9_place 15 = .ok (.iload_n 2, 1) := dk_28 (dk_at dksX9_place_0 15 rfl rfl)
theorem dX9_place_16 : decode cX9_place 16 = .ok (.aload_n 0, 1) := dk_42 (dk_at dksX9_place_0 16 rfl rfl)
theorem dX9_place_17 : decode cX9_place 17 = .ok (.iload_n 3, 1) := dk_29 (dk_at dksX9_place_0 17 rfl rfl)
theorem dX9_place_18 : decode cX9_place 18 = .ok (.iload_n 1, 1) := dk_27 (dk_at dksX9_place_0 18 rfl rfl)
theorem dX9_place_19 : decode cX9_place 19 = .ok (.invokevirtual 429, 3) := dk_182 1 173 (dk_at dksX9_place_0 19 rfl rfl)
theorem dX9_place_22 : decode cX9_place 22 = .ok (.ifCond .eq 7, 3) := dk_153 0 7 (dk_at dksX9_place_1 0 rfl rfl)
theorem dX9_place_25 : decode cX9_place 25 = .ok (.iconst 1, 1) := dk_4 (dk_at dksX9_place_1 3 rfl rfl)
theorem dX9_place_26 : decode cX9_place 26 = .ok (.goto 4, 3) := dk_167 0 4 (dk_at dksX9_place_1 4 rfl rfl)
theorem dX9_place_29 : decode cX9_place 29 = .ok (.iconst 0, 1) := dk_3 (dk_at dksX9_place_1 7 rfl rfl)
theorem dX9_place_30 : decode cX9_place 30 = .ok (.iadd, 1) := dk_96 (dk_at dksX9_place_1 8 rfl rfl)
theorem dX9_place_31 : decode cX9_place 31 = .ok (.istore_n 2, 1) := dk_61 (dk_at dksX9_place_1 9 rfl rfl)
theorem dX9_place_32 : decode cX9_place 32 = .ok (.iinc 3 1, 3) := dk_132 3 1 (dk_at dksX9_place_1 10 rfl rfl)
theorem dX9_place_35 : decode cX9_place 35 = .ok (.goto (-31), 3) := dk_167 255 225 (dk_at dksX9_place_1 13 rfl rfl)
theorem dX9_place_38 : decode cX9_place 38 = .ok (.iload_n 2, 1) := dk_28 (dk_at dksX9_place_1 16 rfl rfl)
theorem dX9_place_39 : decode cX9_place 39 = .ok (.ireturn, 1) := dk_172 (dk_at dksX9_place_1 17 rfl rfl)
abbrev cX9_isAhead : ByteArray := prog_19_method_96_code
def yX9_isAhead : MethodName := ⟨RX9, "isAhead", "(II)Z"⟩
def dkwX9_isAhead_2 : List UInt8 := [104, 96, 46, 42, 180, 0, 11, 16, 110, 5, 28, 104, 96, 46, 162, 0, 7, 4, 167, 0, 4, 3, 172]
abbrev dktX9_isAhead_2 : List UInt8 := dkwX9_isAhead_2 ++ []
def dkwX9_isAhead_1 : List UInt8 := [104, 96, 46, 182, 1, 97, 100, 62, 29, 155, 0, 32, 29, 154, 0, 32, 42, 180, 0, 11, 16, 110, 5, 27]
abbrev dktX9_isAhead_1 : List UInt8 := dkwX9_isAhead_1 ++ dktX9_isAhead_2
def dkwX9_isAhead_0 : List UInt8 := [42, 42, 180, 0, 11, 16, 110, 5, 27, 104, 96, 46, 182, 1, 97, 42, 42, 180, 0, 11, 16, 110, 5, 28]
abbrev dktX9_isAhead_0 : List UInt8 := dkwX9_isAhead_0 ++ dktX9_isAhead_1
theorem dksX9_isAhead_0 : cX9_isAhead.data.toList.drop 0 = dktX9_isAhead_0 := by decide +kernel
theorem dksX9_isAhead_1 : cX9_isAhead.data.toList.drop 24 = dktX9_isAhead_1 := dk_seg dksX9_isAhead_0 24 rfl rfl
theorem dksX9_isAhead_2 : cX9_isAhead.data.toList.drop 48 = dktX9_isAhead_2 := dk_seg dksX9_isAhead_1 24 rfl rfl
theorem dX9_isAhead_0 : decode cX9_isAhead 0 = .ok (.aload_n 0, 1) := dk_42 (dk_at dksX9_isAhead_0 0 rfl rfl)
theorem dX9_isAhead_1 : decode cX9_isAhead 1 = .ok (.aload_n 0, 1) := dk_42 (dk_at dksX9_isAhead_0 1 rfl rfl)
theorem dX9_isAhead_2 : decode cX9_isAhead 2 = .ok (.getfield 11, 3) := dk_180 0 11 (dk_at dksX9_isAhead_0 2 rfl rfl)
theorem dX9_isAhead_5 : decode cX9_isAhead 5 = .ok (.bipush 110, 2) := dk_16 110 (dk_at dksX9_isAhead_0 5 rfl rfl)
theorem dX9_isAhead_7 : decode cX9_isAhead 7 = .ok (.iconst 2, 1) := dk_5 (dk_at dksX9_isAhead_0 7 rfl rfl)
theorem dX9_isAhead_8 : decode cX9_isAhead 8 = .ok (.iload_n 1, 1) := dk_27 (dk_at dksX9_isAhead_0 8 rfl rfl)
theorem dX9_isAhead_9 : decode cX9_isAhead 9 = .ok (.imul, 1) := dk_104 (dk_at dksX9_isAhead_0 9 rfl rfl)
theorem dX9_isAhead_10 : decode cX9_isAhead 10 = .ok (.iadd, 1) := dk_96 (dk_at dksX9_isAhead_0 10 rfl rfl)
theorem dX9_isAhead_11 : decode cX9_isAhead 11 = .ok (.iaload, 1) := dk_46 (dk_at dksX9_isAhead_0 11 rfl rfl)
theorem dX9_isAhead_12 : decode cX9_isAhead 12 = .ok (.invokevirtual 353, 3) := dk_182 1 97 (dk_at dksX9_isAhead_0 12 rfl rfl)
theorem dX9_isAhead_15 : decode cX9_isAhead 15 = .ok (.aload_n 0, 1) := dk_42 (dk_at dksX9_isAhead_0 15 rfl rfl)
theorem dX9_isAhead_16 : decode cX9_isAhead 16 = .ok (.aload_n 0, 1) := dk_42 (dk_at dksX9_isAhead_0 16 rfl rfl)
theorem dX9_isAhead_17 : decode cX9_isAhead 17 = .ok (.getfield 11, 3) := dk_180 0 11 (dk_at dksX9_isAhead_0 17 rfl rfl)
theorem dX9_isAhead_20 : decode cX9_isAhead 20 = .ok (.bipush 110, 2) := dk_16 110 (dk_at dksX9_isAhead_0 20 rfl rfl)
theorem dX9_isAhead_22 : decode cX9_isAhead 22 = .ok (.iconst 2, 1) := dk_5 (dk_at dksX9_isAhead_0 22 rfl rfl)
theorem dX9_isAhead_23 : decode cX9_isAhead 23 = .ok (.iload_n 2, 1) := dk_28 (dk_at dksX9_isAhead_0 23 rfl rfl)
theorem dX9_isAhead_24 : decode cX9_isAhead 24 = .ok (.imul, 1) := dk_104 (dk_at dksX9_isAhead_1 0 rfl rfl)
theorem dX9_isAhead_25 : decode cX9_isAhead 25 = .ok (.iadd, 1) := dk_96 (dk_at dksX9_isAhead_1 1 rfl rfl)
theorem dX9_isAhead_26 : decode cX9_isAhead 26 = .ok (.iaload, 1) := dk_46 (dk_at dksX9_isAhead_1 2 rfl rfl)
theorem dX9_isAhead_27 : decode cX9_isAhead 27 = .ok (.invokevirtual 353, 3) := dk_182 1 97 (dk_at dksX9_isAhead_1 3 rfl rfl)
theorem dX9_isAhead_30 : decode cX9_isAhead 30 = .ok (.isub, 1) := dk_100 (dk_at dksX9_isAhead_1 6 rfl rfl)
theorem dX9_isAhead_31 : decode cX9_isAhead 31 = .ok (.istore_n 3, 1) := dk_62 (dk_at dksX9_isAhead_1 7 rfl rfl)
theorem dX9_isAhead_32 : decode cX9_isAhead 32 = .ok (.iload_n 3, 1) := dk_29 (dk_at dksX9_isAhead_1 8 rfl rfl)
theorem dX9_isAhead_33 : decode cX9_isAhead 33 = .ok (.ifCond .lt 32, 3) := dk_155 0 32 (dk_at dksX9_isAhead_1 9 rfl rfl)
theorem dX9_isAhead_36 : decode cX9_isAhead 36 = .ok (.iload_n 3, 1) := dk_29 (dk_at dksX9_isAhead_1 12 rfl rfl)
theorem dX9_isAhead_37 : decode cX9_isAhead 37 = .ok (.ifCond .ne 32, 3) := dk_154 0 32 (dk_at dksX9_isAhead_1 13 rfl rfl)
theorem dX9_isAhead_40 : decode cX9_isAhead 40 = .ok (.aload_n 0, 1) := dk_42 (dk_at dksX9_isAhead_1 16 rfl rfl)
theorem dX9_isAhead_41 : decode cX9_isAhead 41 = .ok (.getfield 11, 3) := dk_180 0 11 (dk_at dksX9_isAhead_1 17 rfl rfl)
theorem dX9_isAhead_44 : decode cX9_isAhead 44 = .ok (.bipush 110, 2) := dk_16 110 (dk_at dksX9_isAhead_1 20 rfl rfl)
theorem dX9_isAhead_46 : decode cX9_isAhead 46 = .ok (.iconst 2, 1) := dk_5 (dk_at dksX9_isAhead_1 22 rfl rfl)
theorem dX9_isAhead_47 : decode cX9_isAhead 47 = .ok (.iload_n 1, 1) := dk_27 (dk_at dksX9_isAhead_1 23 rfl rfl)
theorem dX9_isAhead_48 : decode cX9_isAhead 48 = .ok (.imul, 1) := dk_104 (dk_at dksX9_isAhead_2 0 rfl rfl)
theorem dX9_isAhead_49 : decode cX9_isAhead 49 = .ok (.iadd, 1) := dk_96 (dk_at dksX9_isAhead_2 1 rfl rfl)
theorem dX9_isAhead_50 : decode cX9_isAhead 50 = .ok (.iaload, 1) := dk_46 (dk_at dksX9_isAhead_2 2 rfl rfl)
theorem dX9_isAhead_51 : decode cX9_isAhead 51 = .ok (.aload_n 0, 1) := dk_42 (dk_at dksX9_isAhead_2 3 rfl rfl)
theorem dX9_isAhead_52 : decode cX9_isAhead 52 = .ok (.getfield 11, 3) := dk_180 0 11 (dk_at dksX9_isAhead_2 4 rfl rfl)
theorem dX9_isAhead_55 : decode cX9_isAhead 55 = .ok (.bipush 110, 2) := dk_16 110 (dk_at dksX9_isAhead_2 7 rfl rfl)
theorem dX9_isAhead_57 : decode cX9_isAhead 57 = .ok (.iconst 2, 1) := dk_5 (dk_at dksX9_isAhead_2 9 rfl rfl)
theorem dX9_isAhead_58 : decode cX9_isAhead 58 = .ok (.iload_n 2, 1) := dk_28 (dk_at dksX9_isAhead_2 10 rfl rfl)
theorem dX9_isAhead_59 : decode cX9_isAhead 59 = .ok (.imul, 1) := dk_104 (dk_at dksX9_isAhead_2 11 rfl rfl)
theorem dX9_isAhead_60 : decode cX9_isAhead 60 = .ok (.iadd, 1) := dk_96 (dk_at dksX9_isAhead_2 12 rfl rfl)
theorem dX9_isAhead_61 : decode cX9_isAhead 61 = .ok (.iaload, 1) := dk_46 (dk_at dksX9_isAhead_2 13 rfl rfl)
theorem dX9_isAhead_62 : decode cX9_isAhead 62 = .ok (.if_icmp .ge 7, 3) := dk_162 0 7 (dk_at dksX9_isAhead_2 14 rfl rfl)
theorem dX9_isAhead_65 : decode cX9_isAhead 65 = .ok (.iconst 1, 1) := dk_4 (dk_at dksX9_isAhead_2 17 rfl rfl)
theorem dX9_isAhead_66 : decode cX9_isAhead 66 = .ok (.goto 4, 3) := dk_167 0 4 (dk_at dksX9_isAhead_2 18 rfl rfl)
theorem dX9_isAhead_69 : decode cX9_isAhead 69 = .ok (.iconst 0, 1) := dk_3 (dk_at dksX9_isAhead_2 21 rfl rfl)
theorem dX9_isAhead_70 : decode cX9_isAhead 70 = .ok (.ireturn, 1) := dk_172 (dk_at dksX9_isAhead_2 22 rfl rfl)
abbrev cX9_upTo : ByteArray := prog_19_method_99_code
def yX9_upTo : MethodName := ⟨RX9, "upTo", "(I)I"⟩
def dkwX9_upTo_3 : List UInt8 := [104, 96, 46, 172]
abbrev dktX9_upTo_3 : List UInt8 := dkwX9_upTo_3 ++ []
def dkwX9_upTo_2 : List UInt8 := [61, 132, 3, 1, 167, 255, 208, 28, 156, 0, 8, 16, 251, 167, 0, 14, 42, 180, 0, 11, 16, 110, 5, 28]
abbrev dktX9_upTo_2 : List UInt8 := dkwX9_upTo_2 ++ dktX9_upTo_3
def dkwX9_upTo_1 : List UInt8 := [104, 96, 46, 182, 1, 97, 27, 163, 0, 18, 28, 155, 0, 12, 42, 28, 29, 182, 1, 173, 153, 0, 5, 29]
abbrev dktX9_upTo_1 : List UInt8 := dkwX9_upTo_1 ++ dktX9_upTo_2
def dkwX9_upTo_0 : List UInt8 := [2, 61, 3, 62, 29, 42, 180, 0, 11, 16, 6, 46, 162, 0, 43, 42, 42, 180, 0, 11, 16, 110, 5, 29]
abbrev dktX9_upTo_0 : List UInt8 := dkwX9_upTo_0 ++ dktX9_upTo_1
theorem dksX9_upTo_0 : cX9_upTo.data.toList.drop 0 = dktX9_upTo_0 := by decide +kernel
theorem dksX9_upTo_1 : cX9_upTo.data.toList.drop 24 = dktX9_upTo_1 := dk_seg dksX9_upTo_0 24 rfl rfl
theorem dksX9_upTo_2 : cX9_upTo.data.toList.drop 48 = dktX9_upTo_2 := dk_seg dksX9_upTo_1 24 rfl rfl
theorem dksX9_upTo_3 : cX9_upTo.data.toList.drop 72 = dktX9_upTo_3 := dk_seg dksX9_upTo_2 24 rfl rfl
theorem dX9_upTo_0 : decode cX9_upTo 0 = .ok (.iconst (-1), 1) := dk_2 (dk_at dksX9_upTo_0 0 rfl rfl)
theorem dX9_upTo_1 : decode cX9_upTo 1 = .ok (.istore_n 2, 1) := dk_61 (dk_at dksX9_upTo_0 1 rfl rfl)
theorem dX9_upTo_2 : decode cX9_upTo 2 = .ok (.iconst 0, 1) := dk_3 (dk_at dksX9_upTo_0 2 rfl rfl)
theorem dX9_upTo_3 : decode cX9_upTo 3 = .ok (.istore_n 3, 1) := dk_62 (dk_at dksX9_upTo_0 3 rfl rfl)
theorem dX9_upTo_4 : decode cX9_upTo 4 = .ok (.iload_n 3, 1) := dk_29 (dk_at dksX9_upTo_0 4 rfl rfl)
theorem dX9_upTo_5 : decode cX9_upTo 5 = .ok (.aload_n 0, 1) := dk_42 (dk_at dksX9_upTo_0 5 rfl rfl)
theorem dX9_upTo_6 : decode cX9_upTo 6 = .ok (.getfield 11, 3) := dk_180 0 11 (dk_at dksX9_upTo_0 6 rfl rfl)
theorem dX9_upTo_9 : decode cX9_upTo 9 = .ok (.bipush 6, 2) := dk_16 6 (dk_at dksX9_upTo_0 9 rfl rfl)
theorem dX9_upTo_11 : decode cX9_upTo 11 = .ok (.iaload, 1) := dk_46 (dk_at dksX9_upTo_0 11 rfl rfl)
theorem dX9_upTo_12 : decode cX9_upTo 12 = .ok (.if_icmp .ge 43, 3) := dk_162 0 43 (dk_at dksX9_upTo_0 12 rfl rfl)
theorem dX9_upTo_15 : decode cX9_upTo 15 = .ok (.aload_n 0, 1) := dk_42 (dk_at dksX9_upTo_0 15 rfl rfl)
theorem dX9_upTo_16 : decode cX9_upTo 16 = .ok (.aload_n 0, 1) := dk_42 (dk_at dksX9_upTo_0 16 rfl rfl)
theorem dX9_upTo_17 : decode cX9_upTo 17 = .ok (.getfield 11, 3) := dk_180 0 11 (dk_at dksX9_upTo_0 17 rfl rfl)
theorem dX9_upTo_20 : decode cX9_upTo 20 = .ok (.bipush 110, 2) := dk_16 110 (dk_at dksX9_upTo_0 20 rfl rfl)
theorem dX9_upTo_22 : decode cX9_upTo 22 = .ok (.iconst 2, 1) := dk_5 (dk_at dksX9_upTo_0 22 rfl rfl)
theorem dX9_upTo_23 : decode cX9_upTo 23 = .ok (.iload_n 3, 1) := dk_29 (dk_at dksX9_upTo_0 23 rfl rfl)
theorem dX9_upTo_24 : decode cX9_upTo 24 = .ok (.imul, 1) := dk_104 (dk_at dksX9_upTo_1 0 rfl rfl)
theorem dX9_upTo_25 : decode cX9_upTo 25 = .ok (.iadd, 1) := dk_96 (dk_at dksX9_upTo_1 1 rfl rfl)
theorem dX9_upTo_26 : decode cX9_upTo 26 = .ok (.iaload, 1) := dk_46 (dk_at dksX9_upTo_1 2 rfl rfl)
theorem dX9_upTo_27 : decode cX9_upTo 27 = .ok (.invokevirtual 353, 3) := dk_182 1 97 (dk_at dksX9_upTo_1 3 rfl rfl)
theorem dX9_upTo_30 : decode cX9_upTo 30 = .ok (.iload_n 1, 1) := dk_27 (dk_at dksX9_upTo_1 6 rfl rfl)
theorem dX9_upTo_31 : decode cX9_upTo 31 = .ok (.if_icmp .gt 18, 3) := dk_163 0 18 (dk_at dksX9_upTo_1 7 rfl rfl)
theorem dX9_upTo_34 : decode cX9_upTo 34 = .ok (.iload_n 2, 1) := dk_28 (dk_at dksX9_upTo_1 10 rfl rfl)
theorem dX9_upTo_35 : decode cX9_upTo 35 = .ok (.ifCond .lt 12, 3) := dk_155 0 12 (dk_at dksX9_upTo_1 11 rfl rfl)
theorem dX9_upTo_38 : decode cX9_upTo 38 = .ok (.aload_n 0, 1) := dk_42 (dk_at dksX9_upTo_1 14 rfl rfl)
theorem dX9_upTo_39 : decode cX9_upTo 39 = .ok (.iload_n 2, 1) := dk_28 (dk_at dksX9_upTo_1 15 rfl rfl)
theorem dX9_upTo_40 : decode cX9_upTo 40 = .ok (.iload_n 3, 1) := dk_29 (dk_at dksX9_upTo_1 16 rfl rfl)
theorem dX9_upTo_41 : decode cX9_upTo 41 = .ok (.invokevirtual 429, 3) := dk_182 1 173 (dk_at dksX9_upTo_1 17 rfl rfl)
theorem dX9_upTo_44 : decode cX9_upTo 44 = .ok (.ifCond .eq 5, 3) := dk_153 0 5 (dk_at dksX9_upTo_1 20 rfl rfl)
theorem dX9_upTo_47 : decode cX9_upTo 47 = .ok (.iload_n 3, 1) := dk_29 (dk_at dksX9_upTo_1 23 rfl rfl)
theorem dX9_upTo_48 : decode cX9_upTo 48 = .ok (.istore_n 2, 1) := dk_61 (dk_at dksX9_upTo_2 0 rfl rfl)
theorem dX9_upTo_49 : decode cX9_upTo 49 = .ok (.iinc 3 1, 3) := dk_132 3 1 (dk_at dksX9_upTo_2 1 rfl rfl)
theorem dX9_upTo_52 : decode cX9_upTo 52 = .ok (.goto (-48), 3) := dk_167 255 208 (dk_at dksX9_upTo_2 4 rfl rfl)
theorem dX9_upTo_55 : decode cX9_upTo 55 = .ok (.iload_n 2, 1) := dk_28 (dk_at dksX9_upTo_2 7 rfl rfl)
theorem dX9_upTo_56 : decode cX9_upTo 56 = .ok (.ifCond .ge 8, 3) := dk_156 0 8 (dk_at dksX9_upTo_2 8 rfl rfl)
theorem dX9_upTo_59 : decode cX9_upTo 59 = .ok (.bipush (-5), 2) := dk_16 251 (dk_at dksX9_upTo_2 11 rfl rfl)
theorem dX9_upTo_61 : decode cX9_upTo 61 = .ok (.goto 14, 3) := dk_167 0 14 (dk_at dksX9_upTo_2 13 rfl rfl)
theorem dX9_upTo_64 : decode cX9_upTo 64 = .ok (.aload_n 0, 1) := dk_42 (dk_at dksX9_upTo_2 16 rfl rfl)
theorem dX9_upTo_65 : decode cX9_upTo 65 = .ok (.getfield 11, 3) := dk_180 0 11 (dk_at dksX9_upTo_2 17 rfl rfl)
theorem dX9_upTo_68 : decode cX9_upTo 68 = .ok (.bipush 110, 2) := dk_16 110 (dk_at dksX9_upTo_2 20 rfl rfl)
theorem dX9_upTo_70 : decode cX9_upTo 70 = .ok (.iconst 2, 1) := dk_5 (dk_at dksX9_upTo_2 22 rfl rfl)
theorem dX9_upTo_71 : decode cX9_upTo 71 = .ok (.iload_n 2, 1) := dk_28 (dk_at dksX9_upTo_2 23 rfl rfl)
theorem dX9_upTo_72 : decode cX9_upTo 72 = .ok (.imul, 1) := dk_104 (dk_at dksX9_upTo_3 0 rfl rfl)
theorem dX9_upTo_73 : decode cX9_upTo 73 = .ok (.iadd, 1) := dk_96 (dk_at dksX9_upTo_3 1 rfl rfl)
theorem dX9_upTo_74 : decode cX9_upTo 74 = .ok (.iaload, 1) := dk_46 (dk_at dksX9_upTo_3 2 rfl rfl)
theorem dX9_upTo_75 : decode cX9_upTo 75 = .ok (.ireturn, 1) := dk_172 (dk_at dksX9_upTo_3 3 rfl rfl)
abbrev cX9_dearest : ByteArray := prog_19_method_101_code
def yX9_dearest : MethodName := ⟨RX9, "dearest", "()I"⟩
def dkwX9_dearest_3 : List UInt8 := [180, 0, 11, 16, 110, 5, 27, 104, 96, 46, 172]
abbrev dktX9_dearest_3 : List UInt8 := dkwX9_dearest_3 ++ []
def dkwX9_dearest_2 : List UInt8 := [182, 1, 173, 153, 0, 5, 28, 60, 132, 2, 1, 167, 255, 201, 27, 156, 0, 8, 16, 251, 167, 0, 14, 42]
abbrev dktX9_dearest_2 : List UInt8 := dkwX9_dearest_2 ++ dktX9_dearest_3
def dkwX9_dearest_1 : List UInt8 := [42, 27, 182, 1, 181, 163, 0, 25, 42, 28, 182, 1, 181, 42, 27, 182, 1, 181, 160, 0, 14, 42, 28, 27]
abbrev dktX9_dearest_1 : List UInt8 := dkwX9_dearest_1 ++ dktX9_dearest_2
def dkwX9_dearest_0 : List UInt8 := [2, 60, 3, 61, 28, 42, 180, 0, 11, 16, 6, 46, 162, 0, 50, 27, 155, 0, 38, 42, 28, 182, 1, 181]
abbrev dktX9_dearest_0 : List UInt8 := dkwX9_dearest_0 ++ dktX9_dearest_1
theorem dksX9_dearest_0 : cX9_dearest.data.toList.drop 0 = dktX9_dearest_0 := by decide +kernel
theorem dksX9_dearest_1 : cX9_dearest.data.toList.drop 24 = dktX9_dearest_1 := dk_seg dksX9_dearest_0 24 rfl rfl
theorem dksX9_dearest_2 : cX9_dearest.data.toList.drop 48 = dktX9_dearest_2 := dk_seg dksX9_dearest_1 24 rfl rfl
theorem dksX9_dearest_3 : cX9_dearest.data.toList.drop 72 = dktX9_dearest_3 := dk_seg dksX9_dearest_2 24 rfl rfl
theorem dX9_dearest_0 : decode cX9_dearest 0 = .ok (.iconst (-1), 1) := dk_2 (dk_at dksX9_dearest_0 0 rfl rfl)
theorem dX9_dearest_1 : decode cX9_dearest 1 = .ok (.istore_n 1, 1) := dk_60 (dk_at dksX9_dearest_0 1 rfl rfl)
theorem dX9_dearest_2 : decode cX9_dearest 2 = .ok (.iconst 0, 1) := dk_3 (dk_at dksX9_dearest_0 2 rfl rfl)
theorem dX9_dearest_3 : decode cX9_dearest 3 = .ok (.istore_n 2, 1) := dk_61 (dk_at dksX9_dearest_0 3 rfl rfl)
theorem dX9_dearest_4 : decode cX9_dearest 4 = .ok (.iload_n 2, 1) := dk_28 (dk_at dksX9_dearest_0 4 rfl rfl)
theorem dX9_dearest_5 : decode cX9_dearest 5 = .ok (.aload_n 0, 1) := dk_42 (dk_at dksX9_dearest_0 5 rfl rfl)
theorem dX9_dearest_6 : decode cX9_dearest 6 = .ok (.getfield 11, 3) := dk_180 0 11 (dk_at dksX9_dearest_0 6 rfl rfl)
theorem dX9_dearest_9 : decode cX9_dearest 9 = .ok (.bipush 6, 2) := dk_16 6 (dk_at dksX9_dearest_0 9 rfl rfl)
theorem dX9_dearest_11 : decode cX9_dearest 11 = .ok (.iaload, 1) := dk_46 (dk_at dksX9_dearest_0 11 rfl rfl)
theorem dX9_dearest_12 : decode cX9_dearest 12 = .ok (.if_icmp .ge 50, 3) := dk_162 0 50 (dk_at dksX9_dearest_0 12 rfl rfl)
theorem dX9_dearest_15 : decode cX9_dearest 15 = .ok (.iload_n 1, 1) := dk_27 (dk_at dksX9_dearest_0 15 rfl rfl)
theorem dX9_dearest_16 : decode cX9_dearest 16 = .ok (.ifCond .lt 38, 3) := dk_155 0 38 (dk_at dksX9_dearest_0 16 rfl rfl)
theorem dX9_dearest_19 : decode cX9_dearest 19 = .ok (.aload_n 0, 1) := dk_42 (dk_at dksX9_dearest_0 19 rfl rfl)
theorem dX9_dearest_20 : decode cX9_dearest 20 = .ok (.iload_n 2, 1) := dk_28 (dk_at dksX9_dearest_0 20 rfl rfl)
theorem dX9_dearest_21 : decode cX9_dearest 21 = .ok (.invokevirtual 437, 3) := dk_182 1 181 (dk_at dksX9_dearest_0 21 rfl rfl)
theorem dX9_dearest_24 : decode cX9_dearest 24 = .ok (.aload_n 0, 1) := dk_42 (dk_at dksX9_dearest_1 0 rfl rfl)
theorem dX9_dearest_25 : decode cX9_dearest 25 = .ok (.iload_n 1, 1) := dk_27 (dk_at dksX9_dearest_1 1 rfl rfl)
theorem dX9_dearest_26 : decode cX9_dearest 26 = .ok (.invokevirtual 437, 3) := dk_182 1 181 (dk_at dksX9_dearest_1 2 rfl rfl)
theorem dX9_dearest_29 : decode cX9_dearest 29 = .ok (.if_icmp .gt 25, 3) := dk_163 0 25 (dk_at dksX9_dearest_1 5 rfl rfl)
theorem dX9_dearest_32 : decode cX9_dearest 32 = .ok (.aload_n 0, 1) := dk_42 (dk_at dksX9_dearest_1 8 rfl rfl)
theorem dX9_dearest_33 : decode cX9_dearest 33 = .ok (.iload_n 2, 1) := dk_28 (dk_at dksX9_dearest_1 9 rfl rfl)
theorem dX9_dearest_34 : decode cX9_dearest 34 = .ok (.invokevirtual 437, 3) := dk_182 1 181 (dk_at dksX9_dearest_1 10 rfl rfl)
theorem dX9_dearest_37 : decode cX9_dearest 37 = .ok (.aload_n 0, 1) := dk_42 (dk_at dksX9_dearest_1 13 rfl rfl)
theorem dX9_dearest_38 : decode cX9_dearest 38 = .ok (.iload_n 1, 1) := dk_27 (dk_at dksX9_dearest_1 14 rfl rfl)
theorem dX9_dearest_39 : decode cX9_dearest 39 = .ok (.invokevirtual 437, 3) := dk_182 1 181 (dk_at dksX9_dearest_1 15 rfl rfl)
theorem dX9_dearest_42 : decode cX9_dearest 42 = .ok (.if_icmp .ne 14, 3) := dk_160 0 14 (dk_at dksX9_dearest_1 18 rfl rfl)
theorem dX9_dearest_45 : decode cX9_dearest 45 = .ok (.aload_n 0, 1) := dk_42 (dk_at dksX9_dearest_1 21 rfl rfl)
theorem dX9_dearest_46 : decode cX9_dearest 46 = .ok (.iload_n 2, 1) := dk_28 (dk_at dksX9_dearest_1 22 rfl rfl)
theorem dX9_dearest_47 : decode cX9_dearest 47 = .ok (.iload_n 1, 1) := dk_27 (dk_at dksX9_dearest_1 23 rfl rfl)
theorem dX9_dearest_48 : decode cX9_dearest 48 = .ok (.invokevirtual 429, 3) := dk_182 1 173 (dk_at dksX9_dearest_2 0 rfl rfl)
theorem dX9_dearest_51 : decode cX9_dearest 51 = .ok (.ifCond .eq 5, 3) := dk_153 0 5 (dk_at dksX9_dearest_2 3 rfl rfl)
theorem dX9_dearest_54 : decode cX9_dearest 54 = .ok (.iload_n 2, 1) := dk_28 (dk_at dksX9_dearest_2 6 rfl rfl)
theorem dX9_dearest_55 : decode cX9_dearest 55 = .ok (.istore_n 1, 1) := dk_60 (dk_at dksX9_dearest_2 7 rfl rfl)
theorem dX9_dearest_56 : decode cX9_dearest 56 = .ok (.iinc 2 1, 3) := dk_132 2 1 (dk_at dksX9_dearest_2 8 rfl rfl)
theorem dX9_dearest_59 : decode cX9_dearest 59 = .ok (.goto (-55), 3) := dk_167 255 201 (dk_at dksX9_dearest_2 11 rfl rfl)
theorem dX9_dearest_62 : decode cX9_dearest 62 = .ok (.iload_n 1, 1) := dk_27 (dk_at dksX9_dearest_2 14 rfl rfl)
theorem dX9_dearest_63 : decode cX9_dearest 63 = .ok (.ifCond .ge 8, 3) := dk_156 0 8 (dk_at dksX9_dearest_2 15 rfl rfl)
theorem dX9_dearest_66 : decode cX9_dearest 66 = .ok (.bipush (-5), 2) := dk_16 251 (dk_at dksX9_dearest_2 18 rfl rfl)
theorem dX9_dearest_68 : decode cX9_dearest 68 = .ok (.goto 14, 3) := dk_167 0 14 (dk_at dksX9_dearest_2 20 rfl rfl)
theorem dX9_dearest_71 : decode cX9_dearest 71 = .ok (.aload_n 0, 1) := dk_42 (dk_at dksX9_dearest_2 23 rfl rfl)
theorem dX9_dearest_72 : decode cX9_dearest 72 = .ok (.getfield 11, 3) := dk_180 0 11 (dk_at dksX9_dearest_3 0 rfl rfl)
theorem dX9_dearest_75 : decode cX9_dearest 75 = .ok (.bipush 110, 2) := dk_16 110 (dk_at dksX9_dearest_3 3 rfl rfl)
theorem dX9_dearest_77 : decode cX9_dearest 77 = .ok (.iconst 2, 1) := dk_5 (dk_at dksX9_dearest_3 5 rfl rfl)
theorem dX9_dearest_78 : decode cX9_dearest 78 = .ok (.iload_n 1, 1) := dk_27 (dk_at dksX9_dearest_3 6 rfl rfl)
theorem dX9_dearest_79 : decode cX9_dearest 79 = .ok (.imul, 1) := dk_104 (dk_at dksX9_dearest_3 7 rfl rfl)
theorem dX9_dearest_80 : decode cX9_dearest 80 = .ok (.iadd, 1) := dk_96 (dk_at dksX9_dearest_3 8 rfl rfl)
theorem dX9_dearest_81 : decode cX9_dearest 81 = .ok (.iaload, 1) := dk_46 (dk_at dksX9_dearest_3 9 rfl rfl)
theorem dX9_dearest_82 : decode cX9_dearest 82 = .ok (.ireturn, 1) := dk_172 (dk_at dksX9_dearest_3 10 rfl rfl)
abbrev cX9_gain : ByteArray := prog_19_method_100_code
def yX9_gain : MethodName := ⟨RX9, "gain", "(I)I"⟩
def dkwX9_gain_1 : List UInt8 := [46, 182, 1, 97, 100, 172]
abbrev dktX9_gain_1 : List UInt8 := dkwX9_gain_1 ++ []
def dkwX9_gain_0 : List UInt8 := [42, 180, 0, 11, 16, 110, 5, 27, 104, 96, 4, 96, 46, 42, 42, 180, 0, 11, 16, 110, 5, 27, 104, 96]
abbrev dktX9_gain_0 : List UInt8 := dkwX9_gain_0 ++ dktX9_gain_1
theorem dksX9_gain_0 : cX9_gain.data.toList.drop 0 = dktX9_gain_0 := by decide +kernel
theorem dksX9_gain_1 : cX9_gain.data.toList.drop 24 = dktX9_gain_1 := dk_seg dksX9_gain_0 24 rfl rfl
theorem dX9_gain_0 : decode cX9_gain 0 = .ok (.aload_n 0, 1) := dk_42 (dk_at dksX9_gain_0 0 rfl rfl)
theorem dX9_gain_1 : decode cX9_gain 1 = .ok (.getfield 11, 3) := dk_180 0 11 (dk_at dksX9_gain_0 1 rfl rfl)
theorem dX9_gain_4 : decode cX9_gain 4 = .ok (.bipush 110, 2) := dk_16 110 (dk_at dksX9_gain_0 4 rfl rfl)
theorem dX9_gain_6 : decode cX9_gain 6 = .ok (.iconst 2, 1) := dk_5 (dk_at dksX9_gain_0 6 rfl rfl)
theorem dX9_gain_7 : decode cX9_gain 7 = .ok (.iload_n 1, 1) := dk_27 (dk_at dksX9_gain_0 7 rfl rfl)
theorem dX9_gain_8 : decode cX9_gain 8 = .ok (.imul, 1) := dk_104 (dk_at dksX9_gain_0 8 rfl rfl)
theorem dX9_gain_9 : decode cX9_gain 9 = .ok (.iadd, 1) := dk_96 (dk_at dksX9_gain_0 9 rfl rfl)
theorem dX9_gain_10 : decode cX9_gain 10 = .ok (.iconst 1, 1) := dk_4 (dk_at dksX9_gain_0 10 rfl rfl)
theorem dX9_gain_11 : decode cX9_gain 11 = .ok (.iadd, 1) := dk_96 (dk_at dksX9_gain_0 11 rfl rfl)
theorem dX9_gain_12 : decode cX9_gain 12 = .ok (.iaload, 1) := dk_46 (dk_at dksX9_gain_0 12 rfl rfl)
theorem dX9_gain_13 : decode cX9_gain 13 = .ok (.aload_n 0, 1) := dk_42 (dk_at dksX9_gain_0 13 rfl rfl)
theorem dX9_gain_14 : decode cX9_gain 14 = .ok (.aload_n 0, 1) := dk_42 (dk_at dksX9_gain_0 14 rfl rfl)
theorem dX9_gain_15 : decode cX9_gain 15 = .ok (.getfield 11, 3) := dk_180 0 11 (dk_at dksX9_gain_0 15 rfl rfl)
theorem dX9_gain_18 : decode cX9_gain 18 = .ok (.bipush 110, 2) := dk_16 110 (dk_at dksX9_gain_0 18 rfl rfl)
theorem dX9_gain_20 : decode cX9_gain 20 = .ok (.iconst 2, 1) := dk_5 (dk_at dksX9_gain_0 20 rfl rfl)
theorem dX9_gain_21 : decode cX9_gain 21 = .ok (.iload_n 1, 1) := dk_27 (dk_at dksX9_gain_0 21 rfl rfl)
theorem dX9_gain_22 : decode cX9_gain 22 = .ok (.imul, 1) := dk_104 (dk_at dksX9_gain_0 22 rfl rfl)
theorem dX9_gain_23 : decode cX9_gain 23 = .ok (.iadd, 1) := dk_96 (dk_at dksX9_gain_0 23 rfl rfl)
theorem dX9_gain_24 : decode cX9_gain 24 = .ok (.iaload, 1) := dk_46 (dk_at dksX9_gain_1 0 rfl rfl)
theorem dX9_gain_25 : decode cX9_gain 25 = .ok (.invokevirtual 353, 3) := dk_182 1 97 (dk_at dksX9_gain_1 1 rfl rfl)
theorem dX9_gain_28 : decode cX9_gain 28 = .ok (.isub, 1) := dk_100 (dk_at dksX9_gain_1 4 rfl rfl)
theorem dX9_gain_29 : decode cX9_gain 29 = .ok (.ireturn, 1) := dk_172 (dk_at dksX9_gain_1 5 rfl rfl)
abbrev cX9_plan : ByteArray := prog_19_method_103_code
def yX9_plan : MethodName := ⟨RX9, "plan", "(III)I"⟩
def dkwX9_plan_5 : List UInt8 := [42, 180, 0, 11, 8, 92, 46, 4, 96, 79, 42, 180, 0, 11, 8, 46, 172]
abbrev dktX9_plan_5 : List UInt8 := dkwX9_plan_5 ++ []
def dkwX9_plan_4 : List UInt8 := [21, 4, 27, 79, 42, 180, 0, 11, 21, 4, 4, 96, 28, 79, 42, 180, 0, 11, 21, 4, 5, 96, 29, 79]
abbrev dktX9_plan_4 : List UInt8 := dkwX9_plan_4 ++ dktX9_plan_5
def dkwX9_plan_3 : List UInt8 := [160, 0, 6, 16, 252, 172, 16, 86, 6, 42, 180, 0, 11, 8, 46, 104, 96, 54, 4, 42, 180, 0, 11]
abbrev dktX9_plan_3 : List UInt8 := dkwX9_plan_3 ++ dktX9_plan_4
def dkwX9_plan_2 : List UInt8 := [154, 0, 5, 2, 172, 27, 29, 184, 1, 184, 154, 0, 6, 16, 254, 172, 42, 180, 0, 11, 8, 46, 16, 8]
abbrev dktX9_plan_2 : List UInt8 := dkwX9_plan_2 ++ dktX9_plan_3
def dkwX9_plan_1 : List UInt8 := [153, 0, 27, 27, 4, 160, 0, 14, 42, 28, 182, 0, 110, 154, 0, 16, 167, 0, 11, 42, 28, 182, 0, 124]
abbrev dktX9_plan_1 : List UInt8 := dkwX9_plan_1 ++ dktX9_plan_2
def dkwX9_plan_0 : List UInt8 := [27, 2, 160, 0, 12, 42, 180, 0, 11, 8, 3, 79, 3, 172, 27, 133, 9, 20, 1, 176, 184, 0, 93]
abbrev dktX9_plan_0 : List UInt8 := dkwX9_plan_0 ++ dktX9_plan_1
theorem dksX9_plan_0 : cX9_plan.data.toList.drop 0 = dktX9_plan_0 := by decide +kernel
theorem dksX9_plan_1 : cX9_plan.data.toList.drop 23 = dktX9_plan_1 := dk_seg dksX9_plan_0 23 rfl rfl
theorem dksX9_plan_2 : cX9_plan.data.toList.drop 47 = dktX9_plan_2 := dk_seg dksX9_plan_1 24 rfl rfl
theorem dksX9_plan_3 : cX9_plan.data.toList.drop 71 = dktX9_plan_3 := dk_seg dksX9_plan_2 24 rfl rfl
theorem dksX9_plan_4 : cX9_plan.data.toList.drop 94 = dktX9_plan_4 := dk_seg dksX9_plan_3 23 rfl rfl
theorem dksX9_plan_5 : cX9_plan.data.toList.drop 118 = dktX9_plan_5 := dk_seg dksX9_plan_4 24 rfl rfl
theorem dX9_plan_0 : decode cX9_plan 0 = .ok (.iload_n 1, 1) := dk_27 (dk_at dksX9_plan_0 0 rfl rfl)
theorem dX9_plan_1 : decode cX9_plan 1 = .ok (.iconst (-1), 1) := dk_2 (dk_at dksX9_plan_0 1 rfl rfl)
theorem dX9_plan_2 : decode cX9_plan 2 = .ok (.if_icmp .ne 12, 3) := dk_160 0 12 (dk_at dksX9_plan_0 2 rfl rfl)
theorem dX9_plan_5 : decode cX9_plan 5 = .ok (.aload_n 0, 1) := dk_42 (dk_at dksX9_plan_0 5 rfl rfl)
theorem dX9_plan_6 : decode cX9_plan 6 = .ok (.getfield 11, 3) := dk_180 0 11 (dk_at dksX9_plan_0 6 rfl rfl)
theorem dX9_plan_9 : decode cX9_plan 9 = .ok (.iconst 5, 1) := dk_8 (dk_at dksX9_plan_0 9 rfl rfl)
theorem dX9_plan_10 : decode cX9_plan 10 = .ok (.iconst 0, 1) := dk_3 (dk_at dksX9_plan_0 10 rfl rfl)
theorem dX9_plan_11 : decode cX9_plan 11 = .ok (.iastore, 1) := dk_79 (dk_at dksX9_plan_0 11 rfl rfl)
theorem dX9_plan_12 : decode cX9_plan 12 = .ok (.iconst 0, 1) := dk_3 (dk_at dksX9_plan_0 12 rfl rfl)
theorem dX9_plan_13 : decode cX9_plan 13 = .ok (.ireturn, 1) := dk_172 (dk_at dksX9_plan_0 13 rfl rfl)
theorem dX9_plan_14 : decode cX9_plan 14 = .ok (.iload_n 1, 1) := dk_27 (dk_at dksX9_plan_0 14 rfl rfl)
theorem dX9_plan_15 : decode cX9_plan 15 = .ok (.i2l, 1) := dk_133 (dk_at dksX9_plan_0 15 rfl rfl)
theorem dX9_plan_16 : decode cX9_plan 16 = .ok (.lconst 0, 1) := dk_9 (dk_at dksX9_plan_0 16 rfl rfl)
theorem dX9_plan_17 : decode cX9_plan 17 = .ok (.ldc2_w 432, 3) := dk_20 1 176 (dk_at dksX9_plan_0 17 rfl rfl)
theorem dX9_plan_20 : decode cX9_plan 20 = .ok (.invokestatic 93, 3) := dk_184 0 93 (dk_at dksX9_plan_0 20 rfl rfl)
theorem dX9_plan_23 : decode cX9_plan 23 = .ok (.ifCond .eq 27, 3) := dk_153 0 27 (dk_at dksX9_plan_1 0 rfl rfl)
theorem dX9_plan_26 : decode cX9_plan 26 = .ok (.iload_n 1, 1) := dk_27 (dk_at dksX9_plan_1 3 rfl rfl)
theorem dX9_plan_27 : decode cX9_plan 27 = .ok (.iconst 1, 1) := dk_4 (dk_at dksX9_plan_1 4 rfl rfl)
theorem dX9_plan_28 : decode cX9_plan 28 = .ok (.if_icmp .ne 14, 3) := dk_160 0 14 (dk_at dksX9_plan_1 5 rfl rfl)
theorem dX9_plan_31 : decode cX9_plan 31 = .ok (.aload_n 0, 1) := dk_42 (dk_at dksX9_plan_1 8 rfl rfl)
theorem dX9_plan_32 : decode cX9_plan 32 = .ok (.iload_n 2, 1) := dk_28 (dk_at dksX9_plan_1 9 rfl rfl)
theorem dX9_plan_33 : decode cX9_plan 33 = .ok (.invokevirtual 110, 3) := dk_182 0 110 (dk_at dksX9_plan_1 10 rfl rfl)
theorem dX9_plan_36 : decode cX9_plan 36 = .ok (.ifCond .ne 16, 3) := dk_154 0 16 (dk_at dksX9_plan_1 13 rfl rfl)
theorem dX9_plan_39 : decode cX9_plan 39 = .ok (.goto 11, 3) := dk_167 0 11 (dk_at dksX9_plan_1 16 rfl rfl)
theorem dX9_plan_42 : decode cX9_plan 42 = .ok (.aload_n 0, 1) := dk_42 (dk_at dksX9_plan_1 19 rfl rfl)
theorem dX9_plan_43 : decode cX9_plan 43 = .ok (.iload_n 2, 1) := dk_28 (dk_at dksX9_plan_1 20 rfl rfl)
theorem dX9_plan_44 : decode cX9_plan 44 = .ok (.invokevirtual 124, 3) := dk_182 0 124 (dk_at dksX9_plan_1 21 rfl rfl)
theorem dX9_plan_47 : decode cX9_plan 47 = .ok (.ifCond .ne 5, 3) := dk_154 0 5 (dk_at dksX9_plan_2 0 rfl rfl)
theorem dX9_plan_50 : decode cX9_plan 50 = .ok (.iconst (-1), 1) := dk_2 (dk_at dksX9_plan_2 3 rfl rfl)
theorem dX9_plan_51 : decode cX9_plan 51 = .ok (.ireturn, 1) := dk_172 (dk_at dksX9_plan_2 4 rfl rfl)
theorem dX9_plan_52 : decode cX9_plan 52 = .ok (.iload_n 1, 1) := dk_27 (dk_at dksX9_plan_2 5 rfl rfl)
theorem dX9_plan_53 : decode cX9_plan 53 = .ok (.iload_n 3, 1) := dk_29 (dk_at dksX9_plan_2 6 rfl rfl)
theorem dX9_plan_54 : decode cX9_plan 54 = .ok (.invokestatic 440, 3) := dk_184 1 184 (dk_at dksX9_plan_2 7 rfl rfl)
theorem dX9_plan_57 : decode cX9_plan 57 = .ok (.ifCond .ne 6, 3) := dk_154 0 6 (dk_at dksX9_plan_2 10 rfl rfl)
theorem dX9_plan_60 : decode cX9_plan 60 = .ok (.bipush (-2), 2) := dk_16 254 (dk_at dksX9_plan_2 13 rfl rfl)
theorem dX9_plan_62 : decode cX9_plan 62 = .ok (.ireturn, 1) := dk_172 (dk_at dksX9_plan_2 15 rfl rfl)
theorem dX9_plan_63 : decode cX9_plan 63 = .ok (.aload_n 0, 1) := dk_42 (dk_at dksX9_plan_2 16 rfl rfl)
theorem dX9_plan_64 : decode cX9_plan 64 = .ok (.getfield 11, 3) := dk_180 0 11 (dk_at dksX9_plan_2 17 rfl rfl)
theorem dX9_plan_67 : decode cX9_plan 67 = .ok (.iconst 5, 1) := dk_8 (dk_at dksX9_plan_2 20 rfl rfl)
theorem dX9_plan_68 : decode cX9_plan 68 = .ok (.iaload, 1) := dk_46 (dk_at dksX9_plan_2 21 rfl rfl)
theorem dX9_plan_69 : decode cX9_plan 69 = .ok (.bipush 8, 2) := dk_16 8 (dk_at dksX9_plan_2 22 rfl rfl)
theorem dX9_plan_71 : decode cX9_plan 71 = .ok (.if_icmp .ne 6, 3) := dk_160 0 6 (dk_at dksX9_plan_3 0 rfl rfl)
theorem dX9_plan_74 : decode cX9_plan 74 = .ok (.bipush (-4), 2) := dk_16 252 (dk_at dksX9_plan_3 3 rfl rfl)
theorem dX9_plan_76 : decode cX9_plan 76 = .ok (.ireturn, 1) := dk_172 (dk_at dksX9_plan_3 5 rfl rfl)
theorem dX9_plan_77 : decode cX9_plan 77 = .ok (.bipush 86, 2) := dk_16 86 (dk_at dksX9_plan_3 6 rfl rfl)
theorem dX9_plan_79 : decode cX9_plan 79 = .ok (.iconst 3, 1) := dk_6 (dk_at dksX9_plan_3 8 rfl rfl)
theorem dX9_plan_80 : decode cX9_plan 80 = .ok (.aload_n 0, 1) := dk_42 (dk_at dksX9_plan_3 9 rfl rfl)
theorem dX9_plan_81 : decode cX9_plan 81 = .ok (.getfield 11, 3) := dk_180 0 11 (dk_at dksX9_plan_3 10 rfl rfl)
theorem dX9_plan_84 : decode cX9_plan 84 = .ok (.iconst 5, 1) := dk_8 (dk_at dksX9_plan_3 13 rfl rfl)
theorem dX9_plan_85 : decode cX9_plan 85 = .ok (.iaload, 1) := dk_46 (dk_at dksX9_plan_3 14 rfl rfl)
theorem dX9_plan_86 : decode cX9_plan 86 = .ok (.imul, 1) := dk_104 (dk_at dksX9_plan_3 15 rfl rfl)
theorem dX9_plan_87 : decode cX9_plan 87 = .ok (.iadd, 1) := dk_96 (dk_at dksX9_plan_3 16 rfl rfl)
theorem dX9_plan_88 : decode cX9_plan 88 = .ok (.istore 4, 2) := dk_54 4 (dk_at dksX9_plan_3 17 rfl rfl)
theorem dX9_plan_90 : decode cX9_plan 90 = .ok (.aload_n 0, 1) := dk_42 (dk_at dksX9_plan_3 19 rfl rfl)
theorem dX9_plan_91 : decode cX9_plan 91 = .ok (.getfield 11, 3) := dk_180 0 11 (dk_at dksX9_plan_3 20 rfl rfl)
theorem dX9_plan_94 : decode cX9_plan 94 = .ok (.iload 4, 2) := dk_21 4 (dk_at dksX9_plan_4 0 rfl rfl)
theorem dX9_plan_96 : decode cX9_plan 96 = .ok (.iload_n 1, 1) := dk_27 (dk_at dksX9_plan_4 2 rfl rfl)
theorem dX9_plan_97 : decode cX9_plan 97 = .ok (.iastore, 1) := dk_79 (dk_at dksX9_plan_4 3 rfl rfl)
theorem dX9_plan_98 : decode cX9_plan 98 = .ok (.aload_n 0, 1) := dk_42 (dk_at dksX9_plan_4 4 rfl rfl)
theorem dX9_plan_99 : decode cX9_plan 99 = .ok (.getfield 11, 3) := dk_180 0 11 (dk_at dksX9_plan_4 5 rfl rfl)
theorem dX9_plan_102 : decode cX9_plan 102 = .ok (.iload 4, 2) := dk_21 4 (dk_at dksX9_plan_4 8 rfl rfl)
theorem dX9_plan_104 : decode cX9_plan 104 = .ok (.iconst 1, 1) := dk_4 (dk_at dksX9_plan_4 10 rfl rfl)
theorem dX9_plan_105 : decode cX9_plan 105 = .ok (.iadd, 1) := dk_96 (dk_at dksX9_plan_4 11 rfl rfl)
theorem dX9_plan_106 : decode cX9_plan 106 = .ok (.iload_n 2, 1) := dk_28 (dk_at dksX9_plan_4 12 rfl rfl)
theorem dX9_plan_107 : decode cX9_plan 107 = .ok (.iastore, 1) := dk_79 (dk_at dksX9_plan_4 13 rfl rfl)
theorem dX9_plan_108 : decode cX9_plan 108 = .ok (.aload_n 0, 1) := dk_42 (dk_at dksX9_plan_4 14 rfl rfl)
theorem dX9_plan_109 : decode cX9_plan 109 = .ok (.getfield 11, 3) := dk_180 0 11 (dk_at dksX9_plan_4 15 rfl rfl)
theorem dX9_plan_112 : decode cX9_plan 112 = .ok (.iload 4, 2) := dk_21 4 (dk_at dksX9_plan_4 18 rfl rfl)
theorem dX9_plan_114 : decode cX9_plan 114 = .ok (.iconst 2, 1) := dk_5 (dk_at dksX9_plan_4 20 rfl rfl)
theorem dX9_plan_115 : decode cX9_plan 115 = .ok (.iadd, 1) := dk_96 (dk_at dksX9_plan_4 21 rfl rfl)
theorem dX9_plan_116 : decode cX9_plan 116 = .ok (.iload_n 3, 1) := dk_29 (dk_at dksX9_plan_4 22 rfl rfl)
theorem dX9_plan_117 : decode cX9_plan 117 = .ok (.iastore, 1) := dk_79 (dk_at dksX9_plan_4 23 rfl rfl)
theorem dX9_plan_118 : decode cX9_plan 118 = .ok (.aload_n 0, 1) := dk_42 (dk_at dksX9_plan_5 0 rfl rfl)
theorem dX9_plan_119 : decode cX9_plan 119 = .ok (.getfield 11, 3) := dk_180 0 11 (dk_at dksX9_plan_5 1 rfl rfl)
theorem dX9_plan_122 : decode cX9_plan 122 = .ok (.iconst 5, 1) := dk_8 (dk_at dksX9_plan_5 4 rfl rfl)
theorem dX9_plan_123 : decode cX9_plan 123 = .ok (.dup2, 1) := dk_92 (dk_at dksX9_plan_5 5 rfl rfl)
theorem dX9_plan_124 : decode cX9_plan 124 = .ok (.iaload, 1) := dk_46 (dk_at dksX9_plan_5 6 rfl rfl)
theorem dX9_plan_125 : decode cX9_plan 125 = .ok (.iconst 1, 1) := dk_4 (dk_at dksX9_plan_5 7 rfl rfl)
theorem dX9_plan_126 : decode cX9_plan 126 = .ok (.iadd, 1) := dk_96 (dk_at dksX9_plan_5 8 rfl rfl)
theorem dX9_plan_127 : decode cX9_plan 127 = .ok (.iastore, 1) := dk_79 (dk_at dksX9_plan_5 9 rfl rfl)
theorem dX9_plan_128 : decode cX9_plan 128 = .ok (.aload_n 0, 1) := dk_42 (dk_at dksX9_plan_5 10 rfl rfl)
theorem dX9_plan_129 : decode cX9_plan 129 = .ok (.getfield 11, 3) := dk_180 0 11 (dk_at dksX9_plan_5 11 rfl rfl)
theorem dX9_plan_132 : decode cX9_plan 132 = .ok (.iconst 5, 1) := dk_8 (dk_at dksX9_plan_5 14 rfl rfl)
theorem dX9_plan_133 : decode cX9_plan 133 = .ok (.iaload, 1) := dk_46 (dk_at dksX9_plan_5 15 rfl rfl)
theorem dX9_plan_134 : decode cX9_plan 134 = .ok (.ireturn, 1) := dk_172 (dk_at dksX9_plan_5 16 rfl rfl)
abbrev cX9_isStep : ByteArray := prog_19_method_102_code
def yX9_isStep : MethodName := ⟨RX9, "isStep", "(II)Z"⟩
def dkwX9_isStep_1 : List UInt8 := [133, 9, 20, 0, 114, 184, 0, 93, 167, 0, 14, 27, 133, 20, 0, 127, 20, 0, 129, 184, 0, 93, 172]
abbrev dktX9_isStep_1 : List UInt8 := dkwX9_isStep_1 ++ []
def dkwX9_isStep_0 : List UInt8 := [26, 154, 0, 17, 27, 133, 20, 0, 116, 20, 0, 118, 184, 0, 93, 167, 0, 31, 26, 4, 160, 0, 15, 27]
abbrev dktX9_isStep_0 : List UInt8 := dkwX9_isStep_0 ++ dktX9_isStep_1
theorem dksX9_isStep_0 : cX9_isStep.data.toList.drop 0 = dktX9_isStep_0 := by decide +kernel
theorem dksX9_isStep_1 : cX9_isStep.data.toList.drop 24 = dktX9_isStep_1 := dk_seg dksX9_isStep_0 24 rfl rfl
theorem dX9_isStep_0 : decode cX9_isStep 0 = .ok (.iload_n 0, 1) := dk_26 (dk_at dksX9_isStep_0 0 rfl rfl)
theorem dX9_isStep_1 : decode cX9_isStep 1 = .ok (.ifCond .ne 17, 3) := dk_154 0 17 (dk_at dksX9_isStep_0 1 rfl rfl)
theorem dX9_isStep_4 : decode cX9_isStep 4 = .ok (.iload_n 1, 1) := dk_27 (dk_at dksX9_isStep_0 4 rfl rfl)
theorem dX9_isStep_5 : decode cX9_isStep 5 = .ok (.i2l, 1) := dk_133 (dk_at dksX9_isStep_0 5 rfl rfl)
theorem dX9_isStep_6 : decode cX9_isStep 6 = .ok (.ldc2_w 116, 3) := dk_20 0 116 (dk_at dksX9_isStep_0 6 rfl rfl)
theorem dX9_isStep_9 : decode cX9_isStep 9 = .ok (.ldc2_w 118, 3) := dk_20 0 118 (dk_at dksX9_isStep_0 9 rfl rfl)
theorem dX9_isStep_12 : decode cX9_isStep 12 = .ok (.invokestatic 93, 3) := dk_184 0 93 (dk_at dksX9_isStep_0 12 rfl rfl)
theorem dX9_isStep_15 : decode cX9_isStep 15 = .ok (.goto 31, 3) := dk_167 0 31 (dk_at dksX9_isStep_0 15 rfl rfl)
theorem dX9_isStep_18 : decode cX9_isStep 18 = .ok (.iload_n 0, 1) := dk_26 (dk_at dksX9_isStep_0 18 rfl rfl)
theorem dX9_isStep_19 : decode cX9_isStep 19 = .ok (.iconst 1, 1) := dk_4 (dk_at dksX9_isStep_0 19 rfl rfl)
theorem dX9_isStep_20 : decode cX9_isStep 20 = .ok (.if_icmp .ne 15, 3) := dk_160 0 15 (dk_at dksX9_isStep_0 20 rfl rfl)
theorem dX9_isStep_23 : decode cX9_isStep 23 = .ok (.iload_n 1, 1) := dk_27 (dk_at dksX9_isStep_0 23 rfl rfl)
theorem dX9_isStep_24 : decode cX9_isStep 24 = .ok (.i2l, 1) := dk_133 (dk_at dksX9_isStep_1 0 rfl rfl)
theorem dX9_isStep_25 : decode cX9_isStep 25 = .ok (.lconst 0, 1) := dk_9 (dk_at dksX9_isStep_1 1 rfl rfl)
theorem dX9_isStep_26 : decode cX9_isStep 26 = .ok (.ldc2_w 114, 3) := dk_20 0 114 (dk_at dksX9_isStep_1 2 rfl rfl)
theorem dX9_isStep_29 : decode cX9_isStep 29 = .ok (.invokestatic 93, 3) := dk_184 0 93 (dk_at dksX9_isStep_1 5 rfl rfl)
theorem dX9_isStep_32 : decode cX9_isStep 32 = .ok (.goto 14, 3) := dk_167 0 14 (dk_at dksX9_isStep_1 8 rfl rfl)
theorem dX9_isStep_35 : decode cX9_isStep 35 = .ok (.iload_n 1, 1) := dk_27 (dk_at dksX9_isStep_1 11 rfl rfl)
theorem dX9_isStep_36 : decode cX9_isStep 36 = .ok (.i2l, 1) := dk_133 (dk_at dksX9_isStep_1 12 rfl rfl)
theorem dX9_isStep_37 : decode cX9_isStep 37 = .ok (.ldc2_w 127, 3) := dk_20 0 127 (dk_at dksX9_isStep_1 13 rfl rfl)
theorem dX9_isStep_40 : decode cX9_isStep 40 = .ok (.ldc2_w 129, 3) := dk_20 0 129 (dk_at dksX9_isStep_1 16 rfl rfl)
theorem dX9_isStep_43 : decode cX9_isStep 43 = .ok (.invokestatic 93, 3) := dk_184 0 93 (dk_at dksX9_isStep_1 19 rfl rfl)
theorem dX9_isStep_46 : decode cX9_isStep 46 = .ok (.ireturn, 1) := dk_172 (dk_at dksX9_isStep_1 22 rfl rfl)
abbrev cX9_ends : ByteArray := prog_19_method_105_code
def yX9_ends : MethodName := ⟨RX9, "ends", "()I"⟩
def dkwX9_ends_3 : List UInt8 := [27, 172]
abbrev dktX9_ends_3 : List UInt8 := dkwX9_ends_3 ++ []
def dkwX9_ends_2 : List UInt8 := [27, 104, 96, 5, 96, 46, 182, 1, 187, 132, 1, 1, 167, 255, 202, 42, 182, 1, 144, 60, 42, 182, 1, 167]
abbrev dktX9_ends_2 : List UInt8 := dkwX9_ends_2 ++ dktX9_ends_3
def dkwX9_ends_1 : List UInt8 := [27, 104, 96, 46, 42, 180, 0, 18, 16, 86, 6, 27, 104, 96, 4, 96, 46, 42, 180, 0, 18, 16, 86, 6]
abbrev dktX9_ends_1 : List UInt8 := dkwX9_ends_1 ++ dktX9_ends_2
def dkwX9_ends_0 : List UInt8 := [42, 182, 1, 161, 3, 60, 27, 42, 180, 0, 18, 8, 46, 162, 0, 50, 42, 42, 180, 0, 18, 16, 86, 6]
abbrev dktX9_ends_0 : List UInt8 := dkwX9_ends_0 ++ dktX9_ends_1
theorem dksX9_ends_0 : cX9_ends.data.toList.drop 0 = dktX9_ends_0 := by decide +kernel
theorem dksX9_ends_1 : cX9_ends.data.toList.drop 24 = dktX9_ends_1 := dk_seg dksX9_ends_0 24 rfl rfl
theorem dksX9_ends_2 : cX9_ends.data.toList.drop 48 = dktX9_ends_2 := dk_seg dksX9_ends_1 24 rfl rfl
theorem dksX9_ends_3 : cX9_ends.data.toList.drop 72 = dktX9_ends_3 := dk_seg dksX9_ends_2 24 rfl rfl
theorem dX9_ends_0 : decode cX9_ends 0 = .ok (.aload_n 0, 1) := dk_42 (dk_at dksX9_ends_0 0 rfl rfl)
theorem dX9_ends_1 : decode cX9_ends 1 = .ok (.invokevirtual 417, 3) := dk_182 1 161 (dk_at dksX9_ends_0 1 rfl rfl)
theorem dX9_ends_4 : decode cX9_ends 4 = .ok (.iconst 0, 1) := dk_3 (dk_at dksX9_ends_0 4 rfl rfl)
theorem dX9_ends_5 : decode cX9_ends 5 = .ok (.istore_n 1, 1) := dk_60 (dk_at dksX9_ends_0 5 rfl rfl)
theorem dX9_ends_6 : decode cX9_ends 6 = .ok (.iload_n 1, 1) := dk_27 (dk_at dksX9_ends_0 6 rfl rfl)
theorem dX9_ends_7 : decode cX9_ends 7 = .ok (.aload_n 0, 1) := dk_42 (dk_at dksX9_ends_0 7 rfl rfl)
theorem dX9_ends_8 : decode cX9_ends 8 = .ok (.getfield 18, 3) := dk_180 0 18 (dk_at dksX9_ends_0 8 rfl rfl)
theorem dX9_ends_11 : decode cX9_ends 11 = .ok (.iconst 5, 1) := dk_8 (dk_at dksX9_ends_0 11 rfl rfl)
theorem dX9_ends_12 : decode cX9_ends 12 = .ok (.iaload, 1) := dk_46 (dk_at dksX9_ends_0 12 rfl rfl)
theorem dX9_ends_13 : decode cX9_ends 13 = .ok (.if_icmp .ge 50, 3) := dk_162 0 50 (dk_at dksX9_ends_0 13 rfl rfl)
theorem dX9_ends_16 : decode cX9_ends 16 = .ok (.aload_n 0, 1) := dk_42 (dk_at dksX9_ends_0 16 rfl rfl)
theorem dX9_ends_17 : decode cX9_ends 17 = .ok (.aload_n 0, 1) := dk_42 (dk_at dksX9_ends_0 17 rfl rfl)
theorem dX9_ends_18 : decode cX9_ends 18 = .ok (.getfield 18, 3) := dk_180 0 18 (dk_at dksX9_ends_0 18 rfl rfl)
theorem dX9_ends_21 : decode cX9_ends 21 = .ok (.bipush 86, 2) := dk_16 86 (dk_at dksX9_ends_0 21 rfl rfl)
theorem dX9_ends_23 : decode cX9_ends 23 = .ok (.iconst 3, 1) := dk_6 (dk_at dksX9_ends_0 23 rfl rfl)
theorem dX9_ends_24 : decode cX9_ends 24 = .ok (.iload_n 1, 1) := dk_27 (dk_at dksX9_ends_1 0 rfl rfl)
theorem dX9_ends_25 : decode cX9_ends 25 = .ok (.imul, 1) := dk_104 (dk_at dksX9_ends_1 1 rfl rfl)
theorem dX9_ends_26 : decode cX9_ends 26 = .ok (.iadd, 1) := dk_96 (dk_at dksX9_ends_1 2 rfl rfl)
theorem dX9_ends_27 : decode cX9_ends 27 = .ok (.iaload, 1) := dk_46 (dk_at dksX9_ends_1 3 rfl rfl)
theorem dX9_ends_28 : decode cX9_ends 28 = .ok (.aload_n 0, 1) := dk_42 (dk_at dksX9_ends_1 4 rfl rfl)
theorem dX9_ends_29 : decode cX9_ends 29 = .ok (.getfield 18, 3) := dk_180 0 18 (dk_at dksX9_ends_1 5 rfl rfl)
theorem dX9_ends_32 : decode cX9_ends 32 = .ok (.bipush 86, 2) := dk_16 86 (dk_at dksX9_ends_1 8 rfl rfl)
theorem dX9_ends_34 : decode cX9_ends 34 = .ok (.iconst 3, 1) := dk_6 (dk_at dksX9_ends_1 10 rfl rfl)
theorem dX9_ends_35 : decode cX9_ends 35 = .ok (.iload_n 1, 1) := dk_27 (dk_at dksX9_ends_1 11 rfl rfl)
theorem dX9_ends_36 : decode cX9_ends 36 = .ok (.imul, 1) := dk_104 (dk_at dksX9_ends_1 12 rfl rfl)
theorem dX9_ends_37 : decode cX9_ends 37 = .ok (.iadd, 1) := dk_96 (dk_at dksX9_ends_1 13 rfl rfl)
theorem dX9_ends_38 : decode cX9_ends 38 = .ok (.iconst 1, 1) := dk_4 (dk_at dksX9_ends_1 14 rfl rfl)
theorem dX9_ends_39 : decode cX9_ends 39 = .ok (.iadd, 1) := dk_96 (dk_at dksX9_ends_1 15 rfl rfl)
theorem dX9_ends_40 : decode cX9_ends 40 = .ok (.iaload, 1) := dk_46 (dk_at dksX9_ends_1 16 rfl rfl)
theorem dX9_ends_41 : decode cX9_ends 41 = .ok (.aload_n 0, 1) := dk_42 (dk_at dksX9_ends_1 17 rfl rfl)
theorem dX9_ends_42 : decode cX9_ends 42 = .ok (.getfield 18, 3) := dk_180 0 18 (dk_at dksX9_ends_1 18 rfl rfl)
theorem dX9_ends_45 : decode cX9_ends 45 = .ok (.bipush 86, 2) := dk_16 86 (dk_at dksX9_ends_1 21 rfl rfl)
theorem dX9_ends_47 : decode cX9_ends 47 = .ok (.iconst 3, 1) := dk_6 (dk_at dksX9_ends_1 23 rfl rfl)
theorem dX9_ends_48 : decode cX9_ends 48 = .ok (.iload_n 1, 1) := dk_27 (dk_at dksX9_ends_2 0 rfl rfl)
theorem dX9_ends_49 : decode cX9_ends 49 = .ok (.imul, 1) := dk_104 (dk_at dksX9_ends_2 1 rfl rfl)
theorem dX9_ends_50 : decode cX9_ends 50 = .ok (.iadd, 1) := dk_96 (dk_at dksX9_ends_2 2 rfl rfl)
theorem dX9_ends_51 : decode cX9_ends 51 = .ok (.iconst 2, 1) := dk_5 (dk_at dksX9_ends_2 3 rfl rfl)
theorem dX9_ends_52 : decode cX9_ends 52 = .ok (.iadd, 1) := dk_96 (dk_at dksX9_ends_2 4 rfl rfl)
theorem dX9_ends_53 : decode cX9_ends 53 = .ok (.iaload, 1) := dk_46 (dk_at dksX9_ends_2 5 rfl rfl)
theorem dX9_ends_54 : decode cX9_ends 54 = .ok (.invokevirtual 443, 3) := dk_182 1 187 (dk_at dksX9_ends_2 6 rfl rfl)
theorem dX9_ends_57 : decode cX9_ends 57 = .ok (.iinc 1 1, 3) := dk_132 1 1 (dk_at dksX9_ends_2 9 rfl rfl)
theorem dX9_ends_60 : decode cX9_ends 60 = .ok (.goto (-54), 3) := dk_167 255 202 (dk_at dksX9_ends_2 12 rfl rfl)
theorem dX9_ends_63 : decode cX9_ends 63 = .ok (.aload_n 0, 1) := dk_42 (dk_at dksX9_ends_2 15 rfl rfl)
theorem dX9_ends_64 : decode cX9_ends 64 = .ok (.invokevirtual 400, 3) := dk_182 1 144 (dk_at dksX9_ends_2 16 rfl rfl)
theorem dX9_ends_67 : decode cX9_ends 67 = .ok (.istore_n 1, 1) := dk_60 (dk_at dksX9_ends_2 19 rfl rfl)
theorem dX9_ends_68 : decode cX9_ends 68 = .ok (.aload_n 0, 1) := dk_42 (dk_at dksX9_ends_2 20 rfl rfl)
theorem dX9_ends_69 : decode cX9_ends 69 = .ok (.invokevirtual 423, 3) := dk_182 1 167 (dk_at dksX9_ends_2 21 rfl rfl)
theorem dX9_ends_72 : decode cX9_ends 72 = .ok (.iload_n 1, 1) := dk_27 (dk_at dksX9_ends_3 0 rfl rfl)
theorem dX9_ends_73 : decode cX9_ends 73 = .ok (.ireturn, 1) := dk_172 (dk_at dksX9_ends_3 1 rfl rfl)
abbrev cX9_goes : ByteArray := prog_19_method_104_code
def yX9_goes : MethodName := ⟨RX9, "goes", "(III)V"⟩
def dkwX9_goes_2 : List UInt8 := [154, 0, 7, 4, 167, 0, 4, 5, 96, 29, 79, 177]
abbrev dktX9_goes_2 : List UInt8 := dkwX9_goes_2 ++ []
def dkwX9_goes_1 : List UInt8 := [4, 159, 0, 34, 42, 28, 182, 0, 124, 153, 0, 26, 42, 180, 0, 11, 16, 12, 16, 7, 28, 104, 96, 27]
abbrev dktX9_goes_1 : List UInt8 := dkwX9_goes_1 ++ dktX9_goes_2
def dkwX9_goes_0 : List UInt8 := [27, 4, 160, 0, 21, 42, 28, 182, 0, 110, 153, 0, 13, 42, 180, 0, 11, 16, 7, 28, 96, 29, 79, 27]
abbrev dktX9_goes_0 : List UInt8 := dkwX9_goes_0 ++ dktX9_goes_1
theorem dksX9_goes_0 : cX9_goes.data.toList.drop 0 = dktX9_goes_0 := by decide +kernel
theorem dksX9_goes_1 : cX9_goes.data.toList.drop 24 = dktX9_goes_1 := dk_seg dksX9_goes_0 24 rfl rfl
theorem dksX9_goes_2 : cX9_goes.data.toList.drop 48 = dktX9_goes_2 := dk_seg dksX9_goes_1 24 rfl rfl
theorem dX9_goes_0 : decode cX9_goes 0 = .ok (.iload_n 1, 1) := dk_27 (dk_at dksX9_goes_0 0 rfl rfl)
theorem dX9_goes_1 : decode cX9_goes 1 = .ok (.iconst 1, 1) := dk_4 (dk_at dksX9_goes_0 1 rfl rfl)
theorem dX9_goes_2 : decode cX9_goes 2 = .ok (.if_icmp .ne 21, 3) := dk_160 0 21 (dk_at dksX9_goes_0 2 rfl rfl)
theorem dX9_goes_5 : decode cX9_goes 5 = .ok (.aload_n 0, 1) := dk_42 (dk_at dksX9_goes_0 5 rfl rfl)
theorem dX9_goes_6 : decode cX9_goes 6 = .ok (.iload_n 2, 1) := dk_28 (dk_at dksX9_goes_0 6 rfl rfl)
theorem dX9_goes_7 : decode cX9_goes 7 = .ok (.invokevirtual 110, 3) := dk_182 0 110 (dk_at dksX9_goes_0 7 rfl rfl)
theorem dX9_goes_10 : decode cX9_goes 10 = .ok (.ifCond .eq 13, 3) := dk_153 0 13 (dk_at dksX9_goes_0 10 rfl rfl)
theorem dX9_goes_13 : decode cX9_goes 13 = .ok (.aload_n 0, 1) := dk_42 (dk_at dksX9_goes_0 13 rfl rfl)
theorem dX9_goes_14 : decode cX9_goes 14 = .ok (.getfield 11, 3) := dk_180 0 11 (dk_at dksX9_goes_0 14 rfl rfl)
theorem dX9_goes_17 : decode cX9_goes 17 = .ok (.bipush 7, 2) := dk_16 7 (dk_at dksX9_goes_0 17 rfl rfl)
theorem dX9_goes_19 : decode cX9_goes 19 = .ok (.iload_n 2, 1) := dk_28 (dk_at dksX9_goes_0 19 rfl rfl)
theorem dX9_goes_20 : decode cX9_goes 20 = .ok (.iadd, 1) := dk_96 (dk_at dksX9_goes_0 20 rfl rfl)
theorem dX9_goes_21 : decode cX9_goes 21 = .ok (.iload_n 3, 1) := dk_29 (dk_at dksX9_goes_0 21 rfl rfl)
theorem dX9_goes_22 : decode cX9_goes 22 = .ok (.iastore, 1) := dk_79 (dk_at dksX9_goes_0 22 rfl rfl)
theorem dX9_goes_23 : decode cX9_goes 23 = .ok (.iload_n 1, 1) := dk_27 (dk_at dksX9_goes_0 23 rfl rfl)
theorem dX9_goes_24 : decode cX9_goes 24 = .ok (.iconst 1, 1) := dk_4 (dk_at dksX9_goes_1 0 rfl rfl)
theorem dX9_goes_25 : decode cX9_goes 25 = .ok (.if_icmp .eq 34, 3) := dk_159 0 34 (dk_at dksX9_goes_1 1 rfl rfl)
theorem dX9_goes_28 : decode cX9_goes 28 = .ok (.aload_n 0, 1) := dk_42 (dk_at dksX9_goes_1 4 rfl rfl)
theorem dX9_goes_29 : decode cX9_goes 29 = .ok (.iload_n 2, 1) := dk_28 (dk_at dksX9_goes_1 5 rfl rfl)
theorem dX9_goes_30 : decode cX9_goes 30 = .ok (.invokevirtual 124, 3) := dk_182 0 124 (dk_at dksX9_goes_1 6 rfl rfl)
theorem dX9_goes_33 : decode cX9_goes 33 = .ok (.ifCond .eq 26, 3) := dk_153 0 26 (dk_at dksX9_goes_1 9 rfl rfl)
theorem dX9_goes_36 : decode cX9_goes 36 = .ok (.aload_n 0, 1) := dk_42 (dk_at dksX9_goes_1 12 rfl rfl)
theorem dX9_goes_37 : decode cX9_goes 37 = .ok (.getfield 11, 3) := dk_180 0 11 (dk_at dksX9_goes_1 13 rfl rfl)
theorem dX9_goes_40 : decode cX9_goes 40 = .ok (.bipush 12, 2) := dk_16 12 (dk_at dksX9_goes_1 16 rfl rfl)
theorem dX9_goes_42 : decode cX9_goes 42 = .ok (.bipush 7, 2) := dk_16 7 (dk_at dksX9_goes_1 18 rfl rfl)
theorem dX9_goes_44 : decode cX9_goes 44 = .ok (.iload_n 2, 1) := dk_28 (dk_at dksX9_goes_1 20 rfl rfl)
theorem dX9_goes_45 : decode cX9_goes 45 = .ok (.imul, 1) := dk_104 (dk_at dksX9_goes_1 21 rfl rfl)
theorem dX9_goes_46 : decode cX9_goes 46 = .ok (.iadd, 1) := dk_96 (dk_at dksX9_goes_1 22 rfl rfl)
theorem dX9_goes_47 : decode cX9_goes 47 = .ok (.iload_n 1, 1) := dk_27 (dk_at dksX9_goes_1 23 rfl rfl)
theorem dX9_goes_48 : decode cX9_goes 48 = .ok (.ifCond .ne 7, 3) := dk_154 0 7 (dk_at dksX9_goes_2 0 rfl rfl)
theorem dX9_goes_51 : decode cX9_goes 51 = .ok (.iconst 1, 1) := dk_4 (dk_at dksX9_goes_2 3 rfl rfl)
theorem dX9_goes_52 : decode cX9_goes 52 = .ok (.goto 4, 3) := dk_167 0 4 (dk_at dksX9_goes_2 4 rfl rfl)
theorem dX9_goes_55 : decode cX9_goes 55 = .ok (.iconst 2, 1) := dk_5 (dk_at dksX9_goes_2 7 rfl rfl)
theorem dX9_goes_56 : decode cX9_goes 56 = .ok (.iadd, 1) := dk_96 (dk_at dksX9_goes_2 8 rfl rfl)
theorem dX9_goes_57 : decode cX9_goes 57 = .ok (.iload_n 3, 1) := dk_29 (dk_at dksX9_goes_2 9 rfl rfl)
theorem dX9_goes_58 : decode cX9_goes 58 = .ok (.iastore, 1) := dk_79 (dk_at dksX9_goes_2 10 rfl rfl)
theorem dX9_goes_59 : decode cX9_goes 59 = .ok (.return_, 1) := dk_177 (dk_at dksX9_goes_2 11 rfl rfl)
abbrev cX9_judge : ByteArray := prog_19_method_107_code
def yX9_judge : MethodName := ⟨RX9, "judge", "(II)I"⟩
def dkwX9_judge_5 : List UInt8 := [180, 0, 30, 29, 182, 1, 58, 148, 153, 0, 5, 29, 172, 132, 3, 1, 167, 255, 179, 16, 251, 172]
abbrev dktX9_judge_5 : List UInt8 := dkwX9_judge_5 ++ []
def dkwX9_judge_4 : List UInt8 := [180, 0, 75, 16, 60, 27, 104, 28, 96, 29, 96, 47, 42, 180, 0, 30, 180, 0, 197, 105, 42, 42]
abbrev dktX9_judge_4 : List UInt8 := dkwX9_judge_4 ++ dktX9_judge_5
def dkwX9_judge_3 : List UInt8 := [27, 46, 155, 0, 15, 28, 42, 180, 0, 72, 27, 46, 29, 100, 161, 0, 8, 16, 100, 29, 96, 172, 42]
abbrev dktX9_judge_3 : List UInt8 := dkwX9_judge_3 ++ dktX9_judge_4
def dkwX9_judge_2 : List UInt8 := [154, 0, 6, 16, 253, 172, 3, 62, 29, 42, 182, 0, 89, 162, 0, 75, 28, 155, 0, 24, 42, 180, 0, 69]
abbrev dktX9_judge_2 : List UInt8 := dkwX9_judge_2 ++ dktX9_judge_3
def dkwX9_judge_1 : List UInt8 := [5, 159, 0, 6, 16, 244, 172, 42, 180, 0, 30, 180, 0, 85, 153, 0, 13, 42, 180, 0, 30, 180, 0, 200]
abbrev dktX9_judge_1 : List UInt8 := dkwX9_judge_1 ++ dktX9_judge_2
def dkwX9_judge_0 : List UInt8 := [27, 184, 1, 191, 154, 0, 5, 2, 172, 42, 180, 0, 69, 27, 46, 155, 0, 16, 42, 180, 0, 69, 27, 46]
abbrev dktX9_judge_0 : List UInt8 := dkwX9_judge_0 ++ dktX9_judge_1
theorem dksX9_judge_0 : cX9_judge.data.toList.drop 0 = dktX9_judge_0 := by decide +kernel
theorem dksX9_judge_1 : cX9_judge.data.toList.drop 24 = dktX9_judge_1 := dk_seg dksX9_judge_0 24 rfl rfl
theorem dksX9_judge_2 : cX9_judge.data.toList.drop 48 = dktX9_judge_2 := dk_seg dksX9_judge_1 24 rfl rfl
theorem dksX9_judge_3 : cX9_judge.data.toList.drop 72 = dktX9_judge_3 := dk_seg dksX9_judge_2 24 rfl rfl
theorem dksX9_judge_4 : cX9_judge.data.toList.drop 95 = dktX9_judge_4 := dk_seg dksX9_judge_3 23 rfl rfl
theorem dksX9_judge_5 : cX9_judge.data.toList.drop 117 = dktX9_judge_5 := dk_seg dksX9_judge_4 22 rfl rfl
theorem dX9_judge_0 : decode cX9_judge 0 = .ok (.iload_n 1, 1) := dk_27 (dk_at dksX9_judge_0 0 rfl rfl)
theorem dX9_judge_1 : decode cX9_judge 1 = .ok (.invokestatic 447, 3) := dk_184 1 191 (dk_at dksX9_judge_0 1 rfl rfl)
theorem dX9_judge_4 : decode cX9_judge 4 = .ok (.ifCond .ne 5, 3) := dk_154 0 5 (dk_at dksX9_judge_0 4 rfl rfl)
theorem dX9_judge_7 : decode cX9_judge 7 = .ok (.iconst (-1), 1) := dk_2 (dk_at dksX9_judge_0 7 rfl rfl)
theorem dX9_judge_8 : decode cX9_judge 8 = .ok (.ireturn, 1) := dk_172 (dk_at dksX9_judge_0 8 rfl rfl)
theorem dX9_judge_9 : decode cX9_judge 9 = .ok (.aload_n 0, 1) := dk_42 (dk_at dksX9_judge_0 9 rfl rfl)
theorem dX9_judge_10 : decode cX9_judge 10 = .ok (.getfield 69, 3) := dk_180 0 69 (dk_at dksX9_judge_0 10 rfl rfl)
theorem dX9_judge_13 : decode cX9_judge 13 = .ok (.iload_n 1, 1) := dk_27 (dk_at dksX9_judge_0 13 rfl rfl)
theorem dX9_judge_14 : decode cX9_judge 14 = .ok (.iaload, 1) := dk_46 (dk_at dksX9_judge_0 14 rfl rfl)
theorem dX9_judge_15 : decode cX9_judge 15 = .ok (.ifCond .lt 16, 3) := dk_155 0 16 (dk_at dksX9_judge_0 15 rfl rfl)
theorem dX9_judge_18 : decode cX9_judge 18 = .ok (.aload_n 0, 1) := dk_42 (dk_at dksX9_judge_0 18 rfl rfl)
theorem dX9_judge_19 : decode cX9_judge 19 = .ok (.getfield 69, 3) := dk_180 0 69 (dk_at dksX9_judge_0 19 rfl rfl)
theorem dX9_judge_22 : decode cX9_judge 22 = .ok (.iload_n 1, 1) := dk_27 (dk_at dksX9_judge_0 22 rfl rfl)
theorem dX9_judge_23 : decode cX9_judge 23 = .ok (.iaload, 1) := dk_46 (dk_at dksX9_judge_0 23 rfl rfl)
theorem dX9_judge_24 : decode cX9_judge 24 = .ok (.iconst 2, 1) := dk_5 (dk_at dksX9_judge_1 0 rfl rfl)
theorem dX9_judge_25 : decode cX9_judge 25 = .ok (.if_icmp .eq 6, 3) := dk_159 0 6 (dk_at dksX9_judge_1 1 rfl rfl)
theorem dX9_judge_28 : decode cX9_judge 28 = .ok (.bipush (-12), 2) := dk_16 244 (dk_at dksX9_judge_1 4 rfl rfl)
theorem dX9_judge_30 : decode cX9_judge 30 = .ok (.ireturn, 1) := dk_172 (dk_at dksX9_judge_1 6 rfl rfl)
theorem dX9_judge_31 : decode cX9_judge 31 = .ok (.aload_n 0, 1) := dk_42 (dk_at dksX9_judge_1 7 rfl rfl)
theorem dX9_judge_32 : decode cX9_judge 32 = .ok (.getfield 30, 3) := dk_180 0 30 (dk_at dksX9_judge_1 8 rfl rfl)
theorem dX9_judge_35 : decode cX9_judge 35 = .ok (.getfield 85, 3) := dk_180 0 85 (dk_at dksX9_judge_1 11 rfl rfl)
theorem dX9_judge_38 : decode cX9_judge 38 = .ok (.ifCond .eq 13, 3) := dk_153 0 13 (dk_at dksX9_judge_1 14 rfl rfl)
theorem dX9_judge_41 : decode cX9_judge 41 = .ok (.aload_n 0, 1) := dk_42 (dk_at dksX9_judge_1 17 rfl rfl)
theorem dX9_judge_42 : decode cX9_judge 42 = .ok (.getfield 30, 3) := dk_180 0 30 (dk_at dksX9_judge_1 18 rfl rfl)
theorem dX9_judge_45 : decode cX9_judge 45 = .ok (.getfield 200, 3) := dk_180 0 200 (dk_at dksX9_judge_1 21 rfl rfl)
theorem dX9_judge_48 : decode cX9_judge 48 = .ok (.ifCond .ne 6, 3) := dk_154 0 6 (dk_at dksX9_judge_2 0 rfl rfl)
theorem dX9_judge_51 : decode cX9_judge 51 = .ok (.bipush (-3), 2) := dk_16 253 (dk_at dksX9_judge_2 3 rfl rfl)
theorem dX9_judge_53 : decode cX9_judge 53 = .ok (.ireturn, 1) := dk_172 (dk_at dksX9_judge_2 5 rfl rfl)
theorem dX9_judge_54 : decode cX9_judge 54 = .ok (.iconst 0, 1) := dk_3 (dk_at dksX9_judge_2 6 rfl rfl)
theorem dX9_judge_55 : decode cX9_judge 55 = .ok (.istore_n 3, 1) := dk_62 (dk_at dksX9_judge_2 7 rfl rfl)
theorem dX9_judge_56 : decode cX9_judge 56 = .ok (.iload_n 3, 1) := dk_29 (dk_at dksX9_judge_2 8 rfl rfl)
theorem dX9_judge_57 : decode cX9_judge 57 = .ok (.aload_n 0, 1) := dk_42 (dk_at dksX9_judge_2 9 rfl rfl)
theorem dX9_judge_58 : decode cX9_judge 58 = .ok (.invokevirtual 89, 3) := dk_182 0 89 (dk_at dksX9_judge_2 10 rfl rfl)
theorem dX9_judge_61 : decode cX9_judge 61 = .ok (.if_icmp .ge 75, 3) := dk_162 0 75 (dk_at dksX9_judge_2 13 rfl rfl)
theorem dX9_judge_64 : decode cX9_judge 64 = .ok (.iload_n 2, 1) := dk_28 (dk_at dksX9_judge_2 16 rfl rfl)
theorem dX9_judge_65 : decode cX9_judge 65 = .ok (.ifCond .lt 24, 3) := dk_155 0 24 (dk_at dksX9_judge_2 17 rfl rfl)
theorem dX9_judge_68 : decode cX9_judge 68 = .ok (.aload_n 0, 1) := dk_42 (dk_at dksX9_judge_2 20 rfl rfl)
theorem dX9_judge_69 : decode cX9_judge 69 = .ok (.getfield 69, 3) := dk_180 0 69 (dk_at dksX9_judge_2 21 rfl rfl)
theorem dX9_judge_72 : decode cX9_judge 72 = .ok (.iload_n 1, 1) := dk_27 (dk_at dksX9_judge_3 0 rfl rfl)
theorem dX9_judge_73 : decode cX9_judge 73 = .ok (.iaload, 1) := dk_46 (dk_at dksX9_judge_3 1 rfl rfl)
theorem dX9_judge_74 : decode cX9_judge 74 = .ok (.ifCond .lt 15, 3) := dk_155 0 15 (dk_at dksX9_judge_3 2 rfl rfl)
theorem dX9_judge_77 : decode cX9_judge 77 = .ok (.iload_n 2, 1) := dk_28 (dk_at dksX9_judge_3 5 rfl rfl)
theorem dX9_judge_78 : decode cX9_judge 78 = .ok (.aload_n 0, 1) := dk_42 (dk_at dksX9_judge_3 6 rfl rfl)
theorem dX9_judge_79 : decode cX9_judge 79 = .ok (.getfield 72, 3) := dk_180 0 72 (dk_at dksX9_judge_3 7 rfl rfl)
theorem dX9_judge_82 : decode cX9_judge 82 = .ok (.iload_n 1, 1) := dk_27 (dk_at dksX9_judge_3 10 rfl rfl)
theorem dX9_judge_83 : decode cX9_judge 83 = .ok (.iaload, 1) := dk_46 (dk_at dksX9_judge_3 11 rfl rfl)
theorem dX9_judge_84 : decode cX9_judge 84 = .ok (.iload_n 3, 1) := dk_29 (dk_at dksX9_judge_3 12 rfl rfl)
theorem dX9_judge_85 : decode cX9_judge 85 = .ok (.isub, 1) := dk_100 (dk_at dksX9_judge_3 13 rfl rfl)
theorem dX9_judge_86 : decode cX9_judge 86 = .ok (.if_icmp .lt 8, 3) := dk_161 0 8 (dk_at dksX9_judge_3 14 rfl rfl)
theorem dX9_judge_89 : decode cX9_judge 89 = .ok (.bipush 100, 2) := dk_16 100 (dk_at dksX9_judge_3 17 rfl rfl)
theorem dX9_judge_91 : decode cX9_judge 91 = .ok (.iload_n 3, 1) := dk_29 (dk_at dksX9_judge_3 19 rfl rfl)
theorem dX9_judge_92 : decode cX9_judge 92 = .ok (.iadd, 1) := dk_96 (dk_at dksX9_judge_3 20 rfl rfl)
theorem dX9_judge_93 : decode cX9_judge 93 = .ok (.ireturn, 1) := dk_172 (dk_at dksX9_judge_3 21 rfl rfl)
theorem dX9_judge_94 : decode cX9_judge 94 = .ok (.aload_n 0, 1) := dk_42 (dk_at dksX9_judge_3 22 rfl rfl)
theorem dX9_judge_95 : decode cX9_judge 95 = .ok (.getfield 75, 3) := dk_180 0 75 (dk_at dksX9_judge_4 0 rfl rfl)
theorem dX9_judge_98 : decode cX9_judge 98 = .ok (.bipush 60, 2) := dk_16 60 (dk_at dksX9_judge_4 3 rfl rfl)
theorem dX9_judge_100 : decode cX9_judge 100 = .ok (.iload_n 1, 1) := dk_27 (dk_at dksX9_judge_4 5 rfl rfl)
theorem dX9_judge_101 : decode cX9_judge 101 = .ok (.imul, 1) := dk_104 (dk_at dksX9_judge_4 6 rfl rfl)
theorem dX9_judge_102 : decode cX9_judge 102 = .ok (.iload_n 2, 1) := dk_28 (dk_at dksX9_judge_4 7 rfl rfl)
theorem dX9_judge_103 : decode cX9_judge 103 = .ok (.iadd, 1) := dk_96 (dk_at dksX9_judge_4 8 rfl rfl)
theorem dX9_judge_104 : decode cX9_judge 104 = .ok (.iload_n 3, 1) := dk_29 (dk_at dksX9_judge_4 9 rfl rfl)
theorem dX9_judge_105 : decode cX9_judge 105 = .ok (.iadd, 1) := dk_96 (dk_at dksX9_judge_4 10 rfl rfl)
theorem dX9_judge_106 : decode cX9_judge 106 = .ok (.laload, 1) := dk_47 (dk_at dksX9_judge_4 11 rfl rfl)
theorem dX9_judge_107 : decode cX9_judge 107 = .ok (.aload_n 0, 1) := dk_42 (dk_at dksX9_judge_4 12 rfl rfl)
theorem dX9_judge_108 : decode cX9_judge 108 = .ok (.getfield 30, 3) := dk_180 0 30 (dk_at dksX9_judge_4 13 rfl rfl)
theorem dX9_judge_111 : decode cX9_judge 111 = .ok (.getfield 197, 3) := dk_180 0 197 (dk_at dksX9_judge_4 16 rfl rfl)
theorem dX9_judge_114 : decode cX9_judge 114 = .ok (.lmul, 1) := dk_105 (dk_at dksX9_judge_4 19 rfl rfl)
theorem dX9_judge_115 : decode cX9_judge 115 = .ok (.aload_n 0, 1) := dk_42 (dk_at dksX9_judge_4 20 rfl rfl)
theorem dX9_judge_116 : decode cX9_judge 116 = .ok (.aload_n 0, 1) := dk_42 (dk_at dksX9_judge_4 21 rfl rfl)
theorem dX9_judge_117 : decode cX9_judge 117 = .ok (.getfield 30, 3) := dk_180 0 30 (dk_at dksX9_judge_5 0 rfl rfl)
theorem dX9_judge_120 : decode cX9_judge 120 = .ok (.iload_n 3, 1) := dk_29 (dk_at dksX9_judge_5 3 rfl rfl)
theorem dX9_judge_121 : decode cX9_judge 121 = .ok (.invokevirtual 314, 3) := dk_182 1 58 (dk_at dksX9_judge_5 4 rfl rfl)
theorem dX9_judge_124 : decode cX9_judge 124 = .ok (.lcmp, 1) := dk_148 (dk_at dksX9_judge_5 7 rfl rfl)
theorem dX9_judge_125 : decode cX9_judge 125 = .ok (.ifCond .eq 5, 3) := dk_153 0 5 (dk_at dksX9_judge_5 8 rfl rfl)
theorem dX9_judge_128 : decode cX9_judge 128 = .ok (.iload_n 3, 1) := dk_29 (dk_at dksX9_judge_5 11 rfl rfl)
theorem dX9_judge_129 : decode cX9_judge 129 = .ok (.ireturn, 1) := dk_172 (dk_at dksX9_judge_5 12 rfl rfl)
theorem dX9_judge_130 : decode cX9_judge 130 = .ok (.iinc 3 1, 3) := dk_132 3 1 (dk_at dksX9_judge_5 13 rfl rfl)
theorem dX9_judge_133 : decode cX9_judge 133 = .ok (.goto (-77), 3) := dk_167 255 179 (dk_at dksX9_judge_5 16 rfl rfl)
theorem dX9_judge_136 : decode cX9_judge 136 = .ok (.bipush (-5), 2) := dk_16 251 (dk_at dksX9_judge_5 19 rfl rfl)
theorem dX9_judge_138 : decode cX9_judge 138 = .ok (.ireturn, 1) := dk_172 (dk_at dksX9_judge_5 21 rfl rfl)
abbrev cX9_isTape : ByteArray := prog_19_method_106_code
def yX9_isTape : MethodName := ⟨RX9, "isTape", "(I)Z"⟩
def dkwX9_isTape_0 : List UInt8 := [26, 133, 9, 20, 0, 108, 184, 0, 93, 172]
abbrev dktX9_isTape_0 : List UInt8 := dkwX9_isTape_0 ++ []
theorem dksX9_isTape_0 : cX9_isTape.data.toList.drop 0 = dktX9_isTape_0 := by decide +kernel
theorem dX9_isTape_0 : decode cX9_isTape 0 = .ok (.iload_n 0, 1) := dk_26 (dk_at dksX9_isTape_0 0 rfl rfl)
theorem dX9_isTape_1 : decode cX9_isTape 1 = .ok (.i2l, 1) := dk_133 (dk_at dksX9_isTape_0 1 rfl rfl)
theorem dX9_isTape_2 : decode cX9_isTape 2 = .ok (.lconst 0, 1) := dk_9 (dk_at dksX9_isTape_0 2 rfl rfl)
theorem dX9_isTape_3 : decode cX9_isTape 3 = .ok (.ldc2_w 108, 3) := dk_20 0 108 (dk_at dksX9_isTape_0 3 rfl rfl)
theorem dX9_isTape_6 : decode cX9_isTape 6 = .ok (.invokestatic 93, 3) := dk_184 0 93 (dk_at dksX9_isTape_0 6 rfl rfl)
theorem dX9_isTape_9 : decode cX9_isTape 9 = .ok (.ireturn, 1) := dk_172 (dk_at dksX9_isTape_0 9 rfl rfl)
abbrev cX9_image : ByteArray := prog_19_method_108_code
def yX9_image : MethodName := ⟨RX9, "image", "()I"⟩
def dkwX9_image_1 : List UInt8 := [167, 255, 234, 42, 4, 181, 1, 194, 42, 180, 0, 11, 4, 46, 172]
abbrev dktX9_image_1 : List UInt8 := dkwX9_image_1 ++ []
def dkwX9_image_0 : List UInt8 := [3, 60, 27, 17, 0, 150, 162, 0, 21, 42, 180, 0, 15, 27, 42, 180, 0, 11, 27, 46, 79, 132, 1, 1]
abbrev dktX9_image_0 : List UInt8 := dkwX9_image_0 ++ dktX9_image_1
theorem dksX9_image_0 : cX9_image.data.toList.drop 0 = dktX9_image_0 := by decide +kernel
theorem dksX9_image_1 : cX9_image.data.toList.drop 24 = dktX9_image_1 := dk_seg dksX9_image_0 24 rfl rfl
theorem dX9_image_0 : decode cX9_image 0 = .ok (.iconst 0, 1) := dk_3 (dk_at dksX9_image_0 0 rfl rfl)
theorem dX9_image_1 : decode cX9_image 1 = .ok (.istore_n 1, 1) := dk_60 (dk_at dksX9_image_0 1 rfl rfl)
theorem dX9_image_2 : decode cX9_image 2 = .ok (.iload_n 1, 1) := dk_27 (dk_at dksX9_image_0 2 rfl rfl)
theorem dX9_image_3 : decode cX9_image 3 = .ok (.sipush 150, 3) := dk_17 0 150 (dk_at dksX9_image_0 3 rfl rfl)
theorem dX9_image_6 : decode cX9_image 6 = .ok (.if_icmp .ge 21, 3) := dk_162 0 21 (dk_at dksX9_image_0 6 rfl rfl)
theorem dX9_image_9 : decode cX9_image 9 = .ok (.aload_n 0, 1) := dk_42 (dk_at dksX9_image_0 9 rfl rfl)
theorem dX9_image_10 : decode cX9_image 10 = .ok (.getfield 15, 3) := dk_180 0 15 (dk_at dksX9_image_0 10 rfl rfl)
theorem dX9_image_13 : decode cX9_image 13 = .ok (.iload_n 1, 1) := dk_27 (dk_at dksX9_image_0 13 rfl rfl)
theorem dX9_image_14 : decode cX9_image 14 = .ok (.aload_n 0, 1) := dk_42 (dk_at dksX9_image_0 14 rfl rfl)
theorem dX9_image_15 : decode cX9_image 15 = .ok (.getfield 11, 3) := dk_180 0 11 (dk_at dksX9_image_0 15 rfl rfl)
theorem dX9_image_18 : decode cX9_image 18 = .ok (.iload_n 1, 1) := dk_27 (dk_at dksX9_image_0 18 rfl rfl)
theorem dX9_image_19 : decode cX9_image 19 = .ok (.iaload, 1) := dk_46 (dk_at dksX9_image_0 19 rfl rfl)
theorem dX9_image_20 : decode cX9_image 20 = .ok (.iastore, 1) := dk_79 (dk_at dksX9_image_0 20 rfl rfl)
theorem dX9_image_21 : decode cX9_image 21 = .ok (.iinc 1 1, 3) := dk_132 1 1 (dk_at dksX9_image_0 21 rfl rfl)
theorem dX9_image_24 : decode cX9_image 24 = .ok (.goto (-22), 3) := dk_167 255 234 (dk_at dksX9_image_1 0 rfl rfl)
theorem dX9_image_27 : decode cX9_image 27 = .ok (.aload_n 0, 1) := dk_42 (dk_at dksX9_image_1 3 rfl rfl)
theorem dX9_image_28 : decode cX9_image 28 = .ok (.iconst 1, 1) := dk_4 (dk_at dksX9_image_1 4 rfl rfl)
theorem dX9_image_29 : decode cX9_image 29 = .ok (.putfield 450, 3) := dk_181 1 194 (dk_at dksX9_image_1 5 rfl rfl)
theorem dX9_image_32 : decode cX9_image 32 = .ok (.aload_n 0, 1) := dk_42 (dk_at dksX9_image_1 8 rfl rfl)
theorem dX9_image_33 : decode cX9_image 33 = .ok (.getfield 11, 3) := dk_180 0 11 (dk_at dksX9_image_1 9 rfl rfl)
theorem dX9_image_36 : decode cX9_image 36 = .ok (.iconst 1, 1) := dk_4 (dk_at dksX9_image_1 12 rfl rfl)
theorem dX9_image_37 : decode cX9_image 37 = .ok (.iaload, 1) := dk_46 (dk_at dksX9_image_1 13 rfl rfl)
theorem dX9_image_38 : decode cX9_image 38 = .ok (.ireturn, 1) := dk_172 (dk_at dksX9_image_1 14 rfl rfl)
abbrev cX9_undo : ByteArray := prog_19_method_109_code
def yX9_undo : MethodName := ⟨RX9, "undo", "()I"⟩
def dkwX9_undo_2 : List UInt8 := [180, 0, 11, 4, 46, 172]
abbrev dktX9_undo_2 : List UInt8 := dkwX9_undo_2 ++ []
def dkwX9_undo_1 : List UInt8 := [42, 180, 0, 15, 27, 46, 79, 132, 1, 1, 167, 255, 234, 42, 180, 0, 30, 3, 181, 0, 85, 42]
abbrev dktX9_undo_1 : List UInt8 := dkwX9_undo_1 ++ dktX9_undo_2
def dkwX9_undo_0 : List UInt8 := [42, 180, 1, 194, 154, 0, 6, 16, 253, 172, 3, 60, 27, 17, 0, 150, 162, 0, 21, 42, 180, 0, 11, 27]
abbrev dktX9_undo_0 : List UInt8 := dkwX9_undo_0 ++ dktX9_undo_1
theorem dksX9_undo_0 : cX9_undo.data.toList.drop 0 = dktX9_undo_0 := by decide +kernel
theorem dksX9_undo_1 : cX9_undo.data.toList.drop 24 = dktX9_undo_1 := dk_seg dksX9_undo_0 24 rfl rfl
theorem dksX9_undo_2 : cX9_undo.data.toList.drop 46 = dktX9_undo_2 := dk_seg dksX9_undo_1 22 rfl rfl
theorem dX9_undo_0 : decode cX9_undo 0 = .ok (.aload_n 0, 1) := dk_42 (dk_at dksX9_undo_0 0 rfl rfl)
theorem dX9_undo_1 : decode cX9_undo 1 = .ok (.getfield 450, 3) := dk_180 1 194 (dk_at dksX9_undo_0 1 rfl rfl)
theorem dX9_undo_4 : decode cX9_undo 4 = .ok (.ifCond .ne 6, 3) := dk_154 0 6 (dk_at dksX9_undo_0 4 rfl rfl)
theorem dX9_undo_7 : decode cX9_undo 7 = .ok (.bipush (-3), 2) := dk_16 253 (dk_at dksX9_undo_0 7 rfl rfl)
theorem dX9_undo_9 : decode cX9_undo 9 = .ok (.ireturn, 1) := dk_172 (dk_at dksX9_undo_0 9 rfl rfl)
theorem dX9_undo_10 : decode cX9_undo 10 = .ok (.iconst 0, 1) := dk_3 (dk_at dksX9_undo_0 10 rfl rfl)
theorem dX9_undo_11 : decode cX9_undo 11 = .ok (.istore_n 1, 1) := dk_60 (dk_at dksX9_undo_0 11 rfl rfl)
theorem dX9_undo_12 : decode cX9_undo 12 = .ok (.iload_n 1, 1) := dk_27 (dk_at dksX9_undo_0 12 rfl rfl)
theorem dX9_undo_13 : decode cX9_undo 13 = .ok (.sipush 150, 3) := dk_17 0 150 (dk_at dksX9_undo_0 13 rfl rfl)
theorem dX9_undo_16 : decode cX9_undo 16 = .ok (.if_icmp .ge 21, 3) := dk_162 0 21 (dk_at dksX9_undo_0 16 rfl rfl)
theorem dX9_undo_19 : decode cX9_undo 19 = .ok (.aload_n 0, 1) := dk_42 (dk_at dksX9_undo_0 19 rfl rfl)
theorem dX9_undo_20 : decode cX9_undo 20 = .ok (.getfield 11, 3) := dk_180 0 11 (dk_at dksX9_undo_0 20 rfl rfl)
theorem dX9_undo_23 : decode cX9_undo 23 = .ok (.iload_n 1, 1) := dk_27 (dk_at dksX9_undo_0 23 rfl rfl)
theorem dX9_undo_24 : decode cX9_undo 24 = .ok (.aload_n 0, 1) := dk_42 (dk_at dksX9_undo_1 0 rfl rfl)
theorem dX9_undo_25 : decode cX9_undo 25 = .ok (.getfield 15, 3) := dk_180 0 15 (dk_at dksX9_undo_1 1 rfl rfl)
theorem dX9_undo_28 : decode cX9_undo 28 = .ok (.iload_n 1, 1) := dk_27 (dk_at dksX9_undo_1 4 rfl rfl)
theorem dX9_undo_29 : decode cX9_undo 29 = .ok (.iaload, 1) := dk_46 (dk_at dksX9_undo_1 5 rfl rfl)
theorem dX9_undo_30 : decode cX9_undo 30 = .ok (.iastore, 1) := dk_79 (dk_at dksX9_undo_1 6 rfl rfl)
theorem dX9_undo_31 : decode cX9_undo 31 = .ok (.iinc 1 1, 3) := dk_132 1 1 (dk_at dksX9_undo_1 7 rfl rfl)
theorem dX9_undo_34 : decode cX9_undo 34 = .ok (.goto (-22), 3) := dk_167 255 234 (dk_at dksX9_undo_1 10 rfl rfl)
theorem dX9_undo_37 : decode cX9_undo 37 = .ok (.aload_n 0, 1) := dk_42 (dk_at dksX9_undo_1 13 rfl rfl)
theorem dX9_undo_38 : decode cX9_undo 38 = .ok (.getfield 30, 3) := dk_180 0 30 (dk_at dksX9_undo_1 14 rfl rfl)
theorem dX9_undo_41 : decode cX9_undo 41 = .ok (.iconst 0, 1) := dk_3 (dk_at dksX9_undo_1 17 rfl rfl)
theorem dX9_undo_42 : decode cX9_undo 42 = .ok (.putfield 85, 3) := dk_181 0 85 (dk_at dksX9_undo_1 18 rfl rfl)
theorem dX9_undo_45 : decode cX9_undo 45 = .ok (.aload_n 0, 1) := dk_42 (dk_at dksX9_undo_1 21 rfl rfl)
theorem dX9_undo_46 : decode cX9_undo 46 = .ok (.getfield 11, 3) := dk_180 0 11 (dk_at dksX9_undo_2 0 rfl rfl)
theorem dX9_undo_49 : decode cX9_undo 49 = .ok (.iconst 1, 1) := dk_4 (dk_at dksX9_undo_2 3 rfl rfl)
theorem dX9_undo_50 : decode cX9_undo 50 = .ok (.iaload, 1) := dk_46 (dk_at dksX9_undo_2 4 rfl rfl)
theorem dX9_undo_51 : decode cX9_undo 51 = .ok (.ireturn, 1) := dk_172 (dk_at dksX9_undo_2 5 rfl rfl)
abbrev cX9_count : ByteArray := prog_19_method_110_code
def yX9_count : MethodName := ⟨RX9, "count", "(I)I"⟩
def dkwX9_count_6 : List UInt8 := [46, 172, 16, 254, 172]
abbrev dktX9_count_6 : List UInt8 := dkwX9_count_6 ++ []
def dkwX9_count_5 : List UInt8 := [180, 0, 11, 8, 46, 172, 42, 180, 0, 11, 16, 6, 46, 172, 42, 180, 0, 133, 172, 42, 180, 0, 11, 6]
abbrev dktX9_count_5 : List UInt8 := dkwX9_count_5 ++ dktX9_count_6
def dkwX9_count_4 : List UInt8 := [153, 0, 13, 42, 180, 0, 30, 180, 0, 190, 167, 0, 4, 3, 172, 42, 180, 0, 11, 7, 46, 172, 42]
abbrev dktX9_count_4 : List UInt8 := dkwX9_count_4 ++ dktX9_count_5
def dkwX9_count_3 : List UInt8 := [167, 0, 4, 3, 172, 28, 153, 0, 13, 42, 180, 0, 30, 180, 0, 187, 167, 0, 4, 3, 172, 28]
abbrev dktX9_count_3 : List UInt8 := dkwX9_count_3 ++ dktX9_count_4
def dkwX9_count_2 : List UInt8 := [42, 182, 0, 89, 172, 42, 180, 0, 11, 4, 46, 172, 28, 153, 0, 13, 42, 180, 0, 30, 180, 0, 178]
abbrev dktX9_count_2 : List UInt8 := dkwX9_count_2 ++ dktX9_count_3
def dkwX9_count_1 : List UInt8 := [170, 0, 0, 0, 0, 0, 149, 0, 0, 0, 0, 0, 0, 0, 9, 0, 0, 0, 55, 0, 0, 0, 60, 0, 0, 0, 67, 0, 0, 0, 83, 0, 0, 0, 99, 0, 0, 0, 115, 0, 0, 0, 122, 0, 0, 0, 129, 0, 0, 0, 137, 0, 0, 0, 142]
abbrev dktX9_count_1 : List UInt8 := dkwX9_count_1 ++ dktX9_count_2
def dkwX9_count_0 : List UInt8 := [42, 180, 0, 30, 180, 0, 85, 61, 27]
abbrev dktX9_count_0 : List UInt8 := dkwX9_count_0 ++ dktX9_count_1
theorem dksX9_count_0 : cX9_count.data.toList.drop 0 = dktX9_count_0 := by decide +kernel
theorem dksX9_count_1 : cX9_count.data.toList.drop 9 = dktX9_count_1 := dk_seg dksX9_count_0 9 rfl rfl
theorem dksX9_count_2 : cX9_count.data.toList.drop 64 = dktX9_count_2 := dk_seg dksX9_count_1 55 rfl rfl
theorem dksX9_count_3 : cX9_count.data.toList.drop 87 = dktX9_count_3 := dk_seg dksX9_count_2 23 rfl rfl
theorem dksX9_count_4 : cX9_count.data.toList.drop 109 = dktX9_count_4 := dk_seg dksX9_count_3 22 rfl rfl
theorem dksX9_count_5 : cX9_count.data.toList.drop 132 = dktX9_count_5 := dk_seg dksX9_count_4 23 rfl rfl
theorem dksX9_count_6 : cX9_count.data.toList.drop 156 = dktX9_count_6 := dk_seg dksX9_count_5 24 rfl rfl
theorem dX9_count_0 : decode cX9_count 0 = .ok (.aload_n 0, 1) := dk_42 (dk_at dksX9_count_0 0 rfl rfl)
theorem dX9_count_1 : decode cX9_count 1 = .ok (.getfield 30, 3) := dk_180 0 30 (dk_at dksX9_count_0 1 rfl rfl)
theorem dX9_count_4 : decode cX9_count 4 = .ok (.getfield 85, 3) := dk_180 0 85 (dk_at dksX9_count_0 4 rfl rfl)
theorem dX9_count_7 : decode cX9_count 7 = .ok (.istore_n 2, 1) := dk_61 (dk_at dksX9_count_0 7 rfl rfl)
theorem dX9_count_8 : decode cX9_count 8 = .ok (.iload_n 1, 1) := dk_27 (dk_at dksX9_count_0 8 rfl rfl)
theorem dX9_count_9 : decode cX9_count 9 = .ok (.tableswitch 149 0 9 #[55, 60, 67, 83, 99, 115, 122, 129, 137, 142], 55) := by decide +kernel
theorem dX9_count_64 : decode cX9_count 64 = .ok (.aload_n 0, 1) := dk_42 (dk_at dksX9_count_2 0 rfl rfl)
theorem dX9_count_65 : decode cX9_count 65 = .ok (.invokevirtual 89, 3) := dk_182 0 89 (dk_at dksX9_count_2 1 rfl rfl)
theorem dX9_count_68 : decode cX9_count 68 = .ok (.ireturn, 1) := dk_172 (dk_at dksX9_count_2 4 rfl rfl)
theorem dX9_count_69 : decode cX9_count 69 = .ok (.aload_n 0, 1) := dk_42 (dk_at dksX9_count_2 5 rfl rfl)
theorem dX9_count_70 : decode cX9_count 70 = .ok (.getfield 11, 3) := dk_180 0 11 (dk_at dksX9_count_2 6 rfl rfl)
theorem dX9_count_73 : decode cX9_count 73 = .ok (.iconst 1, 1) := dk_4 (dk_at dksX9_count_2 9 rfl rfl)
theorem dX9_count_74 : decode cX9_count 74 = .ok (.iaload, 1) := dk_46 (dk_at dksX9_count_2 10 rfl rfl)
theorem dX9_count_75 : decode cX9_count 75 = .ok (.ireturn, 1) := dk_172 (dk_at dksX9_count_2 11 rfl rfl)
theorem dX9_count_76 : decode cX9_count 76 = .ok (.iload_n 2, 1) := dk_28 (dk_at dksX9_count_2 12 rfl rfl)
theorem dX9_count_77 : decode cX9_count 77 = .ok (.ifCond .eq 13, 3) := dk_153 0 13 (dk_at dksX9_count_2 13 rfl rfl)
theorem dX9_count_80 : decode cX9_count 80 = .ok (.aload_n 0, 1) := dk_42 (dk_at dksX9_count_2 16 rfl rfl)
theorem dX9_count_81 : decode cX9_count 81 = .ok (.getfield 30, 3) := dk_180 0 30 (dk_at dksX9_count_2 17 rfl rfl)
theorem dX9_count_84 : decode cX9_count 84 = .ok (.getfield 178, 3) := dk_180 0 178 (dk_at dksX9_count_2 20 rfl rfl)
theorem dX9_count_87 : decode cX9_count 87 = .ok (.goto 4, 3) := dk_167 0 4 (dk_at dksX9_count_3 0 rfl rfl)
theorem dX9_count_90 : decode cX9_count 90 = .ok (.iconst 0, 1) := dk_3 (dk_at dksX9_count_3 3 rfl rfl)
theorem dX9_count_91 : decode cX9_count 91 = .ok (.ireturn, 1) := dk_172 (dk_at dksX9_count_3 4 rfl rfl)
theorem dX9_count_92 : decode cX9_count 92 = .ok (.iload_n 2, 1) := dk_28 (dk_at dksX9_count_3 5 rfl rfl)
theorem dX9_count_93 : decode cX9_count 93 = .ok (.ifCond .eq 13, 3) := dk_153 0 13 (dk_at dksX9_count_3 6 rfl rfl)
theorem dX9_count_96 : decode cX9_count 96 = .ok (.aload_n 0, 1) := dk_42 (dk_at dksX9_count_3 9 rfl rfl)
theorem dX9_count_97 : decode cX9_count 97 = .ok (.getfield 30, 3) := dk_180 0 30 (dk_at dksX9_count_3 10 rfl rfl)
theorem dX9_count_100 : decode cX9_count 100 = .ok (.getfield 187, 3) := dk_180 0 187 (dk_at dksX9_count_3 13 rfl rfl)
theorem dX9_count_103 : decode cX9_count 103 = .ok (.goto 4, 3) := dk_167 0 4 (dk_at dksX9_count_3 16 rfl rfl)
theorem dX9_count_106 : decode cX9_count 106 = .ok (.iconst 0, 1) := dk_3 (dk_at dksX9_count_3 19 rfl rfl)
theorem dX9_count_107 : decode cX9_count 107 = .ok (.ireturn, 1) := dk_172 (dk_at dksX9_count_3 20 rfl rfl)
theorem dX9_count_108 : decode cX9_count 108 = .ok (.iload_n 2, 1) := dk_28 (dk_at dksX9_count_3 21 rfl rfl)
theorem dX9_count_109 : decode cX9_count 109 = .ok (.ifCond .eq 13, 3) := dk_153 0 13 (dk_at dksX9_count_4 0 rfl rfl)
theorem dX9_count_112 : decode cX9_count 112 = .ok (.aload_n 0, 1) := dk_42 (dk_at dksX9_count_4 3 rfl rfl)
theorem dX9_count_113 : decode cX9_count 113 = .ok (.getfield 30, 3) := dk_180 0 30 (dk_at dksX9_count_4 4 rfl rfl)
theorem dX9_count_116 : decode cX9_count 116 = .ok (.getfield 190, 3) := dk_180 0 190 (dk_at dksX9_count_4 7 rfl rfl)
theorem dX9_count_119 : decode cX9_count 119 = .ok (.goto 4, 3) := dk_167 0 4 (dk_at dksX9_count_4 10 rfl rfl)
theorem dX9_count_122 : decode cX9_count 122 = .ok (.iconst 0, 1) := dk_3 (dk_at dksX9_count_4 13 rfl rfl)
theorem dX9_count_123 : decode cX9_count 123 = .ok (.ireturn, 1) := dk_172 (dk_at dksX9_count_4 14 rfl rfl)
theorem dX9_count_124 : decode cX9_count 124 = .ok (.aload_n 0, 1) := dk_42 (dk_at dksX9_count_4 15 rfl rfl)
theorem dX9_count_125 : decode cX9_count 125 = .ok (.getfield 11, 3) := dk_180 0 11 (dk_at dksX9_count_4 16 rfl rfl)
theorem dX9_count_128 : decode cX9_count 128 = .ok (.iconst 4, 1) := dk_7 (dk_at dksX9_count_4 19 rfl rfl)
theorem dX9_count_129 : decode cX9_count 129 = .ok (.iaload, 1) := dk_46 (dk_at dksX9_count_4 20 rfl rfl)
theorem dX9_count_130 : decode cX9_count 130 = .ok (.ireturn, 1) := dk_172 (dk_at dksX9_count_4 21 rfl rfl)
theorem dX9_count_131 : decode cX9_count 131 = .ok (.aload_n 0, 1) := dk_42 (dk_at dksX9_count_4 22 rfl rfl)
theorem dX9_count_132 : decode cX9_count 132 = .ok (.getfield 11, 3) := dk_180 0 11 (dk_at dksX9_count_5 0 rfl rfl)
theorem dX9_count_135 : decode cX9_count 135 = .ok (.iconst 5, 1) := dk_8 (dk_at dksX9_count_5 3 rfl rfl)
theorem dX9_count_136 : decode cX9_count 136 = .ok (.iaload, 1) := dk_46 (dk_at dksX9_count_5 4 rfl rfl)
theorem dX9_count_137 : decode cX9_count 137 = .ok (.ireturn, 1) := dk_172 (dk_at dksX9_count_5 5 rfl rfl)
theorem dX9_count_138 : decode cX9_count 138 = .ok (.aload_n 0, 1) := dk_42 (dk_at dksX9_count_5 6 rfl rfl)
theorem dX9_count_139 : decode cX9_count 139 = .ok (.getfield 11, 3) := dk_180 0 11 (dk_at dksX9_count_5 7 rfl rfl)
theorem dX9_count_142 : decode cX9_count 142 = .ok (.bipush 6, 2) := dk_16 6 (dk_at dksX9_count_5 10 rfl rfl)
theorem dX9_count_144 : decode cX9_count 144 = .ok (.iaload, 1) := dk_46 (dk_at dksX9_count_5 12 rfl rfl)
theorem dX9_count_145 : decode cX9_count 145 = .ok (.ireturn, 1) := dk_172 (dk_at dksX9_count_5 13 rfl rfl)
theorem dX9_count_146 : decode cX9_count 146 = .ok (.aload_n 0, 1) := dk_42 (dk_at dksX9_count_5 14 rfl rfl)
theorem dX9_count_147 : decode cX9_count 147 = .ok (.getfield 133, 3) := dk_180 0 133 (dk_at dksX9_count_5 15 rfl rfl)
theorem dX9_count_150 : decode cX9_count 150 = .ok (.ireturn, 1) := dk_172 (dk_at dksX9_count_5 18 rfl rfl)
theorem dX9_count_151 : decode cX9_count 151 = .ok (.aload_n 0, 1) := dk_42 (dk_at dksX9_count_5 19 rfl rfl)
theorem dX9_count_152 : decode cX9_count 152 = .ok (.getfield 11, 3) := dk_180 0 11 (dk_at dksX9_count_5 20 rfl rfl)
theorem dX9_count_155 : decode cX9_count 155 = .ok (.iconst 3, 1) := dk_6 (dk_at dksX9_count_5 23 rfl rfl)
theorem dX9_count_156 : decode cX9_count 156 = .ok (.iaload, 1) := dk_46 (dk_at dksX9_count_6 0 rfl rfl)
theorem dX9_count_157 : decode cX9_count 157 = .ok (.ireturn, 1) := dk_172 (dk_at dksX9_count_6 1 rfl rfl)
theorem dX9_count_158 : decode cX9_count 158 = .ok (.bipush (-2), 2) := dk_16 254 (dk_at dksX9_count_6 2 rfl rfl)
theorem dX9_count_160 : decode cX9_count 160 = .ok (.ireturn, 1) := dk_172 (dk_at dksX9_count_6 4 rfl rfl)
abbrev cX9_tape : ByteArray := prog_19_method_111_code
def yX9_tape : MethodName := ⟨RX9, "tape", "(III)I"⟩
def dkwX9_tape_4 : List UInt8 := [132, 4, 1, 167, 255, 229, 4, 172]
abbrev dktX9_tape_4 : List UInt8 := dkwX9_tape_4 ++ []
def dkwX9_tape_3 : List UInt8 := [21, 4, 42, 180, 0, 72, 27, 46, 162, 0, 22, 42, 180, 0, 75, 16, 60, 27, 104, 21, 4, 96, 9, 80]
abbrev dktX9_tape_3 : List UInt8 := dkwX9_tape_3 ++ dktX9_tape_4
def dkwX9_tape_2 : List UInt8 := [180, 0, 69, 27, 28, 79, 42, 180, 0, 72, 27, 28, 156, 0, 7, 3, 167, 0, 4, 29, 79, 3, 54, 4]
abbrev dktX9_tape_2 : List UInt8 := dkwX9_tape_2 ++ dktX9_tape_3
def dkwX9_tape_1 : List UInt8 := [155, 0, 12, 29, 16, 60, 164, 0, 6, 16, 254, 172, 28, 155, 0, 10, 29, 156, 0, 6, 16, 242, 172, 42]
abbrev dktX9_tape_1 : List UInt8 := dkwX9_tape_1 ++ dktX9_tape_2
def dkwX9_tape_0 : List UInt8 := [27, 184, 1, 191, 154, 0, 5, 2, 172, 28, 133, 20, 0, 242, 20, 1, 159, 184, 0, 93, 153, 0, 13, 28]
abbrev dktX9_tape_0 : List UInt8 := dkwX9_tape_0 ++ dktX9_tape_1
theorem dksX9_tape_0 : cX9_tape.data.toList.drop 0 = dktX9_tape_0 := by decide +kernel
theorem dksX9_tape_1 : cX9_tape.data.toList.drop 24 = dktX9_tape_1 := dk_seg dksX9_tape_0 24 rfl rfl
theorem dksX9_tape_2 : cX9_tape.data.toList.drop 48 = dktX9_tape_2 := dk_seg dksX9_tape_1 24 rfl rfl
theorem dksX9_tape_3 : cX9_tape.data.toList.drop 72 = dktX9_tape_3 := dk_seg dksX9_tape_2 24 rfl rfl
theorem dksX9_tape_4 : cX9_tape.data.toList.drop 96 = dktX9_tape_4 := dk_seg dksX9_tape_3 24 rfl rfl
theorem dX9_tape_0 : decode cX9_tape 0 = .ok (.iload_n 1, 1) := dk_27 (dk_at dksX9_tape_0 0 rfl rfl)
theorem dX9_tape_1 : decode cX9_tape 1 = .ok (.invokestatic 447, 3) := dk_184 1 191 (dk_at dksX9_tape_0 1 rfl rfl)
theorem dX9_tape_4 : decode cX9_tape 4 = .ok (.ifCond .ne 5, 3) := dk_154 0 5 (dk_at dksX9_tape_0 4 rfl rfl)
theorem dX9_tape_7 : decode cX9_tape 7 = .ok (.iconst (-1), 1) := dk_2 (dk_at dksX9_tape_0 7 rfl rfl)
theorem dX9_tape_8 : decode cX9_tape 8 = .ok (.ireturn, 1) := dk_172 (dk_at dksX9_tape_0 8 rfl rfl)
theorem dX9_tape_9 : decode cX9_tape 9 = .ok (.iload_n 2, 1) := dk_28 (dk_at dksX9_tape_0 9 rfl rfl)
theorem dX9_tape_10 : decode cX9_tape 10 = .ok (.i2l, 1) := dk_133 (dk_at dksX9_tape_0 10 rfl rfl)
theorem dX9_tape_11 : decode cX9_tape 11 = .ok (.ldc2_w 242, 3) := dk_20 0 242 (dk_at dksX9_tape_0 11 rfl rfl)
theorem dX9_tape_14 : decode cX9_tape 14 = .ok (.ldc2_w 415, 3) := dk_20 1 159 (dk_at dksX9_tape_0 14 rfl rfl)
theorem dX9_tape_17 : decode cX9_tape 17 = .ok (.invokestatic 93, 3) := dk_184 0 93 (dk_at dksX9_tape_0 17 rfl rfl)
theorem dX9_tape_20 : decode cX9_tape 20 = .ok (.ifCond .eq 13, 3) := dk_153 0 13 (dk_at dksX9_tape_0 20 rfl rfl)
theorem dX9_tape_23 : decode cX9_tape 23 = .ok (.iload_n 2, 1) := dk_28 (dk_at dksX9_tape_0 23 rfl rfl)
theorem dX9_tape_24 : decode cX9_tape 24 = .ok (.ifCond .lt 12, 3) := dk_155 0 12 (dk_at dksX9_tape_1 0 rfl rfl)
theorem dX9_tape_27 : decode cX9_tape 27 = .ok (.iload_n 3, 1) := dk_29 (dk_at dksX9_tape_1 3 rfl rfl)
theorem dX9_tape_28 : decode cX9_tape 28 = .ok (.bipush 60, 2) := dk_16 60 (dk_at dksX9_tape_1 4 rfl rfl)
theorem dX9_tape_30 : decode cX9_tape 30 = .ok (.if_icmp .le 6, 3) := dk_164 0 6 (dk_at dksX9_tape_1 6 rfl rfl)
theorem dX9_tape_33 : decode cX9_tape 33 = .ok (.bipush (-2), 2) := dk_16 254 (dk_at dksX9_tape_1 9 rfl rfl)
theorem dX9_tape_35 : decode cX9_tape 35 = .ok (.ireturn, 1) := dk_172 (dk_at dksX9_tape_1 11 rfl rfl)
theorem dX9_tape_36 : decode cX9_tape 36 = .ok (.iload_n 2, 1) := dk_28 (dk_at dksX9_tape_1 12 rfl rfl)
theorem dX9_tape_37 : decode cX9_tape 37 = .ok (.ifCond .lt 10, 3) := dk_155 0 10 (dk_at dksX9_tape_1 13 rfl rfl)
theorem dX9_tape_40 : decode cX9_tape 40 = .ok (.iload_n 3, 1) := dk_29 (dk_at dksX9_tape_1 16 rfl rfl)
theorem dX9_tape_41 : decode cX9_tape 41 = .ok (.ifCond .ge 6, 3) := dk_156 0 6 (dk_at dksX9_tape_1 17 rfl rfl)
theorem dX9_tape_44 : decode cX9_tape 44 = .ok (.bipush (-14), 2) := dk_16 242 (dk_at dksX9_tape_1 20 rfl rfl)
theorem dX9_tape_46 : decode cX9_tape 46 = .ok (.ireturn, 1) := dk_172 (dk_at dksX9_tape_1 22 rfl rfl)
theorem dX9_tape_47 : decode cX9_tape 47 = .ok (.aload_n 0, 1) := dk_42 (dk_at dksX9_tape_1 23 rfl rfl)
theorem dX9_tape_48 : decode cX9_tape 48 = .ok (.getfield 69, 3) := dk_180 0 69 (dk_at dksX9_tape_2 0 rfl rfl)
theorem dX9_tape_51 : decode cX9_tape 51 = .ok (.iload_n 1, 1) := dk_27 (dk_at dksX9_tape_2 3 rfl rfl)
theorem dX9_tape_52 : decode cX9_tape 52 = .ok (.iload_n 2, 1) := dk_28 (dk_at dksX9_tape_2 4 rfl rfl)
theorem dX9_tape_53 : decode cX9_tape 53 = .ok (.iastore, 1) := dk_79 (dk_at dksX9_tape_2 5 rfl rfl)
theorem dX9_tape_54 : decode cX9_tape 54 = .ok (.aload_n 0, 1) := dk_42 (dk_at dksX9_tape_2 6 rfl rfl)
theorem dX9_tape_55 : decode cX9_tape 55 = .ok (.getfield 72, 3) := dk_180 0 72 (dk_at dksX9_tape_2 7 rfl rfl)
theorem dX9_tape_58 : decode cX9_tape 58 = .ok (.iload_n 1, 1) := dk_27 (dk_at dksX9_tape_2 10 rfl rfl)
theorem dX9_tape_59 : decode cX9_tape 59 = .ok (.iload_n 2, 1) := dk_28 (dk_at dksX9_tape_2 11 rfl rfl)
theorem dX9_tape_60 : decode cX9_tape 60 = .ok (.ifCond .ge 7, 3) := dk_156 0 7 (dk_at dksX9_tape_2 12 rfl rfl)
theorem dX9_tape_63 : decode cX9_tape 63 = .ok (.iconst 0, 1) := dk_3 (dk_at dksX9_tape_2 15 rfl rfl)
theorem dX9_tape_64 : decode cX9_tape 64 = .ok (.goto 4, 3) := dk_167 0 4 (dk_at dksX9_tape_2 16 rfl rfl)
theorem dX9_tape_67 : decode cX9_tape 67 = .ok (.iload_n 3, 1) := dk_29 (dk_at dksX9_tape_2 19 rfl rfl)
theorem dX9_tape_68 : decode cX9_tape 68 = .ok (.iastore, 1) := dk_79 (dk_at dksX9_tape_2 20 rfl rfl)
theorem dX9_tape_69 : decode cX9_tape 69 = .ok (.iconst 0, 1) := dk_3 (dk_at dksX9_tape_2 21 rfl rfl)
theorem dX9_tape_70 : decode cX9_tape 70 = .ok (.istore 4, 2) := dk_54 4 (dk_at dksX9_tape_2 22 rfl rfl)
theorem dX9_tape_72 : decode cX9_tape 72 = .ok (.iload 4, 2) := dk_21 4 (dk_at dksX9_tape_3 0 rfl rfl)
theorem dX9_tape_74 : decode cX9_tape 74 = .ok (.aload_n 0, 1) := dk_42 (dk_at dksX9_tape_3 2 rfl rfl)
theorem dX9_tape_75 : decode cX9_tape 75 = .ok (.getfield 72, 3) := dk_180 0 72 (dk_at dksX9_tape_3 3 rfl rfl)
theorem dX9_tape_78 : decode cX9_tape 78 = .ok (.iload_n 1, 1) := dk_27 (dk_at dksX9_tape_3 6 rfl rfl)
theorem dX9_tape_79 : decode cX9_tape 79 = .ok (.iaload, 1) := dk_46 (dk_at dksX9_tape_3 7 rfl rfl)
theorem dX9_tape_80 : decode cX9_tape 80 = .ok (.if_icmp .ge 22, 3) := dk_162 0 22 (dk_at dksX9_tape_3 8 rfl rfl)
theorem dX9_tape_83 : decode cX9_tape 83 = .ok (.aload_n 0, 1) := dk_42 (dk_at dksX9_tape_3 11 rfl rfl)
theorem dX9_tape_84 : decode cX9_tape 84 = .ok (.getfield 75, 3) := dk_180 0 75 (dk_at dksX9_tape_3 12 rfl rfl)
theorem dX9_tape_87 : decode cX9_tape 87 = .ok (.bipush 60, 2) := dk_16 60 (dk_at dksX9_tape_3 15 rfl rfl)
theorem dX9_tape_89 : decode cX9_tape 89 = .ok (.iload_n 1, 1) := dk_27 (dk_at dksX9_tape_3 17 rfl rfl)
theorem dX9_tape_90 : decode cX9_tape 90 = .ok (.imul, 1) := dk_104 (dk_at dksX9_tape_3 18 rfl rfl)
theorem dX9_tape_91 : decode cX9_tape 91 = .ok (.iload 4, 2) := dk_21 4 (dk_at dksX9_tape_3 19 rfl rfl)
theorem dX9_tape_93 : decode cX9_tape 93 = .ok (.iadd, 1) := dk_96 (dk_at dksX9_tape_3 21 rfl rfl)
theorem dX9_tape_94 : decode cX9_tape 94 = .ok (.lconst 0, 1) := dk_9 (dk_at dksX9_tape_3 22 rfl rfl)
theorem dX9_tape_95 : decode cX9_tape 95 = .ok (.lastore, 1) := dk_80 (dk_at dksX9_tape_3 23 rfl rfl)
theorem dX9_tape_96 : decode cX9_tape 96 = .ok (.iinc 4 1, 3) := dk_132 4 1 (dk_at dksX9_tape_4 0 rfl rfl)
theorem dX9_tape_99 : decode cX9_tape 99 = .ok (.goto (-27), 3) := dk_167 255 229 (dk_at dksX9_tape_4 3 rfl rfl)
theorem dX9_tape_102 : decode cX9_tape 102 = .ok (.iconst 1, 1) := dk_4 (dk_at dksX9_tape_4 6 rfl rfl)
theorem dX9_tape_103 : decode cX9_tape 103 = .ok (.ireturn, 1) := dk_172 (dk_at dksX9_tape_4 7 rfl rfl)
abbrev cX9_item : ByteArray := prog_19_method_113_code
def yX9_item : MethodName := ⟨RX9, "item", "(IIJ)I"⟩
def dkwX9_item_2 : List UInt8 := [27, 104, 28, 96, 42, 180, 0, 69, 27, 46, 33, 184, 1, 197, 80, 4, 172]
abbrev dktX9_item_2 : List UInt8 := dkwX9_item_2 ++ []
def dkwX9_item_1 : List UInt8 := [42, 180, 0, 72, 27, 46, 4, 100, 133, 184, 0, 93, 154, 0, 6, 16, 243, 172, 42, 180, 0, 75, 16, 60]
abbrev dktX9_item_1 : List UInt8 := dkwX9_item_1 ++ dktX9_item_2
def dkwX9_item_0 : List UInt8 := [27, 184, 1, 191, 154, 0, 5, 2, 172, 42, 180, 0, 69, 27, 46, 156, 0, 6, 16, 245, 172, 28, 133, 9]
abbrev dktX9_item_0 : List UInt8 := dkwX9_item_0 ++ dktX9_item_1
theorem dksX9_item_0 : cX9_item.data.toList.drop 0 = dktX9_item_0 := by decide +kernel
theorem dksX9_item_1 : cX9_item.data.toList.drop 24 = dktX9_item_1 := dk_seg dksX9_item_0 24 rfl rfl
theorem dksX9_item_2 : cX9_item.data.toList.drop 48 = dktX9_item_2 := dk_seg dksX9_item_1 24 rfl rfl
theorem dX9_item_0 : decode cX9_item 0 = .ok (.iload_n 1, 1) := dk_27 (dk_at dksX9_item_0 0 rfl rfl)
theorem dX9_item_1 : decode cX9_item 1 = .ok (.invokestatic 447, 3) := dk_184 1 191 (dk_at dksX9_item_0 1 rfl rfl)
theorem dX9_item_4 : decode cX9_item 4 = .ok (.ifCond .ne 5, 3) := dk_154 0 5 (dk_at dksX9_item_0 4 rfl rfl)
theorem dX9_item_7 : decode cX9_item 7 = .ok (.iconst (-1), 1) := dk_2 (dk_at dksX9_item_0 7 rfl rfl)
theorem dX9_item_8 : decode cX9_item 8 = .ok (.ireturn, 1) := dk_172 (dk_at dksX9_item_0 8 rfl rfl)
theorem dX9_item_9 : decode cX9_item 9 = .ok (.aload_n 0, 1) := dk_42 (dk_at dksX9_item_0 9 rfl rfl)
theorem dX9_item_10 : decode cX9_item 10 = .ok (.getfield 69, 3) := dk_180 0 69 (dk_at dksX9_item_0 10 rfl rfl)
theorem dX9_item_13 : decode cX9_item 13 = .ok (.iload_n 1, 1) := dk_27 (dk_at dksX9_item_0 13 rfl rfl)
theorem dX9_item_14 : decode cX9_item 14 = .ok (.iaload, 1) := dk_46 (dk_at dksX9_item_0 14 rfl rfl)
theorem dX9_item_15 : decode cX9_item 15 = .ok (.ifCond .ge 6, 3) := dk_156 0 6 (dk_at dksX9_item_0 15 rfl rfl)
theorem dX9_item_18 : decode cX9_item 18 = .ok (.bipush (-11), 2) := dk_16 245 (dk_at dksX9_item_0 18 rfl rfl)
theorem dX9_item_20 : decode cX9_item 20 = .ok (.ireturn, 1) := dk_172 (dk_at dksX9_item_0 20 rfl rfl)
theorem dX9_item_21 : decode cX9_item 21 = .ok (.iload_n 2, 1) := dk_28 (dk_at dksX9_item_0 21 rfl rfl)
theorem dX9_item_22 : decode cX9_item 22 = .ok (.i2l, 1) := dk_133 (dk_at dksX9_item_0 22 rfl rfl)
theorem dX9_item_23 : decode cX9_item 23 = .ok (.lconst 0, 1) := dk_9 (dk_at dksX9_item_0 23 rfl rfl)
theorem dX9_item_24 : decode cX9_item 24 = .ok (.aload_n 0, 1) := dk_42 (dk_at dksX9_item_1 0 rfl rfl)
theorem dX9_item_25 : decode cX9_item 25 = .ok (.getfield 72, 3) := dk_180 0 72 (dk_at dksX9_item_1 1 rfl rfl)
theorem dX9_item_28 : decode cX9_item 28 = .ok (.iload_n 1, 1) := dk_27 (dk_at dksX9_item_1 4 rfl rfl)
theorem dX9_item_29 : decode cX9_item 29 = .ok (.iaload, 1) := dk_46 (dk_at dksX9_item_1 5 rfl rfl)
theorem dX9_item_30 : decode cX9_item 30 = .ok (.iconst 1, 1) := dk_4 (dk_at dksX9_item_1 6 rfl rfl)
theorem dX9_item_31 : decode cX9_item 31 = .ok (.isub, 1) := dk_100 (dk_at dksX9_item_1 7 rfl rfl)
theorem dX9_item_32 : decode cX9_item 32 = .ok (.i2l, 1) := dk_133 (dk_at dksX9_item_1 8 rfl rfl)
theorem dX9_item_33 : decode cX9_item 33 = .ok (.invokestatic 93, 3) := dk_184 0 93 (dk_at dksX9_item_1 9 rfl rfl)
theorem dX9_item_36 : decode cX9_item 36 = .ok (.ifCond .ne 6, 3) := dk_154 0 6 (dk_at dksX9_item_1 12 rfl rfl)
theorem dX9_item_39 : decode cX9_item 39 = .ok (.bipush (-13), 2) := dk_16 243 (dk_at dksX9_item_1 15 rfl rfl)
theorem dX9_item_41 : decode cX9_item 41 = .ok (.ireturn, 1) := dk_172 (dk_at dksX9_item_1 17 rfl rfl)
theorem dX9_item_42 : decode cX9_item 42 = .ok (.aload_n 0, 1) := dk_42 (dk_at dksX9_item_1 18 rfl rfl)
theorem dX9_item_43 : decode cX9_item 43 = .ok (.getfield 75, 3) := dk_180 0 75 (dk_at dksX9_item_1 19 rfl rfl)
theorem dX9_item_46 : decode cX9_item 46 = .ok (.bipush 60, 2) := dk_16 60 (dk_at dksX9_item_1 22 rfl rfl)
theorem dX9_item_48 : decode cX9_item 48 = .ok (.iload_n 1, 1) := dk_27 (dk_at dksX9_item_2 0 rfl rfl)
theorem dX9_item_49 : decode cX9_item 49 = .ok (.imul, 1) := dk_104 (dk_at dksX9_item_2 1 rfl rfl)
theorem dX9_item_50 : decode cX9_item 50 = .ok (.iload_n 2, 1) := dk_28 (dk_at dksX9_item_2 2 rfl rfl)
theorem dX9_item_51 : decode cX9_item 51 = .ok (.iadd, 1) := dk_96 (dk_at dksX9_item_2 3 rfl rfl)
theorem dX9_item_52 : decode cX9_item 52 = .ok (.aload_n 0, 1) := dk_42 (dk_at dksX9_item_2 4 rfl rfl)
theorem dX9_item_53 : decode cX9_item 53 = .ok (.getfield 69, 3) := dk_180 0 69 (dk_at dksX9_item_2 5 rfl rfl)
theorem dX9_item_56 : decode cX9_item 56 = .ok (.iload_n 1, 1) := dk_27 (dk_at dksX9_item_2 8 rfl rfl)
theorem dX9_item_57 : decode cX9_item 57 = .ok (.iaload, 1) := dk_46 (dk_at dksX9_item_2 9 rfl rfl)
theorem dX9_item_58 : decode cX9_item 58 = .ok (.lload_n 3, 1) := dk_33 (dk_at dksX9_item_2 10 rfl rfl)
theorem dX9_item_59 : decode cX9_item 59 = .ok (.invokestatic 453, 3) := dk_184 1 197 (dk_at dksX9_item_2 11 rfl rfl)
theorem dX9_item_62 : decode cX9_item 62 = .ok (.lastore, 1) := dk_80 (dk_at dksX9_item_2 14 rfl rfl)
theorem dX9_item_63 : decode cX9_item 63 = .ok (.iconst 1, 1) := dk_4 (dk_at dksX9_item_2 15 rfl rfl)
theorem dX9_item_64 : decode cX9_item 64 = .ok (.ireturn, 1) := dk_172 (dk_at dksX9_item_2 16 rfl rfl)
abbrev cX9_held : ByteArray := prog_19_method_112_code
def yX9_held : MethodName := ⟨RX9, "held", "(IJ)J"⟩
def dkwX9_held_3 : List UInt8 := [167, 0, 4, 9, 173]
abbrev dktX9_held_3 : List UInt8 := dkwX9_held_3 ++ []
def dkwX9_held_2 : List UInt8 := [31, 136, 145, 133, 173, 31, 136, 147, 133, 173, 31, 136, 133, 173, 31, 173, 31, 9, 148, 153, 0, 7, 10]
abbrev dktX9_held_2 : List UInt8 := dkwX9_held_2 ++ dktX9_held_3
def dkwX9_held_1 : List UInt8 := [170, 0, 0, 0, 0, 0, 47, 0, 0, 0, 0, 0, 0, 0, 3, 0, 0, 0, 31, 0, 0, 0, 36, 0, 0, 0, 41, 0, 0, 0, 45]
abbrev dktX9_held_1 : List UInt8 := dkwX9_held_1 ++ dktX9_held_2
def dkwX9_held_0 : List UInt8 := [26]
abbrev dktX9_held_0 : List UInt8 := dkwX9_held_0 ++ dktX9_held_1
theorem dksX9_held_0 : cX9_held.data.toList.drop 0 = dktX9_held_0 := by decide +kernel
theorem dksX9_held_1 : cX9_held.data.toList.drop 1 = dktX9_held_1 := dk_seg dksX9_held_0 1 rfl rfl
theorem dksX9_held_2 : cX9_held.data.toList.drop 32 = dktX9_held_2 := dk_seg dksX9_held_1 31 rfl rfl
theorem dksX9_held_3 : cX9_held.data.toList.drop 55 = dktX9_held_3 := dk_seg dksX9_held_2 23 rfl rfl
theorem dX9_held_0 : decode cX9_held 0 = .ok (.iload_n 0, 1) := dk_26 (dk_at dksX9_held_0 0 rfl rfl)
theorem dX9_held_1 : decode cX9_held 1 = .ok (.tableswitch 47 0 3 #[31, 36, 41, 45], 31) := by decide +kernel
theorem dX9_held_32 : decode cX9_held 32 = .ok (.lload_n 1, 1) := dk_31 (dk_at dksX9_held_2 0 rfl rfl)
theorem dX9_held_33 : decode cX9_held 33 = .ok (.l2i, 1) := dk_136 (dk_at dksX9_held_2 1 rfl rfl)
theorem dX9_held_34 : decode cX9_held 34 = .ok (.i2b, 1) := dk_145 (dk_at dksX9_held_2 2 rfl rfl)
theorem dX9_held_35 : decode cX9_held 35 = .ok (.i2l, 1) := dk_133 (dk_at dksX9_held_2 3 rfl rfl)
theorem dX9_held_36 : decode cX9_held 36 = .ok (.lreturn, 1) := dk_173 (dk_at dksX9_held_2 4 rfl rfl)
theorem dX9_held_37 : decode cX9_held 37 = .ok (.lload_n 1, 1) := dk_31 (dk_at dksX9_held_2 5 rfl rfl)
theorem dX9_held_38 : decode cX9_held 38 = .ok (.l2i, 1) := dk_136 (dk_at dksX9_held_2 6 rfl rfl)
theorem dX9_held_39 : decode cX9_held 39 = .ok (.i2s, 1) := dk_147 (dk_at dksX9_held_2 7 rfl rfl)
theorem dX9_held_40 : decode cX9_held 40 = .ok (.i2l, 1) := dk_133 (dk_at dksX9_held_2 8 rfl rfl)
theorem dX9_held_41 : decode cX9_held 41 = .ok (.lreturn, 1) := dk_173 (dk_at dksX9_held_2 9 rfl rfl)
theorem dX9_held_42 : decode cX9_held 42 = .ok (.lload_n 1, 1) := dk_31 (dk_at dksX9_held_2 10 rfl rfl)
theorem dX9_held_43 : decode cX9_held 43 = .ok (.l2i, 1) := dk_136 (dk_at dksX9_held_2 11 rfl rfl)
theorem dX9_held_44 : decode cX9_held 44 = .ok (.i2l, 1) := dk_133 (dk_at dksX9_held_2 12 rfl rfl)
theorem dX9_held_45 : decode cX9_held 45 = .ok (.lreturn, 1) := dk_173 (dk_at dksX9_held_2 13 rfl rfl)
theorem dX9_held_46 : decode cX9_held 46 = .ok (.lload_n 1, 1) := dk_31 (dk_at dksX9_held_2 14 rfl rfl)
theorem dX9_held_47 : decode cX9_held 47 = .ok (.lreturn, 1) := dk_173 (dk_at dksX9_held_2 15 rfl rfl)
theorem dX9_held_48 : decode cX9_held 48 = .ok (.lload_n 1, 1) := dk_31 (dk_at dksX9_held_2 16 rfl rfl)
theorem dX9_held_49 : decode cX9_held 49 = .ok (.lconst 0, 1) := dk_9 (dk_at dksX9_held_2 17 rfl rfl)
theorem dX9_held_50 : decode cX9_held 50 = .ok (.lcmp, 1) := dk_148 (dk_at dksX9_held_2 18 rfl rfl)
theorem dX9_held_51 : decode cX9_held 51 = .ok (.ifCond .eq 7, 3) := dk_153 0 7 (dk_at dksX9_held_2 19 rfl rfl)
theorem dX9_held_54 : decode cX9_held 54 = .ok (.lconst 1, 1) := dk_10 (dk_at dksX9_held_2 22 rfl rfl)
theorem dX9_held_55 : decode cX9_held 55 = .ok (.goto 4, 3) := dk_167 0 4 (dk_at dksX9_held_3 0 rfl rfl)
theorem dX9_held_58 : decode cX9_held 58 = .ok (.lconst 0, 1) := dk_9 (dk_at dksX9_held_3 3 rfl rfl)
theorem dX9_held_59 : decode cX9_held 59 = .ok (.lreturn, 1) := dk_173 (dk_at dksX9_held_3 4 rfl rfl)
abbrev cX9_peek : ByteArray := prog_19_method_114_code
def yX9_peek : MethodName := ⟨RX9, "peek", "(II)J"⟩
def dkwX9_peek_2 : List UInt8 := [20, 1, 50, 173]
abbrev dktX9_peek_2 : List UInt8 := dkwX9_peek_2 ++ []
def dkwX9_peek_1 : List UInt8 := [46, 4, 100, 133, 184, 0, 93, 153, 0, 17, 42, 180, 0, 75, 16, 60, 27, 104, 28, 96, 47, 167, 0, 6]
abbrev dktX9_peek_1 : List UInt8 := dkwX9_peek_1 ++ dktX9_peek_2
def dkwX9_peek_0 : List UInt8 := [27, 184, 1, 191, 153, 0, 44, 42, 180, 0, 69, 27, 46, 155, 0, 35, 28, 133, 9, 42, 180, 0, 72, 27]
abbrev dktX9_peek_0 : List UInt8 := dkwX9_peek_0 ++ dktX9_peek_1
theorem dksX9_peek_0 : cX9_peek.data.toList.drop 0 = dktX9_peek_0 := by decide +kernel
theorem dksX9_peek_1 : cX9_peek.data.toList.drop 24 = dktX9_peek_1 := dk_seg dksX9_peek_0 24 rfl rfl
theorem dksX9_peek_2 : cX9_peek.data.toList.drop 48 = dktX9_peek_2 := dk_seg dksX9_peek_1 24 rfl rfl
theorem dX9_peek_0 : decode cX9_peek 0 = .ok (.iload_n 1, 1) := dk_27 (dk_at dksX9_peek_0 0 rfl rfl)
theorem dX9_peek_1 : decode cX9_peek 1 = .ok (.invokestatic 447, 3) := dk_184 1 191 (dk_at dksX9_peek_0 1 rfl rfl)
theorem dX9_peek_4 : decode cX9_peek 4 = .ok (.ifCond .eq 44, 3) := dk_153 0 44 (dk_at dksX9_peek_0 4 rfl rfl)
theorem dX9_peek_7 : decode cX9_peek 7 = .ok (.aload_n 0, 1) := dk_42 (dk_at dksX9_peek_0 7 rfl rfl)
theorem dX9_peek_8 : decode cX9_peek 8 = .ok (.getfield 69, 3) := dk_180 0 69 (dk_at dksX9_peek_0 8 rfl rfl)
theorem dX9_peek_11 : decode cX9_peek 11 = .ok (.iload_n 1, 1) := dk_27 (dk_at dksX9_peek_0 11 rfl rfl)
theorem dX9_peek_12 : decode cX9_peek 12 = .ok (.iaload, 1) := dk_46 (dk_at dksX9_peek_0 12 rfl rfl)
theorem dX9_peek_13 : decode cX9_peek 13 = .ok (.ifCond .lt 35, 3) := dk_155 0 35 (dk_at dksX9_peek_0 13 rfl rfl)
theorem dX9_peek_16 : decode cX9_peek 16 = .ok (.iload_n 2, 1) := dk_28 (dk_at dksX9_peek_0 16 rfl rfl)
theorem dX9_peek_17 : decode cX9_peek 17 = .ok (.i2l, 1) := dk_133 (dk_at dksX9_peek_0 17 rfl rfl)
theorem dX9_peek_18 : decode cX9_peek 18 = .ok (.lconst 0, 1) := dk_9 (dk_at dksX9_peek_0 18 rfl rfl)
theorem dX9_peek_19 : decode cX9_peek 19 = .ok (.aload_n 0, 1) := dk_42 (dk_at dksX9_peek_0 19 rfl rfl)
theorem dX9_peek_20 : decode cX9_peek 20 = .ok (.getfield 72, 3) := dk_180 0 72 (dk_at dksX9_peek_0 20 rfl rfl)
theorem dX9_peek_23 : decode cX9_peek 23 = .ok (.iload_n 1, 1) := dk_27 (dk_at dksX9_peek_0 23 rfl rfl)
theorem dX9_peek_24 : decode cX9_peek 24 = .ok (.iaload, 1) := dk_46 (dk_at dksX9_peek_1 0 rfl rfl)
theorem dX9_peek_25 : decode cX9_peek 25 = .ok (.iconst 1, 1) := dk_4 (dk_at dksX9_peek_1 1 rfl rfl)
theorem dX9_peek_26 : decode cX9_peek 26 = .ok (.isub, 1) := dk_100 (dk_at dksX9_peek_1 2 rfl rfl)
theorem dX9_peek_27 : decode cX9_peek 27 = .ok (.i2l, 1) := dk_133 (dk_at dksX9_peek_1 3 rfl rfl)
theorem dX9_peek_28 : decode cX9_peek 28 = .ok (.invokestatic 93, 3) := dk_184 0 93 (dk_at dksX9_peek_1 4 rfl rfl)
theorem dX9_peek_31 : decode cX9_peek 31 = .ok (.ifCond .eq 17, 3) := dk_153 0 17 (dk_at dksX9_peek_1 7 rfl rfl)
theorem dX9_peek_34 : decode cX9_peek 34 = .ok (.aload_n 0, 1) := dk_42 (dk_at dksX9_peek_1 10 rfl rfl)
theorem dX9_peek_35 : decode cX9_peek 35 = .ok (.getfield 75, 3) := dk_180 0 75 (dk_at dksX9_peek_1 11 rfl rfl)
theorem dX9_peek_38 : decode cX9_peek 38 = .ok (.bipush 60, 2) := dk_16 60 (dk_at dksX9_peek_1 14 rfl rfl)
theorem dX9_peek_40 : decode cX9_peek 40 = .ok (.iload_n 1, 1) := dk_27 (dk_at dksX9_peek_1 16 rfl rfl)
theorem dX9_peek_41 : decode cX9_peek 41 = .ok (.imul, 1) := dk_104 (dk_at dksX9_peek_1 17 rfl rfl)
theorem dX9_peek_42 : decode cX9_peek 42 = .ok (.iload_n 2, 1) := dk_28 (dk_at dksX9_peek_1 18 rfl rfl)
theorem dX9_peek_43 : decode cX9_peek 43 = .ok (.iadd, 1) := dk_96 (dk_at dksX9_peek_1 19 rfl rfl)
theorem dX9_peek_44 : decode cX9_peek 44 = .ok (.laload, 1) := dk_47 (dk_at dksX9_peek_1 20 rfl rfl)
theorem dX9_peek_45 : decode cX9_peek 45 = .ok (.goto 6, 3) := dk_167 0 6 (dk_at dksX9_peek_1 21 rfl rfl)
theorem dX9_peek_48 : decode cX9_peek 48 = .ok (.ldc2_w 306, 3) := dk_20 1 50 (dk_at dksX9_peek_2 0 rfl rfl)
theorem dX9_peek_51 : decode cX9_peek 51 = .ok (.lreturn, 1) := dk_173 (dk_at dksX9_peek_2 3 rfl rfl)
abbrev cX9_shift : ByteArray := prog_19_method_115_code
def yX9_shift : MethodName := ⟨RX9, "shift", "(IIIII)I"⟩
def dkwX9_shift_7 : List UInt8 := [180, 0, 78, 21, 6, 47, 80, 132, 6, 1, 167, 255, 224, 21, 5, 172]
abbrev dktX9_shift_7 : List UInt8 := dkwX9_shift_7 ++ []
def dkwX9_shift_6 : List UInt8 := [54, 6, 21, 6, 21, 5, 162, 0, 31, 42, 180, 0, 75, 16, 60, 29, 104, 21, 4, 96, 21, 6, 96, 42]
abbrev dktX9_shift_6 : List UInt8 := dkwX9_shift_6 ++ dktX9_shift_7
def dkwX9_shift_5 : List UInt8 := [21, 6, 42, 180, 0, 75, 16, 60, 27, 104, 28, 96, 21, 6, 96, 47, 80, 132, 6, 1, 167, 255, 225, 3]
abbrev dktX9_shift_5 : List UInt8 := dkwX9_shift_5 ++ dktX9_shift_6
def dkwX9_shift_4 : List UInt8 := [21, 5, 100, 164, 0, 6, 16, 243, 172, 3, 54, 6, 21, 6, 21, 5, 162, 0, 30, 42, 180, 0, 78]
abbrev dktX9_shift_4 : List UInt8 := dkwX9_shift_4 ++ dktX9_shift_5
def dkwX9_shift_3 : List UInt8 := [155, 0, 30, 28, 42, 180, 0, 72, 27, 46, 21, 5, 100, 163, 0, 17, 21, 4, 42, 180, 0, 72, 29, 46]
abbrev dktX9_shift_3 : List UInt8 := dkwX9_shift_3 ++ dktX9_shift_4
def dkwX9_shift_2 : List UInt8 := [180, 0, 69, 29, 46, 159, 0, 6, 16, 244, 172, 21, 5, 155, 0, 39, 28, 155, 0, 35, 21, 4]
abbrev dktX9_shift_2 : List UInt8 := dkwX9_shift_2 ++ dktX9_shift_3
def dkwX9_shift_1 : List UInt8 := [155, 0, 12, 42, 180, 0, 69, 29, 46, 156, 0, 6, 16, 245, 172, 42, 180, 0, 69, 27, 46, 42]
abbrev dktX9_shift_1 : List UInt8 := dkwX9_shift_1 ++ dktX9_shift_2
def dkwX9_shift_0 : List UInt8 := [27, 184, 1, 191, 153, 0, 10, 29, 184, 1, 191, 154, 0, 5, 2, 172, 42, 180, 0, 69, 27, 46]
abbrev dktX9_shift_0 : List UInt8 := dkwX9_shift_0 ++ dktX9_shift_1
theorem dksX9_shift_0 : cX9_shift.data.toList.drop 0 = dktX9_shift_0 := by decide +kernel
theorem dksX9_shift_1 : cX9_shift.data.toList.drop 22 = dktX9_shift_1 := dk_seg dksX9_shift_0 22 rfl rfl
theorem dksX9_shift_2 : cX9_shift.data.toList.drop 44 = dktX9_shift_2 := dk_seg dksX9_shift_1 22 rfl rfl
theorem dksX9_shift_3 : cX9_shift.data.toList.drop 66 = dktX9_shift_3 := dk_seg dksX9_shift_2 22 rfl rfl
theorem dksX9_shift_4 : cX9_shift.data.toList.drop 90 = dktX9_shift_4 := dk_seg dksX9_shift_3 24 rfl rfl
theorem dksX9_shift_5 : cX9_shift.data.toList.drop 113 = dktX9_shift_5 := dk_seg dksX9_shift_4 23 rfl rfl
theorem dksX9_shift_6 : cX9_shift.data.toList.drop 137 = dktX9_shift_6 := dk_seg dksX9_shift_5 24 rfl rfl
theorem dksX9_shift_7 : cX9_shift.data.toList.drop 161 = dktX9_shift_7 := dk_seg dksX9_shift_6 24 rfl rfl
theorem dX9_shift_0 : decode cX9_shift 0 = .ok (.iload_n 1, 1) := dk_27 (dk_at dksX9_shift_0 0 rfl rfl)
theorem dX9_shift_1 : decode cX9_shift 1 = .ok (.invokestatic 447, 3) := dk_184 1 191 (dk_at dksX9_shift_0 1 rfl rfl)
theorem dX9_shift_4 : decode cX9_shift 4 = .ok (.ifCond .eq 10, 3) := dk_153 0 10 (dk_at dksX9_shift_0 4 rfl rfl)
theorem dX9_shift_7 : decode cX9_shift 7 = .ok (.iload_n 3, 1) := dk_29 (dk_at dksX9_shift_0 7 rfl rfl)
theorem dX9_shift_8 : decode cX9_shift 8 = .ok (.invokestatic 447, 3) := dk_184 1 191 (dk_at dksX9_shift_0 8 rfl rfl)
theorem dX9_shift_11 : decode cX9_shift 11 = .ok (.ifCond .ne 5, 3) := dk_154 0 5 (dk_at dksX9_shift_0 11 rfl rfl)
theorem dX9_shift_14 : decode cX9_shift 14 = .ok (.iconst (-1), 1) := dk_2 (dk_at dksX9_shift_0 14 rfl rfl)
theorem dX9_shift_15 : decode cX9_shift 15 = .ok (.ireturn, 1) := dk_172 (dk_at dksX9_shift_0 15 rfl rfl)
theorem dX9_shift_16 : decode cX9_shift 16 = .ok (.aload_n 0, 1) := dk_42 (dk_at dksX9_shift_0 16 rfl rfl)
theorem dX9_shift_17 : decode cX9_shift 17 = .ok (.getfield 69, 3) := dk_180 0 69 (dk_at dksX9_shift_0 17 rfl rfl)
theorem dX9_shift_20 : decode cX9_shift 20 = .ok (.iload_n 1, 1) := dk_27 (dk_at dksX9_shift_0 20 rfl rfl)
theorem dX9_shift_21 : decode cX9_shift 21 = .ok (.iaload, 1) := dk_46 (dk_at dksX9_shift_0 21 rfl rfl)
theorem dX9_shift_22 : decode cX9_shift 22 = .ok (.ifCond .lt 12, 3) := dk_155 0 12 (dk_at dksX9_shift_1 0 rfl rfl)
theorem dX9_shift_25 : decode cX9_shift 25 = .ok (.aload_n 0, 1) := dk_42 (dk_at dksX9_shift_1 3 rfl rfl)
theorem dX9_shift_26 : decode cX9_shift 26 = .ok (.getfield 69, 3) := dk_180 0 69 (dk_at dksX9_shift_1 4 rfl rfl)
theorem dX9_shift_29 : decode cX9_shift 29 = .ok (.iload_n 3, 1) := dk_29 (dk_at dksX9_shift_1 7 rfl rfl)
theorem dX9_shift_30 : decode cX9_shift 30 = .ok (.iaload, 1) := dk_46 (dk_at dksX9_shift_1 8 rfl rfl)
theorem dX9_shift_31 : decode cX9_shift 31 = .ok (.ifCond .ge 6, 3) := dk_156 0 6 (dk_at dksX9_shift_1 9 rfl rfl)
theorem dX9_shift_34 : decode cX9_shift 34 = .ok (.bipush (-11), 2) := dk_16 245 (dk_at dksX9_shift_1 12 rfl rfl)
theorem dX9_shift_36 : decode cX9_shift 36 = .ok (.ireturn, 1) := dk_172 (dk_at dksX9_shift_1 14 rfl rfl)
theorem dX9_shift_37 : decode cX9_shift 37 = .ok (.aload_n 0, 1) := dk_42 (dk_at dksX9_shift_1 15 rfl rfl)
theorem dX9_shift_38 : decode cX9_shift 38 = .ok (.getfield 69, 3) := dk_180 0 69 (dk_at dksX9_shift_1 16 rfl rfl)
theorem dX9_shift_41 : decode cX9_shift 41 = .ok (.iload_n 1, 1) := dk_27 (dk_at dksX9_shift_1 19 rfl rfl)
theorem dX9_shift_42 : decode cX9_shift 42 = .ok (.iaload, 1) := dk_46 (dk_at dksX9_shift_1 20 rfl rfl)
theorem dX9_shift_43 : decode cX9_shift 43 = .ok (.aload_n 0, 1) := dk_42 (dk_at dksX9_shift_1 21 rfl rfl)
theorem dX9_shift_44 : decode cX9_shift 44 = .ok (.getfield 69, 3) := dk_180 0 69 (dk_at dksX9_shift_2 0 rfl rfl)
theorem dX9_shift_47 : decode cX9_shift 47 = .ok (.iload_n 3, 1) := dk_29 (dk_at dksX9_shift_2 3 rfl rfl)
theorem dX9_shift_48 : decode cX9_shift 48 = .ok (.iaload, 1) := dk_46 (dk_at dksX9_shift_2 4 rfl rfl)
theorem dX9_shift_49 : decode cX9_shift 49 = .ok (.if_icmp .eq 6, 3) := dk_159 0 6 (dk_at dksX9_shift_2 5 rfl rfl)
theorem dX9_shift_52 : decode cX9_shift 52 = .ok (.bipush (-12), 2) := dk_16 244 (dk_at dksX9_shift_2 8 rfl rfl)
theorem dX9_shift_54 : decode cX9_shift 54 = .ok (.ireturn, 1) := dk_172 (dk_at dksX9_shift_2 10 rfl rfl)
theorem dX9_shift_55 : decode cX9_shift 55 = .ok (.iload 5, 2) := dk_21 5 (dk_at dksX9_shift_2 11 rfl rfl)
theorem dX9_shift_57 : decode cX9_shift 57 = .ok (.ifCond .lt 39, 3) := dk_155 0 39 (dk_at dksX9_shift_2 13 rfl rfl)
theorem dX9_shift_60 : decode cX9_shift 60 = .ok (.iload_n 2, 1) := dk_28 (dk_at dksX9_shift_2 16 rfl rfl)
theorem dX9_shift_61 : decode cX9_shift 61 = .ok (.ifCond .lt 35, 3) := dk_155 0 35 (dk_at dksX9_shift_2 17 rfl rfl)
theorem dX9_shift_64 : decode cX9_shift 64 = .ok (.iload 4, 2) := dk_21 4 (dk_at dksX9_shift_2 20 rfl rfl)
theorem dX9_shift_66 : decode cX9_shift 66 = .ok (.ifCond .lt 30, 3) := dk_155 0 30 (dk_at dksX9_shift_3 0 rfl rfl)
theorem dX9_shift_69 : decode cX9_shift 69 = .ok (.iload_n 2, 1) := dk_28 (dk_at dksX9_shift_3 3 rfl rfl)
theorem dX9_shift_70 : decode cX9_shift 70 = .ok (.aload_n 0, 1) := dk_42 (dk_at dksX9_shift_3 4 rfl rfl)
theorem dX9_shift_71 : decode cX9_shift 71 = .ok (.getfield 72, 3) := dk_180 0 72 (dk_at dksX9_shift_3 5 rfl rfl)
theorem dX9_shift_74 : decode cX9_shift 74 = .ok (.iload_n 1, 1) := dk_27 (dk_at dksX9_shift_3 8 rfl rfl)
theorem dX9_shift_75 : decode cX9_shift 75 = .ok (.iaload, 1) := dk_46 (dk_at dksX9_shift_3 9 rfl rfl)
theorem dX9_shift_76 : decode cX9_shift 76 = .ok (.iload 5, 2) := dk_21 5 (dk_at dksX9_shift_3 10 rfl rfl)
theorem dX9_shift_78 : decode cX9_shift 78 = .ok (.isub, 1) := dk_100 (dk_at dksX9_shift_3 12 rfl rfl)
theorem dX9_shift_79 : decode cX9_shift 79 = .ok (.if_icmp .gt 17, 3) := dk_163 0 17 (dk_at dksX9_shift_3 13 rfl rfl)
theorem dX9_shift_82 : decode cX9_shift 82 = .ok (.iload 4, 2) := dk_21 4 (dk_at dksX9_shift_3 16 rfl rfl)
theorem dX9_shift_84 : decode cX9_shift 84 = .ok (.aload_n 0, 1) := dk_42 (dk_at dksX9_shift_3 18 rfl rfl)
theorem dX9_shift_85 : decode cX9_shift 85 = .ok (.getfield 72, 3) := dk_180 0 72 (dk_at dksX9_shift_3 19 rfl rfl)
theorem dX9_shift_88 : decode cX9_shift 88 = .ok (.iload_n 3, 1) := dk_29 (dk_at dksX9_shift_3 22 rfl rfl)
theorem dX9_shift_89 : decode cX9_shift 89 = .ok (.iaload, 1) := dk_46 (dk_at dksX9_shift_3 23 rfl rfl)
theorem dX9_shift_90 : decode cX9_shift 90 = .ok (.iload 5, 2) := dk_21 5 (dk_at dksX9_shift_4 0 rfl rfl)
theorem dX9_shift_92 : decode cX9_shift 92 = .ok (.isub, 1) := dk_100 (dk_at dksX9_shift_4 2 rfl rfl)
theorem dX9_shift_93 : decode cX9_shift 93 = .ok (.if_icmp .le 6, 3) := dk_164 0 6 (dk_at dksX9_shift_4 3 rfl rfl)
theorem dX9_shift_96 : decode cX9_shift 96 = .ok (.bipush (-13), 2) := dk_16 243 (dk_at dksX9_shift_4 6 rfl rfl)
theorem dX9_shift_98 : decode cX9_shift 98 = .ok (.ireturn, 1) := dk_172 (dk_at dksX9_shift_4 8 rfl rfl)
theorem dX9_shift_99 : decode cX9_shift 99 = .ok (.iconst 0, 1) := dk_3 (dk_at dksX9_shift_4 9 rfl rfl)
theorem dX9_shift_100 : decode cX9_shift 100 = .ok (.istore 6, 2) := dk_54 6 (dk_at dksX9_shift_4 10 rfl rfl)
theorem dX9_shift_102 : decode cX9_shift 102 = .ok (.iload 6, 2) := dk_21 6 (dk_at dksX9_shift_4 12 rfl rfl)
theorem dX9_shift_104 : decode cX9_shift 104 = .ok (.iload 5, 2) := dk_21 5 (dk_at dksX9_shift_4 14 rfl rfl)
theorem dX9_shift_106 : decode cX9_shift 106 = .ok (.if_icmp .ge 30, 3) := dk_162 0 30 (dk_at dksX9_shift_4 16 rfl rfl)
theorem dX9_shift_109 : decode cX9_shift 109 = .ok (.aload_n 0, 1) := dk_42 (dk_at dksX9_shift_4 19 rfl rfl)
theorem dX9_shift_110 : decode cX9_shift 110 = .ok (.getfield 78, 3) := dk_180 0 78 (dk_at dksX9_shift_4 20 rfl rfl)
theorem dX9_shift_113 : decode cX9_shift 113 = .ok (.iload 6, 2) := dk_21 6 (dk_at dksX9_shift_5 0 rfl rfl)
theorem dX9_shift_115 : decode cX9_shift 115 = .ok (.aload_n 0, 1) := dk_42 (dk_at dksX9_shift_5 2 rfl rfl)
theorem dX9_shift_116 : decode cX9_shift 116 = .ok (.getfield 75, 3) := dk_180 0 75 (dk_at dksX9_shift_5 3 rfl rfl)
theorem dX9_shift_119 : decode cX9_shift 119 = .ok (.bipush 60, 2) := dk_16 60 (dk_at dksX9_shift_5 6 rfl rfl)
theorem dX9_shift_121 : decode cX9_shift 121 = .ok (.iload_n 1, 1) := dk_27 (dk_at dksX9_shift_5 8 rfl rfl)
theorem dX9_shift_122 : decode cX9_shift 122 = .ok (.imul, 1) := dk_104 (dk_at dksX9_shift_5 9 rfl rfl)
theorem dX9_shift_123 : decode cX9_shift 123 = .ok (.iload_n 2, 1) := dk_28 (dk_at dksX9_shift_5 10 rfl rfl)
theorem dX9_shift_124 : decode cX9_shift 124 = .ok (.iadd, 1) := dk_96 (dk_at dksX9_shift_5 11 rfl rfl)
theorem dX9_shift_125 : decode cX9_shift 125 = .ok (.iload 6, 2) := dk_21 6 (dk_at dksX9_shift_5 12 rfl rfl)
theorem dX9_shift_127 : decode cX9_shift 127 = .ok (.iadd, 1) := dk_96 (dk_at dksX9_shift_5 14 rfl rfl)
theorem dX9_shift_128 : decode cX9_shift 128 = .ok (.laload, 1) := dk_47 (dk_at dksX9_shift_5 15 rfl rfl)
theorem dX9_shift_129 : decode cX9_shift 129 = .ok (.lastore, 1) := dk_80 (dk_at dksX9_shift_5 16 rfl rfl)
theorem dX9_shift_130 : decode cX9_shift 130 = .ok (.iinc 6 1, 3) := dk_132 6 1 (dk_at dksX9_shift_5 17 rfl rfl)
theorem dX9_shift_133 : decode cX9_shift 133 = .ok (.goto (-31), 3) := dk_167 255 225 (dk_at dksX9_shift_5 20 rfl rfl)
theorem dX9_shift_136 : decode cX9_shift 136 = .ok (.iconst 0, 1) := dk_3 (dk_at dksX9_shift_5 23 rfl rfl)
theorem dX9_shift_137 : decode cX9_shift 137 = .ok (.istore 6, 2) := dk_54 6 (dk_at dksX9_shift_6 0 rfl rfl)
theorem dX9_shift_139 : decode cX9_shift 139 = .ok (.iload 6, 2) := dk_21 6 (dk_at dksX9_shift_6 2 rfl rfl)
theorem dX9_shift_141 : decode cX9_shift 141 = .ok (.iload 5, 2) := dk_21 5 (dk_at dksX9_shift_6 4 rfl rfl)
theorem dX9_shift_143 : decode cX9_shift 143 = .ok (.if_icmp .ge 31, 3) := dk_162 0 31 (dk_at dksX9_shift_6 6 rfl rfl)
theorem dX9_shift_146 : decode cX9_shift 146 = .ok (.aload_n 0, 1) := dk_42 (dk_at dksX9_shift_6 9 rfl rfl)
theorem dX9_shift_147 : decode cX9_shift 147 = .ok (.getfield 75, 3) := dk_180 0 75 (dk_at dksX9_shift_6 10 rfl rfl)
theorem dX9_shift_150 : decode cX9_shift 150 = .ok (.bipush 60, 2) := dk_16 60 (dk_at dksX9_shift_6 13 rfl rfl)
theorem dX9_shift_152 : decode cX9_shift 152 = .ok (.iload_n 3, 1) := dk_29 (dk_at dksX9_shift_6 15 rfl rfl)
theorem dX9_shift_153 : decode cX9_shift 153 = .ok (.imul, 1) := dk_104 (dk_at dksX9_shift_6 16 rfl rfl)
theorem dX9_shift_154 : decode cX9_shift 154 = .ok (.iload 4, 2) := dk_21 4 (dk_at dksX9_shift_6 17 rfl rfl)
theorem dX9_shift_156 : decode cX9_shift 156 = .ok (.iadd, 1) := dk_96 (dk_at dksX9_shift_6 19 rfl rfl)
theorem dX9_shift_157 : decode cX9_shift 157 = .ok (.iload 6, 2) := dk_21 6 (dk_at dksX9_shift_6 20 rfl rfl)
theorem dX9_shift_159 : decode cX9_shift 159 = .ok (.iadd, 1) := dk_96 (dk_at dksX9_shift_6 22 rfl rfl)
theorem dX9_shift_160 : decode cX9_shift 160 = .ok (.aload_n 0, 1) := dk_42 (dk_at dksX9_shift_6 23 rfl rfl)
theorem dX9_shift_161 : decode cX9_shift 161 = .ok (.getfield 78, 3) := dk_180 0 78 (dk_at dksX9_shift_7 0 rfl rfl)
theorem dX9_shift_164 : decode cX9_shift 164 = .ok (.iload 6, 2) := dk_21 6 (dk_at dksX9_shift_7 3 rfl rfl)
theorem dX9_shift_166 : decode cX9_shift 166 = .ok (.laload, 1) := dk_47 (dk_at dksX9_shift_7 5 rfl rfl)
theorem dX9_shift_167 : decode cX9_shift 167 = .ok (.lastore, 1) := dk_80 (dk_at dksX9_shift_7 6 rfl rfl)
theorem dX9_shift_168 : decode cX9_shift 168 = .ok (.iinc 6 1, 3) := dk_132 6 1 (dk_at dksX9_shift_7 7 rfl rfl)
theorem dX9_shift_171 : decode cX9_shift 171 = .ok (.goto (-32), 3) := dk_167 255 224 (dk_at dksX9_shift_7 10 rfl rfl)
theorem dX9_shift_174 : decode cX9_shift 174 = .ok (.iload 5, 2) := dk_21 5 (dk_at dksX9_shift_7 13 rfl rfl)
theorem dX9_shift_176 : decode cX9_shift 176 = .ok (.ireturn, 1) := dk_172 (dk_at dksX9_shift_7 15 rfl rfl)
theorem q128 : (Jvm.Cond.initialized "WholePacksModel") ∈ lw_all := lw_g (lw_at lw_m1 15 rfl) rfl
theorem q1050 : (Jvm.Cond.selects "WholePacksModel" ({ cls := "java/lang/Object", name := "getClass", desc := "()Ljava/lang/Class;" } : Jvm.MethodName) ({ cls := "java/lang/Object", name := "getClass", desc := "()Ljava/lang/Class;" } : Jvm.MethodName)) ∈ lw_all := lw_g (lw_at lw_m4 217 rfl) rfl
theorem q1740 : (Jvm.Cond.instantiable "WholePacksModel" (29 : Nat)) ∈ lw_all := lw_g (lw_at lw_m7 187 rfl) rfl
theorem q1742 : (Jvm.Cond.instanceMethod ({ cls := "WholePacksModel", name := "<init>", desc := "()V" } : Jvm.MethodName)) ∈ lw_all := lw_g (lw_at lw_m7 189 rfl) rfl
theorem q1743 : (Jvm.Cond.code ({ cls := "WholePacksModel", name := "<init>", desc := "()V" } : Jvm.MethodName) prog_19_method_1_code (2 : Nat) (Option.none : Option Jvm.ClassFile.FieldType)) ∈ lw_all := lw_g (lw_at lw_m7 190 rfl) rfl
theorem q1744 : (Jvm.Cond.methodLink "WholePacksModel" (5 : Nat) ({ cls := "java/lang/Object", name := "<init>", desc := "()V" } : Jvm.MethodName)) ∈ lw_all := lw_g (lw_at lw_m7 191 rfl) rfl
theorem q1745 : (Jvm.Cond.classLink "WholePacksModel" (27 : Nat) "WholePacksModel$Table") ∈ lw_all := lw_g (lw_at lw_m7 192 rfl) rfl
theorem q1747 : (Jvm.Cond.methodLinkNest "WholePacksModel" (29 : Nat) ({ cls := "WholePacksModel$Table", name := "<init>", desc := "()V" } : Jvm.MethodName) "WholePacksModel") ∈ lw_tbl := lw_at lw_m7 194 rfl
theorem q1752 : (Jvm.Cond.fieldLinkNest "WholePacksModel" (175 : Nat) "WholePacksModel$Table" "entry" "[J" "WholePacksModel") ∈ lw_tbl := lw_at lw_m7 199 rfl
theorem q1754 : (Jvm.Cond.fieldLinkNest "WholePacksModel" (184 : Nat) "WholePacksModel$Table" "right" "[J" "WholePacksModel") ∈ lw_tbl := lw_at lw_m7 201 rfl
theorem q1756 : (Jvm.Cond.fieldLinkNest "WholePacksModel" (203 : Nat) "WholePacksModel$Table" "rise" "[J" "WholePacksModel") ∈ lw_tbl := lw_at lw_m7 203 rfl
theorem q1758 : (Jvm.Cond.fieldLinkNest "WholePacksModel" (229 : Nat) "WholePacksModel$Table" "fresh" "[J" "WholePacksModel") ∈ lw_tbl := lw_at lw_m7 205 rfl
theorem q1760 : (Jvm.Cond.fieldLinkNest "WholePacksModel" (232 : Nat) "WholePacksModel$Table" "freshRight" "[J" "WholePacksModel") ∈ lw_tbl := lw_at lw_m7 207 rfl
theorem q1762 : (Jvm.Cond.fieldLinkNest "WholePacksModel" (235 : Nat) "WholePacksModel$Table" "freshRise" "[J" "WholePacksModel") ∈ lw_tbl := lw_at lw_m7 209 rfl
theorem q1764 : (Jvm.Cond.fieldLinkNest "WholePacksModel" (181 : Nat) "WholePacksModel$Table" "owner" "[I" "WholePacksModel") ∈ lw_tbl := lw_at lw_m7 211 rfl
theorem q1766 : (Jvm.Cond.fieldLinkNest "WholePacksModel" (206 : Nat) "WholePacksModel$Table" "owns" "[I" "WholePacksModel") ∈ lw_tbl := lw_at lw_m7 213 rfl
theorem q1768 : (Jvm.Cond.fieldLinkNest "WholePacksModel" (250 : Nat) "WholePacksModel$Table" "point" "[J" "WholePacksModel") ∈ lw_tbl := lw_at lw_m7 215 rfl
theorem q1770 : (Jvm.Cond.fieldLinkNest "WholePacksModel" (253 : Nat) "WholePacksModel$Table" "limit" "[J" "WholePacksModel") ∈ lw_tbl := lw_at lw_m7 217 rfl
theorem q1772 : (Jvm.Cond.fieldLinkNest "WholePacksModel" (274 : Nat) "WholePacksModel$Table" "weight" "[J" "WholePacksModel") ∈ lw_tbl := lw_at lw_m7 219 rfl
theorem q1774 : (Jvm.Cond.fieldLinkNest "WholePacksModel" (277 : Nat) "WholePacksModel$Table" "below" "[J" "WholePacksModel") ∈ lw_tbl := lw_at lw_m7 221 rfl
theorem q1775 : (Jvm.Cond.fieldLinkNest "WholePacksModel" (193 : Nat) "WholePacksModel$Table" "base" "J" "WholePacksModel") ∈ lw_tbl := lw_at lw_m7 222 rfl
theorem q1776 : (Jvm.Cond.fieldLinkNest "WholePacksModel" (197 : Nat) "WholePacksModel$Table" "divisor" "J" "WholePacksModel") ∈ lw_tbl := lw_at lw_m7 223 rfl
theorem q1777 : (Jvm.Cond.fieldLinkNest "WholePacksModel" (172 : Nat) "WholePacksModel$Table" "columns" "I" "WholePacksModel") ∈ lw_tbl := lw_at lw_m7 224 rfl
theorem q1778 : (Jvm.Cond.fieldLinkNest "WholePacksModel" (178 : Nat) "WholePacksModel$Table" "rows" "I" "WholePacksModel") ∈ lw_tbl := lw_at lw_m7 225 rfl
theorem q1779 : (Jvm.Cond.fieldLinkNest "WholePacksModel" (187 : Nat) "WholePacksModel$Table" "cuts" "I" "WholePacksModel") ∈ lw_tbl := lw_at lw_m7 226 rfl
theorem q1780 : (Jvm.Cond.fieldLinkNest "WholePacksModel" (190 : Nat) "WholePacksModel$Table" "pivots" "I" "WholePacksModel") ∈ lw_tbl := lw_at lw_m7 227 rfl
theorem q1781 : (Jvm.Cond.fieldLinkNest "WholePacksModel" (85 : Nat) "WholePacksModel$Table" "isThere" "Z" "WholePacksModel") ∈ lw_tbl := lw_at lw_m7 228 rfl
theorem q1782 : (Jvm.Cond.fieldLinkNest "WholePacksModel" (200 : Nat) "WholePacksModel$Table" "isWhole" "Z" "WholePacksModel") ∈ lw_tbl := lw_at lw_m7 229 rfl
theorem q1824 : (Jvm.Cond.methodLink "WholePacksModel" (81 : Nat) ({ cls := "WholePacksModel", name := "begins", desc := "(I)V" } : Jvm.MethodName)) ∈ lw_all := lw_g (lw_at lw_m8 31 rfl) rfl
theorem q1825 : (Jvm.Cond.privateMethod ({ cls := "WholePacksModel", name := "begins", desc := "(I)V" } : Jvm.MethodName)) ∈ lw_tbl := lw_at lw_m8 32 rfl
theorem q1826 : (Jvm.Cond.instanceMethod ({ cls := "WholePacksModel", name := "begins", desc := "(I)V" } : Jvm.MethodName)) ∈ lw_all := lw_g (lw_at lw_m8 33 rfl) rfl
theorem q1827 : (Jvm.Cond.code ({ cls := "WholePacksModel", name := "begins", desc := "(I)V" } : Jvm.MethodName) prog_19_method_2_code (4 : Nat) (Option.none : Option Jvm.ClassFile.FieldType)) ∈ lw_all := lw_g (lw_at lw_m8 34 rfl) rfl
theorem q1828 : (Jvm.Cond.fieldLink "WholePacksModel" (11 : Nat) "WholePacksModel" "g" "[I") ∈ lw_all := lw_g (lw_at lw_m8 35 rfl) rfl
theorem q1829 : (Jvm.Cond.fieldLink "WholePacksModel" (15 : Nat) "WholePacksModel" "kept" "[I") ∈ lw_all := lw_g (lw_at lw_m8 36 rfl) rfl
theorem q1830 : (Jvm.Cond.fieldLink "WholePacksModel" (18 : Nat) "WholePacksModel" "lent" "[I") ∈ lw_all := lw_g (lw_at lw_m8 37 rfl) rfl
theorem q1831 : (Jvm.Cond.fieldLink "WholePacksModel" (450 : Nat) "WholePacksModel" "isKept" "Z") ∈ lw_all := lw_g (lw_at lw_m8 38 rfl) rfl
theorem q1832 : (Jvm.Cond.fieldLink "WholePacksModel" (21 : Nat) "WholePacksModel" "text" "[I") ∈ lw_all := lw_g (lw_at lw_m8 39 rfl) rfl
theorem q1833 : (Jvm.Cond.fieldLink "WholePacksModel" (24 : Nat) "WholePacksModel" "clause" "[I") ∈ lw_all := lw_g (lw_at lw_m8 40 rfl) rfl
theorem q1834 : (Jvm.Cond.fieldLink "WholePacksModel" (133 : Nat) "WholePacksModel" "fed" "I") ∈ lw_all := lw_g (lw_at lw_m8 41 rfl) rfl
theorem q1835 : (Jvm.Cond.fieldLink "WholePacksModel" (137 : Nat) "WholePacksModel" "at" "I") ∈ lw_all := lw_g (lw_at lw_m8 42 rfl) rfl
theorem q1836 : (Jvm.Cond.fieldLink "WholePacksModel" (30 : Nat) "WholePacksModel" "stays" "LWholePacksModel$Table;") ∈ lw_all := lw_g (lw_at lw_m8 43 rfl) rfl
theorem q1837 : (Jvm.Cond.fieldLink "WholePacksModel" (34 : Nat) "WholePacksModel" "thought" "LWholePacksModel$Table;") ∈ lw_all := lw_g (lw_at lw_m8 44 rfl) rfl
theorem q1838 : (Jvm.Cond.fieldLink "WholePacksModel" (37 : Nat) "WholePacksModel" "mix" "[I") ∈ lw_all := lw_g (lw_at lw_m8 45 rfl) rfl
theorem q1839 : (Jvm.Cond.fieldLink "WholePacksModel" (40 : Nat) "WholePacksModel" "bestCode" "[I") ∈ lw_all := lw_g (lw_at lw_m8 46 rfl) rfl
theorem q1840 : (Jvm.Cond.fieldLink "WholePacksModel" (43 : Nat) "WholePacksModel" "bestCost" "[I") ∈ lw_all := lw_g (lw_at lw_m8 47 rfl) rfl
theorem q1841 : (Jvm.Cond.fieldLink "WholePacksModel" (46 : Nat) "WholePacksModel" "leastOf" "[I") ∈ lw_all := lw_g (lw_at lw_m8 48 rfl) rfl
theorem q1842 : (Jvm.Cond.fieldLink "WholePacksModel" (49 : Nat) "WholePacksModel" "mostOf" "[I") ∈ lw_all := lw_g (lw_at lw_m8 49 rfl) rfl
theorem q1843 : (Jvm.Cond.fieldLink "WholePacksModel" (52 : Nat) "WholePacksModel" "depth" "[I") ∈ lw_all := lw_g (lw_at lw_m8 50 rfl) rfl
theorem q1844 : (Jvm.Cond.fieldLink "WholePacksModel" (55 : Nat) "WholePacksModel" "amounts" "[J") ∈ lw_all := lw_g (lw_at lw_m8 51 rfl) rfl
theorem q1845 : (Jvm.Cond.fieldLink "WholePacksModel" (59 : Nat) "WholePacksModel" "bases" "[J") ∈ lw_all := lw_g (lw_at lw_m8 52 rfl) rfl
theorem q1846 : (Jvm.Cond.fieldLink "WholePacksModel" (62 : Nat) "WholePacksModel" "divisors" "[J") ∈ lw_all := lw_g (lw_at lw_m8 53 rfl) rfl
theorem q1847 : (Jvm.Cond.fieldLink "WholePacksModel" (65 : Nat) "WholePacksModel" "waits" "[Z") ∈ lw_all := lw_g (lw_at lw_m8 54 rfl) rfl
theorem q1848 : (Jvm.Cond.fieldLink "WholePacksModel" (371 : Nat) "WholePacksModel" "nodes" "I") ∈ lw_all := lw_g (lw_at lw_m8 55 rfl) rfl
theorem q1849 : (Jvm.Cond.fieldLink "WholePacksModel" (381 : Nat) "WholePacksModel" "allPivots" "I") ∈ lw_all := lw_g (lw_at lw_m8 56 rfl) rfl
theorem q1850 : (Jvm.Cond.fieldLink "WholePacksModel" (391 : Nat) "WholePacksModel" "answer" "I") ∈ lw_all := lw_g (lw_at lw_m8 57 rfl) rfl
theorem q1851 : (Jvm.Cond.fieldLink "WholePacksModel" (411 : Nat) "WholePacksModel" "seed" "I") ∈ lw_all := lw_g (lw_at lw_m8 58 rfl) rfl
theorem q1852 : (Jvm.Cond.fieldLink "WholePacksModel" (69 : Nat) "WholePacksModel" "sort" "[I") ∈ lw_all := lw_g (lw_at lw_m8 59 rfl) rfl
theorem q1853 : (Jvm.Cond.fieldLink "WholePacksModel" (72 : Nat) "WholePacksModel" "count" "[I") ∈ lw_all := lw_g (lw_at lw_m8 60 rfl) rfl
theorem q1854 : (Jvm.Cond.fieldLink "WholePacksModel" (75 : Nat) "WholePacksModel" "item" "[J") ∈ lw_all := lw_g (lw_at lw_m8 61 rfl) rfl
theorem q1855 : (Jvm.Cond.fieldLink "WholePacksModel" (78 : Nat) "WholePacksModel" "lifted" "[J") ∈ lw_all := lw_g (lw_at lw_m8 62 rfl) rfl
theorem q1856 : (Jvm.Cond.laysFinal "WholePacksModel" "WholePacksModel" "g" "[I") ∈ lw_all := lw_g (lw_at lw_m8 63 rfl) rfl
theorem q1857 : (Jvm.Cond.soleField "WholePacksModel" "g") ∈ lw_all := lw_g (lw_at lw_m8 64 rfl) rfl
theorem q1858 : (Jvm.Cond.laysFinal "WholePacksModel" "WholePacksModel" "kept" "[I") ∈ lw_all := lw_g (lw_at lw_m8 65 rfl) rfl
theorem q1859 : (Jvm.Cond.soleField "WholePacksModel" "kept") ∈ lw_all := lw_g (lw_at lw_m8 66 rfl) rfl
theorem q1860 : (Jvm.Cond.laysFinal "WholePacksModel" "WholePacksModel" "lent" "[I") ∈ lw_all := lw_g (lw_at lw_m8 67 rfl) rfl
theorem q1861 : (Jvm.Cond.soleField "WholePacksModel" "lent") ∈ lw_all := lw_g (lw_at lw_m8 68 rfl) rfl
theorem q1862 : (Jvm.Cond.lays "WholePacksModel" "WholePacksModel" "isKept" "Z") ∈ lw_all := lw_g (lw_at lw_m8 69 rfl) rfl
theorem q1863 : (Jvm.Cond.soleField "WholePacksModel" "isKept") ∈ lw_all := lw_g (lw_at lw_m8 70 rfl) rfl
theorem q1864 : (Jvm.Cond.laysFinal "WholePacksModel" "WholePacksModel" "text" "[I") ∈ lw_all := lw_g (lw_at lw_m8 71 rfl) rfl
theorem q1865 : (Jvm.Cond.soleField "WholePacksModel" "text") ∈ lw_all := lw_g (lw_at lw_m8 72 rfl) rfl
theorem q1866 : (Jvm.Cond.laysFinal "WholePacksModel" "WholePacksModel" "clause" "[I") ∈ lw_all := lw_g (lw_at lw_m8 73 rfl) rfl
theorem q1867 : (Jvm.Cond.soleField "WholePacksModel" "clause") ∈ lw_all := lw_g (lw_at lw_m8 74 rfl) rfl
theorem q1868 : (Jvm.Cond.lays "WholePacksModel" "WholePacksModel" "fed" "I") ∈ lw_all := lw_g (lw_at lw_m8 75 rfl) rfl
theorem q1869 : (Jvm.Cond.soleField "WholePacksModel" "fed") ∈ lw_all := lw_g (lw_at lw_m8 76 rfl) rfl
theorem q1870 : (Jvm.Cond.lays "WholePacksModel" "WholePacksModel" "at" "I") ∈ lw_all := lw_g (lw_at lw_m8 77 rfl) rfl
theorem q1871 : (Jvm.Cond.soleField "WholePacksModel" "at") ∈ lw_all := lw_g (lw_at lw_m8 78 rfl) rfl
theorem q1872 : (Jvm.Cond.lays "WholePacksModel" "WholePacksModel" "fault" "I") ∈ lw_all := lw_g (lw_at lw_m8 79 rfl) rfl
theorem q1873 : (Jvm.Cond.soleField "WholePacksModel" "fault") ∈ lw_all := lw_g (lw_at lw_m8 80 rfl) rfl
theorem q1874 : (Jvm.Cond.laysFinal "WholePacksModel" "WholePacksModel" "stays" "LWholePacksModel$Table;") ∈ lw_all := lw_g (lw_at lw_m8 81 rfl) rfl
theorem q1875 : (Jvm.Cond.soleField "WholePacksModel" "stays") ∈ lw_all := lw_g (lw_at lw_m8 82 rfl) rfl
theorem q1876 : (Jvm.Cond.laysFinal "WholePacksModel" "WholePacksModel" "thought" "LWholePacksModel$Table;") ∈ lw_all := lw_g (lw_at lw_m8 83 rfl) rfl
theorem q1877 : (Jvm.Cond.soleField "WholePacksModel" "thought") ∈ lw_all := lw_g (lw_at lw_m8 84 rfl) rfl
theorem q1878 : (Jvm.Cond.laysFinal "WholePacksModel" "WholePacksModel" "mix" "[I") ∈ lw_all := lw_g (lw_at lw_m8 85 rfl) rfl
theorem q1879 : (Jvm.Cond.soleField "WholePacksModel" "mix") ∈ lw_all := lw_g (lw_at lw_m8 86 rfl) rfl
theorem q1880 : (Jvm.Cond.laysFinal "WholePacksModel" "WholePacksModel" "bestCode" "[I") ∈ lw_all := lw_g (lw_at lw_m8 87 rfl) rfl
theorem q1881 : (Jvm.Cond.soleField "WholePacksModel" "bestCode") ∈ lw_all := lw_g (lw_at lw_m8 88 rfl) rfl
theorem q1882 : (Jvm.Cond.laysFinal "WholePacksModel" "WholePacksModel" "bestCost" "[I") ∈ lw_all := lw_g (lw_at lw_m8 89 rfl) rfl
theorem q1883 : (Jvm.Cond.soleField "WholePacksModel" "bestCost") ∈ lw_all := lw_g (lw_at lw_m8 90 rfl) rfl
theorem q1884 : (Jvm.Cond.laysFinal "WholePacksModel" "WholePacksModel" "leastOf" "[I") ∈ lw_all := lw_g (lw_at lw_m8 91 rfl) rfl
theorem q1885 : (Jvm.Cond.soleField "WholePacksModel" "leastOf") ∈ lw_all := lw_g (lw_at lw_m8 92 rfl) rfl
theorem q1886 : (Jvm.Cond.laysFinal "WholePacksModel" "WholePacksModel" "mostOf" "[I") ∈ lw_all := lw_g (lw_at lw_m8 93 rfl) rfl
theorem q1887 : (Jvm.Cond.soleField "WholePacksModel" "mostOf") ∈ lw_all := lw_g (lw_at lw_m8 94 rfl) rfl
theorem q1888 : (Jvm.Cond.laysFinal "WholePacksModel" "WholePacksModel" "depth" "[I") ∈ lw_all := lw_g (lw_at lw_m8 95 rfl) rfl
theorem q1889 : (Jvm.Cond.soleField "WholePacksModel" "depth") ∈ lw_all := lw_g (lw_at lw_m8 96 rfl) rfl
theorem q1890 : (Jvm.Cond.laysFinal "WholePacksModel" "WholePacksModel" "amounts" "[J") ∈ lw_all := lw_g (lw_at lw_m8 97 rfl) rfl
theorem q1891 : (Jvm.Cond.soleField "WholePacksModel" "amounts") ∈ lw_all := lw_g (lw_at lw_m8 98 rfl) rfl
theorem q1892 : (Jvm.Cond.laysFinal "WholePacksModel" "WholePacksModel" "bases" "[J") ∈ lw_all := lw_g (lw_at lw_m8 99 rfl) rfl
theorem q1893 : (Jvm.Cond.soleField "WholePacksModel" "bases") ∈ lw_all := lw_g (lw_at lw_m8 100 rfl) rfl
theorem q1894 : (Jvm.Cond.laysFinal "WholePacksModel" "WholePacksModel" "divisors" "[J") ∈ lw_all := lw_g (lw_at lw_m8 101 rfl) rfl
theorem q1895 : (Jvm.Cond.soleField "WholePacksModel" "divisors") ∈ lw_all := lw_g (lw_at lw_m8 102 rfl) rfl
theorem q1896 : (Jvm.Cond.laysFinal "WholePacksModel" "WholePacksModel" "waits" "[Z") ∈ lw_all := lw_g (lw_at lw_m8 103 rfl) rfl
theorem q1897 : (Jvm.Cond.soleField "WholePacksModel" "waits") ∈ lw_all := lw_g (lw_at lw_m8 104 rfl) rfl
theorem q1898 : (Jvm.Cond.lays "WholePacksModel" "WholePacksModel" "nodes" "I") ∈ lw_all := lw_g (lw_at lw_m8 105 rfl) rfl
theorem q1899 : (Jvm.Cond.soleField "WholePacksModel" "nodes") ∈ lw_all := lw_g (lw_at lw_m8 106 rfl) rfl
theorem q1900 : (Jvm.Cond.lays "WholePacksModel" "WholePacksModel" "allPivots" "I") ∈ lw_all := lw_g (lw_at lw_m8 107 rfl) rfl
theorem q1901 : (Jvm.Cond.soleField "WholePacksModel" "allPivots") ∈ lw_all := lw_g (lw_at lw_m8 108 rfl) rfl
theorem q1902 : (Jvm.Cond.lays "WholePacksModel" "WholePacksModel" "answer" "I") ∈ lw_all := lw_g (lw_at lw_m8 109 rfl) rfl
theorem q1903 : (Jvm.Cond.soleField "WholePacksModel" "answer") ∈ lw_all := lw_g (lw_at lw_m8 110 rfl) rfl
theorem q1904 : (Jvm.Cond.lays "WholePacksModel" "WholePacksModel" "seed" "I") ∈ lw_all := lw_g (lw_at lw_m8 111 rfl) rfl
theorem q1905 : (Jvm.Cond.soleField "WholePacksModel" "seed") ∈ lw_all := lw_g (lw_at lw_m8 112 rfl) rfl
theorem q1906 : (Jvm.Cond.laysFinal "WholePacksModel" "WholePacksModel" "sort" "[I") ∈ lw_all := lw_g (lw_at lw_m8 113 rfl) rfl
theorem q1907 : (Jvm.Cond.soleField "WholePacksModel" "sort") ∈ lw_all := lw_g (lw_at lw_m8 114 rfl) rfl
theorem q1908 : (Jvm.Cond.laysFinal "WholePacksModel" "WholePacksModel" "count" "[I") ∈ lw_all := lw_g (lw_at lw_m8 115 rfl) rfl
theorem q1909 : (Jvm.Cond.soleField "WholePacksModel" "count") ∈ lw_all := lw_g (lw_at lw_m8 116 rfl) rfl
theorem q1910 : (Jvm.Cond.laysFinal "WholePacksModel" "WholePacksModel" "item" "[J") ∈ lw_all := lw_g (lw_at lw_m8 117 rfl) rfl
theorem q1911 : (Jvm.Cond.soleField "WholePacksModel" "item") ∈ lw_all := lw_g (lw_at lw_m8 118 rfl) rfl
theorem q1912 : (Jvm.Cond.laysFinal "WholePacksModel" "WholePacksModel" "lifted" "[J") ∈ lw_all := lw_g (lw_at lw_m8 119 rfl) rfl
theorem q1913 : (Jvm.Cond.soleField "WholePacksModel" "lifted") ∈ lw_all := lw_g (lw_at lw_m8 120 rfl) rfl
theorem q1914 : (Jvm.Cond.superclass "WholePacksModel" "java/lang/Object") ∈ lw_all := lw_g (lw_at lw_m8 121 rfl) rfl
theorem q1916 : (Jvm.Cond.instanceMethod ({ cls := "WholePacksModel", name := "size", desc := "(I)I" } : Jvm.MethodName)) ∈ lw_all := lw_g (lw_at lw_m8 123 rfl) rfl
theorem q1917 : (Jvm.Cond.selects "WholePacksModel" ({ cls := "WholePacksModel", name := "size", desc := "(I)I" } : Jvm.MethodName) ({ cls := "WholePacksModel", name := "size", desc := "(I)I" } : Jvm.MethodName)) ∈ lw_all := lw_g (lw_at lw_m8 124 rfl) rfl
theorem q1918 : (Jvm.Cond.code ({ cls := "WholePacksModel", name := "size", desc := "(I)I" } : Jvm.MethodName) prog_19_method_12_code (3 : Nat) (Option.some Jvm.ClassFile.FieldType.int)) ∈ lw_all := lw_g (lw_at lw_m8 125 rfl) rfl
theorem q1919 : (Jvm.Cond.constantLong "WholePacksModel" (108 : Nat) (5 : Int64)) ∈ lw_all := lw_g (lw_at lw_m8 126 rfl) rfl
theorem q1920 : (Jvm.Cond.methodLink "WholePacksModel" (93 : Nat) ({ cls := "WholePacksModel", name := "isIn", desc := "(JJJ)Z" } : Jvm.MethodName)) ∈ lw_all := lw_g (lw_at lw_m8 127 rfl) rfl
theorem q1921 : (Jvm.Cond.static ({ cls := "WholePacksModel", name := "isIn", desc := "(JJJ)Z" } : Jvm.MethodName)) ∈ lw_all := lw_g (lw_at lw_m8 128 rfl) rfl
theorem q1922 : (Jvm.Cond.code ({ cls := "WholePacksModel", name := "isIn", desc := "(JJJ)Z" } : Jvm.MethodName) prog_19_method_3_code (6 : Nat) (Option.some Jvm.ClassFile.FieldType.boolean)) ∈ lw_all := lw_g (lw_at lw_m8 129 rfl) rfl
theorem q1923 : (Jvm.Cond.methodLink "WholePacksModel" (89 : Nat) ({ cls := "WholePacksModel", name := "n", desc := "()I" } : Jvm.MethodName)) ∈ lw_all := lw_g (lw_at lw_m8 130 rfl) rfl
theorem q1924 : (Jvm.Cond.privateMethod ({ cls := "WholePacksModel", name := "n", desc := "()I" } : Jvm.MethodName)) ∈ lw_tbl := lw_at lw_m8 131 rfl
theorem q1925 : (Jvm.Cond.instanceMethod ({ cls := "WholePacksModel", name := "n", desc := "()I" } : Jvm.MethodName)) ∈ lw_all := lw_g (lw_at lw_m8 132 rfl) rfl
theorem q1926 : (Jvm.Cond.code ({ cls := "WholePacksModel", name := "n", desc := "()I" } : Jvm.MethodName) prog_19_method_4_code (1 : Nat) (Option.some Jvm.ClassFile.FieldType.int)) ∈ lw_all := lw_g (lw_at lw_m8 133 rfl) rfl
theorem q1928 : (Jvm.Cond.instanceMethod ({ cls := "WholePacksModel", name := "cost", desc := "(II)I" } : Jvm.MethodName)) ∈ lw_all := lw_g (lw_at lw_m8 135 rfl) rfl
theorem q1929 : (Jvm.Cond.selects "WholePacksModel" ({ cls := "WholePacksModel", name := "cost", desc := "(II)I" } : Jvm.MethodName) ({ cls := "WholePacksModel", name := "cost", desc := "(II)I" } : Jvm.MethodName)) ∈ lw_all := lw_g (lw_at lw_m8 136 rfl) rfl
theorem q1930 : (Jvm.Cond.code ({ cls := "WholePacksModel", name := "cost", desc := "(II)I" } : Jvm.MethodName) prog_19_method_13_code (4 : Nat) (Option.some Jvm.ClassFile.FieldType.int)) ∈ lw_all := lw_g (lw_at lw_m8 137 rfl) rfl
theorem q1931 : (Jvm.Cond.methodLink "WholePacksModel" (110 : Nat) ({ cls := "WholePacksModel", name := "isPack", desc := "(I)Z" } : Jvm.MethodName)) ∈ lw_all := lw_g (lw_at lw_m8 138 rfl) rfl
theorem q1932 : (Jvm.Cond.privateMethod ({ cls := "WholePacksModel", name := "isPack", desc := "(I)Z" } : Jvm.MethodName)) ∈ lw_tbl := lw_at lw_m8 139 rfl
theorem q1933 : (Jvm.Cond.instanceMethod ({ cls := "WholePacksModel", name := "isPack", desc := "(I)Z" } : Jvm.MethodName)) ∈ lw_all := lw_g (lw_at lw_m8 140 rfl) rfl
theorem q1934 : (Jvm.Cond.code ({ cls := "WholePacksModel", name := "isPack", desc := "(I)Z" } : Jvm.MethodName) prog_19_method_5_code (2 : Nat) (Option.some Jvm.ClassFile.FieldType.boolean)) ∈ lw_all := lw_g (lw_at lw_m8 141 rfl) rfl
theorem q1935 : (Jvm.Cond.constantLong "WholePacksModel" (114 : Nat) (99 : Int64)) ∈ lw_all := lw_g (lw_at lw_m8 142 rfl) rfl
theorem q1937 : (Jvm.Cond.instanceMethod ({ cls := "WholePacksModel", name := "rule", desc := "(II)I" } : Jvm.MethodName)) ∈ lw_all := lw_g (lw_at lw_m8 144 rfl) rfl
theorem q1938 : (Jvm.Cond.selects "WholePacksModel" ({ cls := "WholePacksModel", name := "rule", desc := "(II)I" } : Jvm.MethodName) ({ cls := "WholePacksModel", name := "rule", desc := "(II)I" } : Jvm.MethodName)) ∈ lw_all := lw_g (lw_at lw_m8 145 rfl) rfl
theorem q1939 : (Jvm.Cond.code ({ cls := "WholePacksModel", name := "rule", desc := "(II)I" } : Jvm.MethodName) prog_19_method_15_code (3 : Nat) (Option.some Jvm.ClassFile.FieldType.int)) ∈ lw_all := lw_g (lw_at lw_m8 146 rfl) rfl
theorem q1940 : (Jvm.Cond.constantLong "WholePacksModel" (116 : Nat) (-99 : Int64)) ∈ lw_all := lw_g (lw_at lw_m8 147 rfl) rfl
theorem q1941 : (Jvm.Cond.constantLong "WholePacksModel" (118 : Nat) (999 : Int64)) ∈ lw_all := lw_g (lw_at lw_m8 148 rfl) rfl
theorem q1942 : (Jvm.Cond.methodLink "WholePacksModel" (120 : Nat) ({ cls := "WholePacksModel", name := "addsRule", desc := "(II)V" } : Jvm.MethodName)) ∈ lw_all := lw_g (lw_at lw_m8 149 rfl) rfl
theorem q1943 : (Jvm.Cond.privateMethod ({ cls := "WholePacksModel", name := "addsRule", desc := "(II)V" } : Jvm.MethodName)) ∈ lw_tbl := lw_at lw_m8 150 rfl
theorem q1944 : (Jvm.Cond.instanceMethod ({ cls := "WholePacksModel", name := "addsRule", desc := "(II)V" } : Jvm.MethodName)) ∈ lw_all := lw_g (lw_at lw_m8 151 rfl) rfl
theorem q1945 : (Jvm.Cond.code ({ cls := "WholePacksModel", name := "addsRule", desc := "(II)V" } : Jvm.MethodName) prog_19_method_14_code (5 : Nat) (Option.none : Option Jvm.ClassFile.FieldType)) ∈ lw_all := lw_g (lw_at lw_m8 152 rfl) rfl
theorem q1947 : (Jvm.Cond.instanceMethod ({ cls := "WholePacksModel", name := "factor", desc := "(III)I" } : Jvm.MethodName)) ∈ lw_all := lw_g (lw_at lw_m8 154 rfl) rfl
theorem q1948 : (Jvm.Cond.selects "WholePacksModel" ({ cls := "WholePacksModel", name := "factor", desc := "(III)I" } : Jvm.MethodName) ({ cls := "WholePacksModel", name := "factor", desc := "(III)I" } : Jvm.MethodName)) ∈ lw_all := lw_g (lw_at lw_m8 155 rfl) rfl
theorem q1949 : (Jvm.Cond.code ({ cls := "WholePacksModel", name := "factor", desc := "(III)I" } : Jvm.MethodName) prog_19_method_16_code (5 : Nat) (Option.some Jvm.ClassFile.FieldType.int)) ∈ lw_all := lw_g (lw_at lw_m8 156 rfl) rfl
theorem q1950 : (Jvm.Cond.methodLink "WholePacksModel" (124 : Nat) ({ cls := "WholePacksModel", name := "isRule", desc := "(I)Z" } : Jvm.MethodName)) ∈ lw_all := lw_g (lw_at lw_m8 157 rfl) rfl
theorem q1951 : (Jvm.Cond.privateMethod ({ cls := "WholePacksModel", name := "isRule", desc := "(I)Z" } : Jvm.MethodName)) ∈ lw_tbl := lw_at lw_m8 158 rfl
theorem q1952 : (Jvm.Cond.instanceMethod ({ cls := "WholePacksModel", name := "isRule", desc := "(I)Z" } : Jvm.MethodName)) ∈ lw_all := lw_g (lw_at lw_m8 159 rfl) rfl
theorem q1953 : (Jvm.Cond.code ({ cls := "WholePacksModel", name := "isRule", desc := "(I)Z" } : Jvm.MethodName) prog_19_method_6_code (2 : Nat) (Option.some Jvm.ClassFile.FieldType.boolean)) ∈ lw_all := lw_g (lw_at lw_m8 160 rfl) rfl
theorem q1954 : (Jvm.Cond.constantLong "WholePacksModel" (127 : Nat) (-9 : Int64)) ∈ lw_all := lw_g (lw_at lw_m8 161 rfl) rfl
theorem q1955 : (Jvm.Cond.constantLong "WholePacksModel" (129 : Nat) (9 : Int64)) ∈ lw_all := lw_g (lw_at lw_m8 162 rfl) rfl
theorem q1956 : (Jvm.Cond.methodLink "WholePacksModel" (101 : Nat) ({ cls := "WholePacksModel", name := "factorOf", desc := "(II)I" } : Jvm.MethodName)) ∈ lw_all := lw_g (lw_at lw_m8 163 rfl) rfl
theorem q1957 : (Jvm.Cond.privateMethod ({ cls := "WholePacksModel", name := "factorOf", desc := "(II)I" } : Jvm.MethodName)) ∈ lw_tbl := lw_at lw_m8 164 rfl
theorem q1958 : (Jvm.Cond.instanceMethod ({ cls := "WholePacksModel", name := "factorOf", desc := "(II)I" } : Jvm.MethodName)) ∈ lw_all := lw_g (lw_at lw_m8 165 rfl) rfl
theorem q1959 : (Jvm.Cond.code ({ cls := "WholePacksModel", name := "factorOf", desc := "(II)I" } : Jvm.MethodName) prog_19_method_9_code (3 : Nat) (Option.some Jvm.ClassFile.FieldType.int)) ∈ lw_all := lw_g (lw_at lw_m8 166 rfl) rfl
theorem q1961 : (Jvm.Cond.instanceMethod ({ cls := "WholePacksModel", name := "bound", desc := "(II)I" } : Jvm.MethodName)) ∈ lw_all := lw_g (lw_at lw_m8 168 rfl) rfl
theorem q1962 : (Jvm.Cond.selects "WholePacksModel" ({ cls := "WholePacksModel", name := "bound", desc := "(II)I" } : Jvm.MethodName) ({ cls := "WholePacksModel", name := "bound", desc := "(II)I" } : Jvm.MethodName)) ∈ lw_all := lw_g (lw_at lw_m8 169 rfl) rfl
theorem q1963 : (Jvm.Cond.code ({ cls := "WholePacksModel", name := "bound", desc := "(II)I" } : Jvm.MethodName) prog_19_method_17_code (4 : Nat) (Option.some Jvm.ClassFile.FieldType.int)) ∈ lw_all := lw_g (lw_at lw_m8 170 rfl) rfl
theorem q1964 : (Jvm.Cond.methodLink "WholePacksModel" (105 : Nat) ({ cls := "WholePacksModel", name := "boundOf", desc := "(I)I" } : Jvm.MethodName)) ∈ lw_all := lw_g (lw_at lw_m8 171 rfl) rfl
theorem q1965 : (Jvm.Cond.privateMethod ({ cls := "WholePacksModel", name := "boundOf", desc := "(I)I" } : Jvm.MethodName)) ∈ lw_tbl := lw_at lw_m8 172 rfl
theorem q1966 : (Jvm.Cond.instanceMethod ({ cls := "WholePacksModel", name := "boundOf", desc := "(I)I" } : Jvm.MethodName)) ∈ lw_all := lw_g (lw_at lw_m8 173 rfl) rfl
theorem q1967 : (Jvm.Cond.code ({ cls := "WholePacksModel", name := "boundOf", desc := "(I)I" } : Jvm.MethodName) prog_19_method_8_code (2 : Nat) (Option.some Jvm.ClassFile.FieldType.int)) ∈ lw_all := lw_g (lw_at lw_m8 174 rfl) rfl
theorem q1969 : (Jvm.Cond.instanceMethod ({ cls := "WholePacksModel", name := "less", desc := "()I" } : Jvm.MethodName)) ∈ lw_all := lw_g (lw_at lw_m8 176 rfl) rfl
theorem q1970 : (Jvm.Cond.selects "WholePacksModel" ({ cls := "WholePacksModel", name := "less", desc := "()I" } : Jvm.MethodName) ({ cls := "WholePacksModel", name := "less", desc := "()I" } : Jvm.MethodName)) ∈ lw_all := lw_g (lw_at lw_m8 177 rfl) rfl
theorem q1971 : (Jvm.Cond.code ({ cls := "WholePacksModel", name := "less", desc := "()I" } : Jvm.MethodName) prog_19_method_18_code (1 : Nat) (Option.some Jvm.ClassFile.FieldType.int)) ∈ lw_all := lw_g (lw_at lw_m8 178 rfl) rfl
theorem q1973 : (Jvm.Cond.instanceMethod ({ cls := "WholePacksModel", name := "ruleOf", desc := "(II)I" } : Jvm.MethodName)) ∈ lw_all := lw_g (lw_at lw_m8 180 rfl) rfl
theorem q1974 : (Jvm.Cond.selects "WholePacksModel" ({ cls := "WholePacksModel", name := "ruleOf", desc := "(II)I" } : Jvm.MethodName) ({ cls := "WholePacksModel", name := "ruleOf", desc := "(II)I" } : Jvm.MethodName)) ∈ lw_all := lw_g (lw_at lw_m8 181 rfl) rfl
theorem q1975 : (Jvm.Cond.code ({ cls := "WholePacksModel", name := "ruleOf", desc := "(II)I" } : Jvm.MethodName) prog_19_method_19_code (3 : Nat) (Option.some Jvm.ClassFile.FieldType.int)) ∈ lw_all := lw_g (lw_at lw_m8 182 rfl) rfl
theorem q1977 : (Jvm.Cond.instanceMethod ({ cls := "WholePacksModel", name := "feed", desc := "(I)I" } : Jvm.MethodName)) ∈ lw_all := lw_g (lw_at lw_m8 184 rfl) rfl
theorem q1978 : (Jvm.Cond.selects "WholePacksModel" ({ cls := "WholePacksModel", name := "feed", desc := "(I)I" } : Jvm.MethodName) ({ cls := "WholePacksModel", name := "feed", desc := "(I)I" } : Jvm.MethodName)) ∈ lw_all := lw_g (lw_at lw_m8 185 rfl) rfl
theorem q1979 : (Jvm.Cond.code ({ cls := "WholePacksModel", name := "feed", desc := "(I)I" } : Jvm.MethodName) prog_19_method_20_code (2 : Nat) (Option.some Jvm.ClassFile.FieldType.int)) ∈ lw_all := lw_g (lw_at lw_m8 186 rfl) rfl
theorem q1980 : (Jvm.Cond.constantLong "WholePacksModel" (131 : Nat) (127 : Int64)) ∈ lw_all := lw_g (lw_at lw_m8 187 rfl) rfl
theorem q1982 : (Jvm.Cond.instanceMethod ({ cls := "WholePacksModel", name := "read", desc := "()I" } : Jvm.MethodName)) ∈ lw_all := lw_g (lw_at lw_m8 189 rfl) rfl
theorem q1983 : (Jvm.Cond.selects "WholePacksModel" ({ cls := "WholePacksModel", name := "read", desc := "()I" } : Jvm.MethodName) ({ cls := "WholePacksModel", name := "read", desc := "()I" } : Jvm.MethodName)) ∈ lw_all := lw_g (lw_at lw_m8 190 rfl) rfl
theorem q1984 : (Jvm.Cond.code ({ cls := "WholePacksModel", name := "read", desc := "()I" } : Jvm.MethodName) prog_19_method_29_code (4 : Nat) (Option.some Jvm.ClassFile.FieldType.int)) ∈ lw_all := lw_g (lw_at lw_m8 191 rfl) rfl
theorem q1985 : (Jvm.Cond.methodLink "WholePacksModel" (169 : Nat) ({ cls := "WholePacksModel", name := "readsAll", desc := "()I" } : Jvm.MethodName)) ∈ lw_all := lw_g (lw_at lw_m8 192 rfl) rfl
theorem q1986 : (Jvm.Cond.privateMethod ({ cls := "WholePacksModel", name := "readsAll", desc := "()I" } : Jvm.MethodName)) ∈ lw_tbl := lw_at lw_m8 193 rfl
theorem q1987 : (Jvm.Cond.instanceMethod ({ cls := "WholePacksModel", name := "readsAll", desc := "()I" } : Jvm.MethodName)) ∈ lw_all := lw_g (lw_at lw_m8 194 rfl) rfl
theorem q1988 : (Jvm.Cond.code ({ cls := "WholePacksModel", name := "readsAll", desc := "()I" } : Jvm.MethodName) prog_19_method_28_code (3 : Nat) (Option.some Jvm.ClassFile.FieldType.int)) ∈ lw_all := lw_g (lw_at lw_m8 195 rfl) rfl
theorem q1989 : (Jvm.Cond.methodLink "WholePacksModel" (166 : Nat) ({ cls := "WholePacksModel", name := "readsClause", desc := "(I)Z" } : Jvm.MethodName)) ∈ lw_all := lw_g (lw_at lw_m8 196 rfl) rfl
theorem q1990 : (Jvm.Cond.privateMethod ({ cls := "WholePacksModel", name := "readsClause", desc := "(I)Z" } : Jvm.MethodName)) ∈ lw_tbl := lw_at lw_m8 197 rfl
theorem q1991 : (Jvm.Cond.instanceMethod ({ cls := "WholePacksModel", name := "readsClause", desc := "(I)Z" } : Jvm.MethodName)) ∈ lw_all := lw_g (lw_at lw_m8 198 rfl) rfl
theorem q1992 : (Jvm.Cond.code ({ cls := "WholePacksModel", name := "readsClause", desc := "(I)Z" } : Jvm.MethodName) prog_19_method_27_code (3 : Nat) (Option.some Jvm.ClassFile.FieldType.boolean)) ∈ lw_all := lw_g (lw_at lw_m8 199 rfl) rfl
theorem q1993 : (Jvm.Cond.methodLink "WholePacksModel" (160 : Nat) ({ cls := "WholePacksModel", name := "readsSum", desc := "(I)Z" } : Jvm.MethodName)) ∈ lw_all := lw_g (lw_at lw_m8 200 rfl) rfl
theorem q1994 : (Jvm.Cond.privateMethod ({ cls := "WholePacksModel", name := "readsSum", desc := "(I)Z" } : Jvm.MethodName)) ∈ lw_tbl := lw_at lw_m8 201 rfl
theorem q1995 : (Jvm.Cond.instanceMethod ({ cls := "WholePacksModel", name := "readsSum", desc := "(I)Z" } : Jvm.MethodName)) ∈ lw_all := lw_g (lw_at lw_m8 202 rfl) rfl
theorem q1996 : (Jvm.Cond.code ({ cls := "WholePacksModel", name := "readsSum", desc := "(I)Z" } : Jvm.MethodName) prog_19_method_25_code (3 : Nat) (Option.some Jvm.ClassFile.FieldType.boolean)) ∈ lw_all := lw_g (lw_at lw_m8 203 rfl) rfl
theorem q1997 : (Jvm.Cond.methodLink "WholePacksModel" (153 : Nat) ({ cls := "WholePacksModel", name := "takes", desc := "(I)Z" } : Jvm.MethodName)) ∈ lw_all := lw_g (lw_at lw_m8 204 rfl) rfl
theorem q1998 : (Jvm.Cond.privateMethod ({ cls := "WholePacksModel", name := "takes", desc := "(I)Z" } : Jvm.MethodName)) ∈ lw_tbl := lw_at lw_m8 205 rfl
theorem q1999 : (Jvm.Cond.instanceMethod ({ cls := "WholePacksModel", name := "takes", desc := "(I)Z" } : Jvm.MethodName)) ∈ lw_all := lw_g (lw_at lw_m8 206 rfl) rfl
theorem q2000 : (Jvm.Cond.code ({ cls := "WholePacksModel", name := "takes", desc := "(I)Z" } : Jvm.MethodName) prog_19_method_22_code (2 : Nat) (Option.some Jvm.ClassFile.FieldType.boolean)) ∈ lw_all := lw_g (lw_at lw_m8 207 rfl) rfl
theorem q2001 : (Jvm.Cond.methodLink "WholePacksModel" (140 : Nat) ({ cls := "WholePacksModel", name := "here", desc := "()I" } : Jvm.MethodName)) ∈ lw_all := lw_g (lw_at lw_m8 208 rfl) rfl
theorem q2002 : (Jvm.Cond.privateMethod ({ cls := "WholePacksModel", name := "here", desc := "()I" } : Jvm.MethodName)) ∈ lw_tbl := lw_at lw_m8 209 rfl
theorem q2003 : (Jvm.Cond.instanceMethod ({ cls := "WholePacksModel", name := "here", desc := "()I" } : Jvm.MethodName)) ∈ lw_all := lw_g (lw_at lw_m8 210 rfl) rfl
theorem q2004 : (Jvm.Cond.code ({ cls := "WholePacksModel", name := "here", desc := "()I" } : Jvm.MethodName) prog_19_method_21_code (1 : Nat) (Option.some Jvm.ClassFile.FieldType.int)) ∈ lw_all := lw_g (lw_at lw_m8 211 rfl) rfl
theorem q2005 : (Jvm.Cond.methodLink "WholePacksModel" (156 : Nat) ({ cls := "WholePacksModel", name := "readsTerm", desc := "(II)Z" } : Jvm.MethodName)) ∈ lw_all := lw_g (lw_at lw_m8 212 rfl) rfl
theorem q2006 : (Jvm.Cond.privateMethod ({ cls := "WholePacksModel", name := "readsTerm", desc := "(II)Z" } : Jvm.MethodName)) ∈ lw_tbl := lw_at lw_m8 213 rfl
theorem q2007 : (Jvm.Cond.instanceMethod ({ cls := "WholePacksModel", name := "readsTerm", desc := "(II)Z" } : Jvm.MethodName)) ∈ lw_all := lw_g (lw_at lw_m8 214 rfl) rfl
theorem q2008 : (Jvm.Cond.code ({ cls := "WholePacksModel", name := "readsTerm", desc := "(II)Z" } : Jvm.MethodName) prog_19_method_24_code (5 : Nat) (Option.some Jvm.ClassFile.FieldType.boolean)) ∈ lw_all := lw_g (lw_at lw_m8 215 rfl) rfl
theorem q2009 : (Jvm.Cond.methodLink "WholePacksModel" (147 : Nat) ({ cls := "WholePacksModel", name := "isDigit", desc := "()Z" } : Jvm.MethodName)) ∈ lw_all := lw_g (lw_at lw_m8 216 rfl) rfl
theorem q2010 : (Jvm.Cond.privateMethod ({ cls := "WholePacksModel", name := "isDigit", desc := "()Z" } : Jvm.MethodName)) ∈ lw_tbl := lw_at lw_m8 217 rfl
theorem q2011 : (Jvm.Cond.instanceMethod ({ cls := "WholePacksModel", name := "isDigit", desc := "()Z" } : Jvm.MethodName)) ∈ lw_all := lw_g (lw_at lw_m8 218 rfl) rfl
theorem q2012 : (Jvm.Cond.code ({ cls := "WholePacksModel", name := "isDigit", desc := "()Z" } : Jvm.MethodName) prog_19_method_23_code (1 : Nat) (Option.some Jvm.ClassFile.FieldType.boolean)) ∈ lw_all := lw_g (lw_at lw_m8 219 rfl) rfl
theorem q2013 : (Jvm.Cond.constantLong "WholePacksModel" (143 : Nat) (48 : Int64)) ∈ lw_all := lw_g (lw_at lw_m8 220 rfl) rfl
theorem q2014 : (Jvm.Cond.constantLong "WholePacksModel" (145 : Nat) (57 : Int64)) ∈ lw_all := lw_g (lw_at lw_m8 221 rfl) rfl
theorem q2015 : (Jvm.Cond.constantLong "WholePacksModel" (151 : Nat) (97 : Int64)) ∈ lw_all := lw_g (lw_at lw_m8 222 rfl) rfl
theorem q2016 : (Jvm.Cond.methodLink "WholePacksModel" (163 : Nat) ({ cls := "WholePacksModel", name := "readsBound", desc := "(I)Z" } : Jvm.MethodName)) ∈ lw_all := lw_g (lw_at lw_m8 223 rfl) rfl
theorem q2017 : (Jvm.Cond.privateMethod ({ cls := "WholePacksModel", name := "readsBound", desc := "(I)Z" } : Jvm.MethodName)) ∈ lw_tbl := lw_at lw_m8 224 rfl
theorem q2018 : (Jvm.Cond.instanceMethod ({ cls := "WholePacksModel", name := "readsBound", desc := "(I)Z" } : Jvm.MethodName)) ∈ lw_all := lw_g (lw_at lw_m8 225 rfl) rfl
theorem q2019 : (Jvm.Cond.code ({ cls := "WholePacksModel", name := "readsBound", desc := "(I)Z" } : Jvm.MethodName) prog_19_method_26_code (5 : Nat) (Option.some Jvm.ClassFile.FieldType.boolean)) ∈ lw_all := lw_g (lw_at lw_m8 226 rfl) rfl
theorem q2021 : (Jvm.Cond.instanceMethod ({ cls := "WholePacksModel", name := "solve", desc := "(I)I" } : Jvm.MethodName)) ∈ lw_all := lw_g (lw_at lw_m8 228 rfl) rfl
theorem q2022 : (Jvm.Cond.selects "WholePacksModel" ({ cls := "WholePacksModel", name := "solve", desc := "(I)I" } : Jvm.MethodName) ({ cls := "WholePacksModel", name := "solve", desc := "(I)I" } : Jvm.MethodName)) ∈ lw_all := lw_g (lw_at lw_m8 229 rfl) rfl
theorem q2023 : (Jvm.Cond.code ({ cls := "WholePacksModel", name := "solve", desc := "(I)I" } : Jvm.MethodName) prog_19_method_46_code (2 : Nat) (Option.some Jvm.ClassFile.FieldType.int)) ∈ lw_all := lw_g (lw_at lw_m8 230 rfl) rfl
theorem q2024 : (Jvm.Cond.constantLong "WholePacksModel" (302 : Nat) (12 : Int64)) ∈ lw_all := lw_g (lw_at lw_m8 231 rfl) rfl
theorem q2025 : (Jvm.Cond.methodLink "WholePacksModel" (299 : Nat) ({ cls := "WholePacksModel", name := "solves", desc := "(LWholePacksModel$Table;I)I" } : Jvm.MethodName)) ∈ lw_all := lw_g (lw_at lw_m8 232 rfl) rfl
theorem q2026 : (Jvm.Cond.privateMethod ({ cls := "WholePacksModel", name := "solves", desc := "(LWholePacksModel$Table;I)I" } : Jvm.MethodName)) ∈ lw_tbl := lw_at lw_m8 233 rfl
theorem q2027 : (Jvm.Cond.instanceMethod ({ cls := "WholePacksModel", name := "solves", desc := "(LWholePacksModel$Table;I)I" } : Jvm.MethodName)) ∈ lw_all := lw_g (lw_at lw_m8 234 rfl) rfl
theorem q2028 : (Jvm.Cond.code ({ cls := "WholePacksModel", name := "solves", desc := "(LWholePacksModel$Table;I)I" } : Jvm.MethodName) prog_19_method_44_code (5 : Nat) (Option.some Jvm.ClassFile.FieldType.int)) ∈ lw_all := lw_g (lw_at lw_m8 235 rfl) rfl
theorem q2029 : (Jvm.Cond.methodLink "WholePacksModel" (286 : Nat) ({ cls := "WholePacksModel", name := "first", desc := "(LWholePacksModel$Table;)V" } : Jvm.MethodName)) ∈ lw_all := lw_g (lw_at lw_m8 236 rfl) rfl
theorem q2030 : (Jvm.Cond.privateMethod ({ cls := "WholePacksModel", name := "first", desc := "(LWholePacksModel$Table;)V" } : Jvm.MethodName)) ∈ lw_tbl := lw_at lw_m8 237 rfl
theorem q2031 : (Jvm.Cond.instanceMethod ({ cls := "WholePacksModel", name := "first", desc := "(LWholePacksModel$Table;)V" } : Jvm.MethodName)) ∈ lw_all := lw_g (lw_at lw_m8 238 rfl) rfl
theorem q2032 : (Jvm.Cond.code ({ cls := "WholePacksModel", name := "first", desc := "(LWholePacksModel$Table;)V" } : Jvm.MethodName) prog_19_method_31_code (4 : Nat) (Option.none : Option Jvm.ClassFile.FieldType)) ∈ lw_all := lw_g (lw_at lw_m8 239 rfl) rfl
theorem q2033 : (Jvm.Cond.methodLink "WholePacksModel" (209 : Nat) ({ cls := "WholePacksModel", name := "limitOf", desc := "(I)J" } : Jvm.MethodName)) ∈ lw_all := lw_g (lw_at lw_m9 0 rfl) rfl
theorem q2034 : (Jvm.Cond.privateMethod ({ cls := "WholePacksModel", name := "limitOf", desc := "(I)J" } : Jvm.MethodName)) ∈ lw_tbl := lw_at lw_m9 1 rfl
theorem q2035 : (Jvm.Cond.instanceMethod ({ cls := "WholePacksModel", name := "limitOf", desc := "(I)J" } : Jvm.MethodName)) ∈ lw_all := lw_g (lw_at lw_m9 2 rfl) rfl
theorem q2036 : (Jvm.Cond.code ({ cls := "WholePacksModel", name := "limitOf", desc := "(I)J" } : Jvm.MethodName) prog_19_method_11_code (2 : Nat) (Option.some Jvm.ClassFile.FieldType.long)) ∈ lw_all := lw_g (lw_at lw_m9 3 rfl) rfl
theorem q2037 : (Jvm.Cond.methodLink "WholePacksModel" (97 : Nat) ({ cls := "WholePacksModel", name := "sortOf", desc := "(I)I" } : Jvm.MethodName)) ∈ lw_all := lw_g (lw_at lw_m9 4 rfl) rfl
theorem q2038 : (Jvm.Cond.privateMethod ({ cls := "WholePacksModel", name := "sortOf", desc := "(I)I" } : Jvm.MethodName)) ∈ lw_tbl := lw_at lw_m9 5 rfl
theorem q2039 : (Jvm.Cond.instanceMethod ({ cls := "WholePacksModel", name := "sortOf", desc := "(I)I" } : Jvm.MethodName)) ∈ lw_all := lw_g (lw_at lw_m9 6 rfl) rfl
theorem q2040 : (Jvm.Cond.code ({ cls := "WholePacksModel", name := "sortOf", desc := "(I)I" } : Jvm.MethodName) prog_19_method_7_code (2 : Nat) (Option.some Jvm.ClassFile.FieldType.int)) ∈ lw_all := lw_g (lw_at lw_m9 7 rfl) rfl
theorem q2041 : (Jvm.Cond.methodLink "WholePacksModel" (213 : Nat) ({ cls := "WholePacksModel", name := "addsRow", desc := "(LWholePacksModel$Table;IJ)V" } : Jvm.MethodName)) ∈ lw_all := lw_g (lw_at lw_m9 8 rfl) rfl
theorem q2042 : (Jvm.Cond.privateMethod ({ cls := "WholePacksModel", name := "addsRow", desc := "(LWholePacksModel$Table;IJ)V" } : Jvm.MethodName)) ∈ lw_tbl := lw_at lw_m9 9 rfl
theorem q2043 : (Jvm.Cond.instanceMethod ({ cls := "WholePacksModel", name := "addsRow", desc := "(LWholePacksModel$Table;IJ)V" } : Jvm.MethodName)) ∈ lw_all := lw_g (lw_at lw_m9 10 rfl) rfl
theorem q2044 : (Jvm.Cond.code ({ cls := "WholePacksModel", name := "addsRow", desc := "(LWholePacksModel$Table;IJ)V" } : Jvm.MethodName) prog_19_method_30_code (6 : Nat) (Option.none : Option Jvm.ClassFile.FieldType)) ∈ lw_all := lw_g (lw_at lw_m9 11 rfl) rfl
theorem q2045 : (Jvm.Cond.methodLink "WholePacksModel" (217 : Nat) ({ cls := "WholePacksModel", name := "pointOf", desc := "(II)J" } : Jvm.MethodName)) ∈ lw_all := lw_g (lw_at lw_m9 12 rfl) rfl
theorem q2046 : (Jvm.Cond.privateMethod ({ cls := "WholePacksModel", name := "pointOf", desc := "(II)J" } : Jvm.MethodName)) ∈ lw_tbl := lw_at lw_m9 13 rfl
theorem q2047 : (Jvm.Cond.instanceMethod ({ cls := "WholePacksModel", name := "pointOf", desc := "(II)J" } : Jvm.MethodName)) ∈ lw_all := lw_g (lw_at lw_m9 14 rfl) rfl
theorem q2048 : (Jvm.Cond.code ({ cls := "WholePacksModel", name := "pointOf", desc := "(II)J" } : Jvm.MethodName) prog_19_method_10_code (3 : Nat) (Option.some Jvm.ClassFile.FieldType.long)) ∈ lw_all := lw_g (lw_at lw_m9 15 rfl) rfl
theorem q2049 : (Jvm.Cond.methodLink "WholePacksModel" (290 : Nat) ({ cls := "WholePacksModel", name := "repairs", desc := "(LWholePacksModel$Table;)I" } : Jvm.MethodName)) ∈ lw_all := lw_g (lw_at lw_m9 16 rfl) rfl
theorem q2050 : (Jvm.Cond.privateMethod ({ cls := "WholePacksModel", name := "repairs", desc := "(LWholePacksModel$Table;)I" } : Jvm.MethodName)) ∈ lw_tbl := lw_at lw_m9 17 rfl
theorem q2051 : (Jvm.Cond.instanceMethod ({ cls := "WholePacksModel", name := "repairs", desc := "(LWholePacksModel$Table;)I" } : Jvm.MethodName)) ∈ lw_all := lw_g (lw_at lw_m9 18 rfl) rfl
theorem q2052 : (Jvm.Cond.code ({ cls := "WholePacksModel", name := "repairs", desc := "(LWholePacksModel$Table;)I" } : Jvm.MethodName) prog_19_method_36_code (4 : Nat) (Option.some Jvm.ClassFile.FieldType.int)) ∈ lw_all := lw_g (lw_at lw_m9 19 rfl) rfl
theorem q2053 : (Jvm.Cond.methodLink "WholePacksModel" (244 : Nat) ({ cls := "WholePacksModel", name := "columnFor", desc := "(LWholePacksModel$Table;I)I" } : Jvm.MethodName)) ∈ lw_all := lw_g (lw_at lw_m9 20 rfl) rfl
theorem q2054 : (Jvm.Cond.privateMethod ({ cls := "WholePacksModel", name := "columnFor", desc := "(LWholePacksModel$Table;I)I" } : Jvm.MethodName)) ∈ lw_tbl := lw_at lw_m9 21 rfl
theorem q2055 : (Jvm.Cond.instanceMethod ({ cls := "WholePacksModel", name := "columnFor", desc := "(LWholePacksModel$Table;I)I" } : Jvm.MethodName)) ∈ lw_all := lw_g (lw_at lw_m9 22 rfl) rfl
theorem q2056 : (Jvm.Cond.code ({ cls := "WholePacksModel", name := "columnFor", desc := "(LWholePacksModel$Table;I)I" } : Jvm.MethodName) prog_19_method_35_code (9 : Nat) (Option.some Jvm.ClassFile.FieldType.int)) ∈ lw_all := lw_g (lw_at lw_m9 23 rfl) rfl
theorem q2057 : (Jvm.Cond.constantLong "WholePacksModel" (242 : Nat) (-1 : Int64)) ∈ lw_all := lw_g (lw_at lw_m9 24 rfl) rfl
theorem q2058 : (Jvm.Cond.methodLink "WholePacksModel" (248 : Nat) ({ cls := "WholePacksModel", name := "pivots", desc := "(LWholePacksModel$Table;II)Z" } : Jvm.MethodName)) ∈ lw_all := lw_g (lw_at lw_m9 25 rfl) rfl
theorem q2059 : (Jvm.Cond.privateMethod ({ cls := "WholePacksModel", name := "pivots", desc := "(LWholePacksModel$Table;II)Z" } : Jvm.MethodName)) ∈ lw_tbl := lw_at lw_m9 26 rfl
theorem q2060 : (Jvm.Cond.instanceMethod ({ cls := "WholePacksModel", name := "pivots", desc := "(LWholePacksModel$Table;II)Z" } : Jvm.MethodName)) ∈ lw_all := lw_g (lw_at lw_m9 27 rfl) rfl
theorem q2061 : (Jvm.Cond.code ({ cls := "WholePacksModel", name := "pivots", desc := "(LWholePacksModel$Table;II)Z" } : Jvm.MethodName) prog_19_method_34_code (7 : Nat) (Option.some Jvm.ClassFile.FieldType.boolean)) ∈ lw_all := lw_g (lw_at lw_m9 28 rfl) rfl
theorem q2062 : (Jvm.Cond.methodLink "WholePacksModel" (238 : Nat) ({ cls := "WholePacksModel", name := "tries", desc := "(LWholePacksModel$Table;II)Z" } : Jvm.MethodName)) ∈ lw_all := lw_g (lw_at lw_m9 29 rfl) rfl
theorem q2063 : (Jvm.Cond.privateMethod ({ cls := "WholePacksModel", name := "tries", desc := "(LWholePacksModel$Table;II)Z" } : Jvm.MethodName)) ∈ lw_tbl := lw_at lw_m9 30 rfl
theorem q2064 : (Jvm.Cond.instanceMethod ({ cls := "WholePacksModel", name := "tries", desc := "(LWholePacksModel$Table;II)Z" } : Jvm.MethodName)) ∈ lw_all := lw_g (lw_at lw_m9 31 rfl) rfl
theorem q2065 : (Jvm.Cond.code ({ cls := "WholePacksModel", name := "tries", desc := "(LWholePacksModel$Table;II)Z" } : Jvm.MethodName) prog_19_method_33_code (13 : Nat) (Option.some Jvm.ClassFile.FieldType.boolean)) ∈ lw_all := lw_g (lw_at lw_m9 32 rfl) rfl
theorem q2066 : (Jvm.Cond.methodLink "WholePacksModel" (225 : Nat) ({ cls := "WholePacksModel", name := "isNear", desc := "(J)Z" } : Jvm.MethodName)) ∈ lw_all := lw_g (lw_at lw_m9 33 rfl) rfl
theorem q2067 : (Jvm.Cond.static ({ cls := "WholePacksModel", name := "isNear", desc := "(J)Z" } : Jvm.MethodName)) ∈ lw_all := lw_g (lw_at lw_m9 34 rfl) rfl
theorem q2068 : (Jvm.Cond.code ({ cls := "WholePacksModel", name := "isNear", desc := "(J)Z" } : Jvm.MethodName) prog_19_method_32_code (2 : Nat) (Option.some Jvm.ClassFile.FieldType.boolean)) ∈ lw_all := lw_g (lw_at lw_m9 35 rfl) rfl
theorem q2069 : (Jvm.Cond.constantLong "WholePacksModel" (221 : Nat) (-1000000000 : Int64)) ∈ lw_all := lw_g (lw_at lw_m9 36 rfl) rfl
theorem q2070 : (Jvm.Cond.constantLong "WholePacksModel" (223 : Nat) (1000000000 : Int64)) ∈ lw_all := lw_g (lw_at lw_m9 37 rfl) rfl
theorem q2071 : (Jvm.Cond.methodLink "WholePacksModel" (294 : Nat) ({ cls := "WholePacksModel", name := "partly", desc := "(LWholePacksModel$Table;)I" } : Jvm.MethodName)) ∈ lw_all := lw_g (lw_at lw_m9 38 rfl) rfl
theorem q2072 : (Jvm.Cond.privateMethod ({ cls := "WholePacksModel", name := "partly", desc := "(LWholePacksModel$Table;)I" } : Jvm.MethodName)) ∈ lw_tbl := lw_at lw_m9 39 rfl
theorem q2073 : (Jvm.Cond.instanceMethod ({ cls := "WholePacksModel", name := "partly", desc := "(LWholePacksModel$Table;)I" } : Jvm.MethodName)) ∈ lw_all := lw_g (lw_at lw_m9 40 rfl) rfl
theorem q2074 : (Jvm.Cond.code ({ cls := "WholePacksModel", name := "partly", desc := "(LWholePacksModel$Table;)I" } : Jvm.MethodName) prog_19_method_38_code (3 : Nat) (Option.some Jvm.ClassFile.FieldType.int)) ∈ lw_all := lw_g (lw_at lw_m9 41 rfl) rfl
theorem q2075 : (Jvm.Cond.methodLink "WholePacksModel" (297 : Nat) ({ cls := "WholePacksModel", name := "cuts", desc := "(LWholePacksModel$Table;I)Z" } : Jvm.MethodName)) ∈ lw_all := lw_g (lw_at lw_m9 42 rfl) rfl
theorem q2076 : (Jvm.Cond.privateMethod ({ cls := "WholePacksModel", name := "cuts", desc := "(LWholePacksModel$Table;I)Z" } : Jvm.MethodName)) ∈ lw_tbl := lw_at lw_m9 43 rfl
theorem q2077 : (Jvm.Cond.instanceMethod ({ cls := "WholePacksModel", name := "cuts", desc := "(LWholePacksModel$Table;I)Z" } : Jvm.MethodName)) ∈ lw_all := lw_g (lw_at lw_m9 44 rfl) rfl
theorem q2078 : (Jvm.Cond.code ({ cls := "WholePacksModel", name := "cuts", desc := "(LWholePacksModel$Table;I)Z" } : Jvm.MethodName) prog_19_method_42_code (7 : Nat) (Option.some Jvm.ClassFile.FieldType.boolean)) ∈ lw_all := lw_g (lw_at lw_m9 45 rfl) rfl
theorem q2079 : (Jvm.Cond.methodLink "WholePacksModel" (270 : Nat) ({ cls := "WholePacksModel", name := "tells", desc := "(LWholePacksModel$Table;I)Z" } : Jvm.MethodName)) ∈ lw_all := lw_g (lw_at lw_m9 46 rfl) rfl
theorem q2080 : (Jvm.Cond.privateMethod ({ cls := "WholePacksModel", name := "tells", desc := "(LWholePacksModel$Table;I)Z" } : Jvm.MethodName)) ∈ lw_tbl := lw_at lw_m9 47 rfl
theorem q2081 : (Jvm.Cond.instanceMethod ({ cls := "WholePacksModel", name := "tells", desc := "(LWholePacksModel$Table;I)Z" } : Jvm.MethodName)) ∈ lw_all := lw_g (lw_at lw_m9 48 rfl) rfl
theorem q2082 : (Jvm.Cond.code ({ cls := "WholePacksModel", name := "tells", desc := "(LWholePacksModel$Table;I)Z" } : Jvm.MethodName) prog_19_method_41_code (11 : Nat) (Option.some Jvm.ClassFile.FieldType.boolean)) ∈ lw_all := lw_g (lw_at lw_m9 49 rfl) rfl
theorem q2083 : (Jvm.Cond.methodLink "WholePacksModel" (256 : Nat) ({ cls := "java/lang/Math", name := "floorDiv", desc := "(JJ)J" } : Jvm.MethodName)) ∈ lw_all := lw_g (lw_at lw_m9 50 rfl) rfl
theorem q2084 : (Jvm.Cond.methodLink "WholePacksModel" (262 : Nat) ({ cls := "WholePacksModel", name := "leftPoint", desc := "(LWholePacksModel$Table;II)J" } : Jvm.MethodName)) ∈ lw_all := lw_g (lw_at lw_m9 51 rfl) rfl
theorem q2085 : (Jvm.Cond.privateMethod ({ cls := "WholePacksModel", name := "leftPoint", desc := "(LWholePacksModel$Table;II)J" } : Jvm.MethodName)) ∈ lw_tbl := lw_at lw_m9 52 rfl
theorem q2086 : (Jvm.Cond.instanceMethod ({ cls := "WholePacksModel", name := "leftPoint", desc := "(LWholePacksModel$Table;II)J" } : Jvm.MethodName)) ∈ lw_all := lw_g (lw_at lw_m9 53 rfl) rfl
theorem q2087 : (Jvm.Cond.code ({ cls := "WholePacksModel", name := "leftPoint", desc := "(LWholePacksModel$Table;II)J" } : Jvm.MethodName) prog_19_method_39_code (4 : Nat) (Option.some Jvm.ClassFile.FieldType.long)) ∈ lw_all := lw_g (lw_at lw_m9 54 rfl) rfl
theorem q2088 : (Jvm.Cond.methodLink "WholePacksModel" (266 : Nat) ({ cls := "WholePacksModel", name := "leftLimit", desc := "(LWholePacksModel$Table;I)J" } : Jvm.MethodName)) ∈ lw_all := lw_g (lw_at lw_m9 55 rfl) rfl
theorem q2089 : (Jvm.Cond.privateMethod ({ cls := "WholePacksModel", name := "leftLimit", desc := "(LWholePacksModel$Table;I)J" } : Jvm.MethodName)) ∈ lw_tbl := lw_at lw_m9 56 rfl
theorem q2090 : (Jvm.Cond.instanceMethod ({ cls := "WholePacksModel", name := "leftLimit", desc := "(LWholePacksModel$Table;I)J" } : Jvm.MethodName)) ∈ lw_all := lw_g (lw_at lw_m9 57 rfl) rfl
theorem q2091 : (Jvm.Cond.code ({ cls := "WholePacksModel", name := "leftLimit", desc := "(LWholePacksModel$Table;I)J" } : Jvm.MethodName) prog_19_method_40_code (3 : Nat) (Option.some Jvm.ClassFile.FieldType.long)) ∈ lw_all := lw_g (lw_at lw_m9 58 rfl) rfl
theorem q2092 : (Jvm.Cond.methodLink "WholePacksModel" (280 : Nat) ({ cls := "java/lang/Math", name := "floorMod", desc := "(JJ)J" } : Jvm.MethodName)) ∈ lw_all := lw_g (lw_at lw_m9 59 rfl) rfl
theorem q2093 : (Jvm.Cond.methodLink "WholePacksModel" (283 : Nat) ({ cls := "WholePacksModel", name := "slot", desc := "(I)I" } : Jvm.MethodName)) ∈ lw_all := lw_g (lw_at lw_m9 60 rfl) rfl
theorem q2094 : (Jvm.Cond.static ({ cls := "WholePacksModel", name := "slot", desc := "(I)I" } : Jvm.MethodName)) ∈ lw_all := lw_g (lw_at lw_m9 61 rfl) rfl
theorem q2095 : (Jvm.Cond.code ({ cls := "WholePacksModel", name := "slot", desc := "(I)I" } : Jvm.MethodName) prog_19_method_43_code (1 : Nat) (Option.some Jvm.ClassFile.FieldType.int)) ∈ lw_all := lw_g (lw_at lw_m9 62 rfl) rfl
theorem q2097 : (Jvm.Cond.instanceMethod ({ cls := "WholePacksModel", name := "entry", desc := "(II)J" } : Jvm.MethodName)) ∈ lw_all := lw_g (lw_at lw_m9 64 rfl) rfl
theorem q2098 : (Jvm.Cond.selects "WholePacksModel" ({ cls := "WholePacksModel", name := "entry", desc := "(II)J" } : Jvm.MethodName) ({ cls := "WholePacksModel", name := "entry", desc := "(II)J" } : Jvm.MethodName)) ∈ lw_all := lw_g (lw_at lw_m9 65 rfl) rfl
theorem q2099 : (Jvm.Cond.code ({ cls := "WholePacksModel", name := "entry", desc := "(II)J" } : Jvm.MethodName) prog_19_method_47_code (3 : Nat) (Option.some Jvm.ClassFile.FieldType.long)) ∈ lw_all := lw_g (lw_at lw_m9 66 rfl) rfl
theorem q2100 : (Jvm.Cond.constantLong "WholePacksModel" (304 : Nat) (-2 : Int64)) ∈ lw_all := lw_g (lw_at lw_m9 67 rfl) rfl
theorem q2101 : (Jvm.Cond.constantLong "WholePacksModel" (306 : Nat) (-9223372036854775808 : Int64)) ∈ lw_all := lw_g (lw_at lw_m9 68 rfl) rfl
theorem q2103 : (Jvm.Cond.instanceMethod ({ cls := "WholePacksModel", name := "amount", desc := "(II)J" } : Jvm.MethodName)) ∈ lw_all := lw_g (lw_at lw_m9 70 rfl) rfl
theorem q2104 : (Jvm.Cond.selects "WholePacksModel" ({ cls := "WholePacksModel", name := "amount", desc := "(II)J" } : Jvm.MethodName) ({ cls := "WholePacksModel", name := "amount", desc := "(II)J" } : Jvm.MethodName)) ∈ lw_all := lw_g (lw_at lw_m9 71 rfl) rfl
theorem q2105 : (Jvm.Cond.code ({ cls := "WholePacksModel", name := "amount", desc := "(II)J" } : Jvm.MethodName) prog_19_method_51_code (3 : Nat) (Option.some Jvm.ClassFile.FieldType.long)) ∈ lw_all := lw_g (lw_at lw_m9 72 rfl) rfl
theorem q2106 : (Jvm.Cond.methodLink "WholePacksModel" (311 : Nat) ({ cls := "WholePacksModel", name := "isPart", desc := "(I)Z" } : Jvm.MethodName)) ∈ lw_all := lw_g (lw_at lw_m9 73 rfl) rfl
theorem q2107 : (Jvm.Cond.static ({ cls := "WholePacksModel", name := "isPart", desc := "(I)Z" } : Jvm.MethodName)) ∈ lw_all := lw_g (lw_at lw_m9 74 rfl) rfl
theorem q2108 : (Jvm.Cond.code ({ cls := "WholePacksModel", name := "isPart", desc := "(I)Z" } : Jvm.MethodName) prog_19_method_49_code (1 : Nat) (Option.some Jvm.ClassFile.FieldType.boolean)) ∈ lw_all := lw_g (lw_at lw_m9 75 rfl) rfl
theorem q2109 : (Jvm.Cond.methodLink "WholePacksModel" (314 : Nat) ({ cls := "WholePacksModel", name := "amountIn", desc := "(LWholePacksModel$Table;I)J" } : Jvm.MethodName)) ∈ lw_all := lw_g (lw_at lw_m9 76 rfl) rfl
theorem q2110 : (Jvm.Cond.privateMethod ({ cls := "WholePacksModel", name := "amountIn", desc := "(LWholePacksModel$Table;I)J" } : Jvm.MethodName)) ∈ lw_tbl := lw_at lw_m9 77 rfl
theorem q2111 : (Jvm.Cond.instanceMethod ({ cls := "WholePacksModel", name := "amountIn", desc := "(LWholePacksModel$Table;I)J" } : Jvm.MethodName)) ∈ lw_all := lw_g (lw_at lw_m9 78 rfl) rfl
theorem q2112 : (Jvm.Cond.code ({ cls := "WholePacksModel", name := "amountIn", desc := "(LWholePacksModel$Table;I)J" } : Jvm.MethodName) prog_19_method_50_code (4 : Nat) (Option.some Jvm.ClassFile.FieldType.long)) ∈ lw_all := lw_g (lw_at lw_m9 79 rfl) rfl
theorem q2113 : (Jvm.Cond.methodLink "WholePacksModel" (308 : Nat) ({ cls := "WholePacksModel", name := "rowOf", desc := "(LWholePacksModel$Table;I)I" } : Jvm.MethodName)) ∈ lw_all := lw_g (lw_at lw_m9 80 rfl) rfl
theorem q2114 : (Jvm.Cond.privateMethod ({ cls := "WholePacksModel", name := "rowOf", desc := "(LWholePacksModel$Table;I)I" } : Jvm.MethodName)) ∈ lw_tbl := lw_at lw_m9 81 rfl
theorem q2115 : (Jvm.Cond.instanceMethod ({ cls := "WholePacksModel", name := "rowOf", desc := "(LWholePacksModel$Table;I)I" } : Jvm.MethodName)) ∈ lw_all := lw_g (lw_at lw_m9 82 rfl) rfl
theorem q2116 : (Jvm.Cond.code ({ cls := "WholePacksModel", name := "rowOf", desc := "(LWholePacksModel$Table;I)I" } : Jvm.MethodName) prog_19_method_37_code (4 : Nat) (Option.some Jvm.ClassFile.FieldType.int)) ∈ lw_all := lw_g (lw_at lw_m9 83 rfl) rfl
theorem q2117 : (Jvm.Cond.methodLink "WholePacksModel" (317 : Nat) ({ cls := "WholePacksModel", name := "lowest", desc := "(JJI)J" } : Jvm.MethodName)) ∈ lw_all := lw_g (lw_at lw_m9 84 rfl) rfl
theorem q2118 : (Jvm.Cond.static ({ cls := "WholePacksModel", name := "lowest", desc := "(JJI)J" } : Jvm.MethodName)) ∈ lw_all := lw_g (lw_at lw_m9 85 rfl) rfl
theorem q2119 : (Jvm.Cond.code ({ cls := "WholePacksModel", name := "lowest", desc := "(JJI)J" } : Jvm.MethodName) prog_19_method_48_code (11 : Nat) (Option.some Jvm.ClassFile.FieldType.long)) ∈ lw_all := lw_g (lw_at lw_m9 86 rfl) rfl
theorem q2121 : (Jvm.Cond.instanceMethod ({ cls := "WholePacksModel", name := "value", desc := "(I)J" } : Jvm.MethodName)) ∈ lw_all := lw_g (lw_at lw_m9 88 rfl) rfl
theorem q2122 : (Jvm.Cond.selects "WholePacksModel" ({ cls := "WholePacksModel", name := "value", desc := "(I)J" } : Jvm.MethodName) ({ cls := "WholePacksModel", name := "value", desc := "(I)J" } : Jvm.MethodName)) ∈ lw_all := lw_g (lw_at lw_m9 89 rfl) rfl
theorem q2123 : (Jvm.Cond.code ({ cls := "WholePacksModel", name := "value", desc := "(I)J" } : Jvm.MethodName) prog_19_method_52_code (2 : Nat) (Option.some Jvm.ClassFile.FieldType.long)) ∈ lw_all := lw_g (lw_at lw_m9 90 rfl) rfl
theorem q2125 : (Jvm.Cond.instanceMethod ({ cls := "WholePacksModel", name := "price", desc := "(II)J" } : Jvm.MethodName)) ∈ lw_all := lw_g (lw_at lw_m9 92 rfl) rfl
theorem q2126 : (Jvm.Cond.selects "WholePacksModel" ({ cls := "WholePacksModel", name := "price", desc := "(II)J" } : Jvm.MethodName) ({ cls := "WholePacksModel", name := "price", desc := "(II)J" } : Jvm.MethodName)) ∈ lw_all := lw_g (lw_at lw_m9 93 rfl) rfl
theorem q2127 : (Jvm.Cond.code ({ cls := "WholePacksModel", name := "price", desc := "(II)J" } : Jvm.MethodName) prog_19_method_53_code (4 : Nat) (Option.some Jvm.ClassFile.FieldType.long)) ∈ lw_all := lw_g (lw_at lw_m9 94 rfl) rfl
theorem q2129 : (Jvm.Cond.instanceMethod ({ cls := "WholePacksModel", name := "cut", desc := "(II)J" } : Jvm.MethodName)) ∈ lw_all := lw_g (lw_at lw_m9 96 rfl) rfl
theorem q2130 : (Jvm.Cond.selects "WholePacksModel" ({ cls := "WholePacksModel", name := "cut", desc := "(II)J" } : Jvm.MethodName) ({ cls := "WholePacksModel", name := "cut", desc := "(II)J" } : Jvm.MethodName)) ∈ lw_all := lw_g (lw_at lw_m9 97 rfl) rfl
theorem q2131 : (Jvm.Cond.code ({ cls := "WholePacksModel", name := "cut", desc := "(II)J" } : Jvm.MethodName) prog_19_method_55_code (3 : Nat) (Option.some Jvm.ClassFile.FieldType.long)) ∈ lw_all := lw_g (lw_at lw_m9 98 rfl) rfl
theorem q2132 : (Jvm.Cond.methodLink "WholePacksModel" (321 : Nat) ({ cls := "WholePacksModel", name := "isCut", desc := "(I)Z" } : Jvm.MethodName)) ∈ lw_all := lw_g (lw_at lw_m9 99 rfl) rfl
theorem q2133 : (Jvm.Cond.privateMethod ({ cls := "WholePacksModel", name := "isCut", desc := "(I)Z" } : Jvm.MethodName)) ∈ lw_tbl := lw_at lw_m9 100 rfl
theorem q2134 : (Jvm.Cond.instanceMethod ({ cls := "WholePacksModel", name := "isCut", desc := "(I)Z" } : Jvm.MethodName)) ∈ lw_all := lw_g (lw_at lw_m9 101 rfl) rfl
theorem q2135 : (Jvm.Cond.code ({ cls := "WholePacksModel", name := "isCut", desc := "(I)Z" } : Jvm.MethodName) prog_19_method_54_code (2 : Nat) (Option.some Jvm.ClassFile.FieldType.boolean)) ∈ lw_all := lw_g (lw_at lw_m9 102 rfl) rfl
theorem q2137 : (Jvm.Cond.instanceMethod ({ cls := "WholePacksModel", name := "weight", desc := "(III)J" } : Jvm.MethodName)) ∈ lw_all := lw_g (lw_at lw_m9 104 rfl) rfl
theorem q2138 : (Jvm.Cond.selects "WholePacksModel" ({ cls := "WholePacksModel", name := "weight", desc := "(III)J" } : Jvm.MethodName) ({ cls := "WholePacksModel", name := "weight", desc := "(III)J" } : Jvm.MethodName)) ∈ lw_all := lw_g (lw_at lw_m9 105 rfl) rfl
theorem q2139 : (Jvm.Cond.code ({ cls := "WholePacksModel", name := "weight", desc := "(III)J" } : Jvm.MethodName) prog_19_method_56_code (4 : Nat) (Option.some Jvm.ClassFile.FieldType.long)) ∈ lw_all := lw_g (lw_at lw_m9 106 rfl) rfl
theorem q2140 : (Jvm.Cond.constantLong "WholePacksModel" (324 : Nat) (20 : Int64)) ∈ lw_all := lw_g (lw_at lw_m9 107 rfl) rfl
theorem q2142 : (Jvm.Cond.instanceMethod ({ cls := "WholePacksModel", name := "proved", desc := "(I)I" } : Jvm.MethodName)) ∈ lw_all := lw_g (lw_at lw_m9 109 rfl) rfl
theorem q2143 : (Jvm.Cond.selects "WholePacksModel" ({ cls := "WholePacksModel", name := "proved", desc := "(I)I" } : Jvm.MethodName) ({ cls := "WholePacksModel", name := "proved", desc := "(I)I" } : Jvm.MethodName)) ∈ lw_all := lw_g (lw_at lw_m9 110 rfl) rfl
theorem q2144 : (Jvm.Cond.code ({ cls := "WholePacksModel", name := "proved", desc := "(I)I" } : Jvm.MethodName) prog_19_method_58_code (4 : Nat) (Option.some Jvm.ClassFile.FieldType.int)) ∈ lw_all := lw_g (lw_at lw_m9 111 rfl) rfl
theorem q2145 : (Jvm.Cond.methodLink "WholePacksModel" (329 : Nat) ({ cls := "WholePacksModel", name := "weighed", desc := "(II)J" } : Jvm.MethodName)) ∈ lw_all := lw_g (lw_at lw_m9 112 rfl) rfl
theorem q2146 : (Jvm.Cond.privateMethod ({ cls := "WholePacksModel", name := "weighed", desc := "(II)J" } : Jvm.MethodName)) ∈ lw_tbl := lw_at lw_m9 113 rfl
theorem q2147 : (Jvm.Cond.instanceMethod ({ cls := "WholePacksModel", name := "weighed", desc := "(II)J" } : Jvm.MethodName)) ∈ lw_all := lw_g (lw_at lw_m9 114 rfl) rfl
theorem q2148 : (Jvm.Cond.code ({ cls := "WholePacksModel", name := "weighed", desc := "(II)J" } : Jvm.MethodName) prog_19_method_57_code (6 : Nat) (Option.some Jvm.ClassFile.FieldType.long)) ∈ lw_all := lw_g (lw_at lw_m9 115 rfl) rfl
theorem q2149 : (Jvm.Cond.methodLink "WholePacksModel" (326 : Nat) ({ cls := "WholePacksModel", name := "cut", desc := "(II)J" } : Jvm.MethodName)) ∈ lw_all := lw_g (lw_at lw_m9 116 rfl) rfl
theorem q2151 : (Jvm.Cond.instanceMethod ({ cls := "WholePacksModel", name := "hand", desc := "(II)I" } : Jvm.MethodName)) ∈ lw_all := lw_g (lw_at lw_m9 118 rfl) rfl
theorem q2152 : (Jvm.Cond.selects "WholePacksModel" ({ cls := "WholePacksModel", name := "hand", desc := "(II)I" } : Jvm.MethodName) ({ cls := "WholePacksModel", name := "hand", desc := "(II)I" } : Jvm.MethodName)) ∈ lw_all := lw_g (lw_at lw_m9 119 rfl) rfl
theorem q2153 : (Jvm.Cond.code ({ cls := "WholePacksModel", name := "hand", desc := "(II)I" } : Jvm.MethodName) prog_19_method_59_code (4 : Nat) (Option.some Jvm.ClassFile.FieldType.int)) ∈ lw_all := lw_g (lw_at lw_m9 120 rfl) rfl
theorem q2155 : (Jvm.Cond.instanceMethod ({ cls := "WholePacksModel", name := "by", desc := "(I)I" } : Jvm.MethodName)) ∈ lw_all := lw_g (lw_at lw_m9 122 rfl) rfl
theorem q2156 : (Jvm.Cond.selects "WholePacksModel" ({ cls := "WholePacksModel", name := "by", desc := "(I)I" } : Jvm.MethodName) ({ cls := "WholePacksModel", name := "by", desc := "(I)I" } : Jvm.MethodName)) ∈ lw_all := lw_g (lw_at lw_m9 123 rfl) rfl
theorem q2157 : (Jvm.Cond.code ({ cls := "WholePacksModel", name := "by", desc := "(I)I" } : Jvm.MethodName) prog_19_method_60_code (3 : Nat) (Option.some Jvm.ClassFile.FieldType.int)) ∈ lw_all := lw_g (lw_at lw_m9 124 rfl) rfl
theorem q2158 : (Jvm.Cond.constantLong "WholePacksModel" (332 : Nat) (10 : Int64)) ∈ lw_all := lw_g (lw_at lw_m9 125 rfl) rfl
theorem q2160 : (Jvm.Cond.instanceMethod ({ cls := "WholePacksModel", name := "points", desc := "(I)J" } : Jvm.MethodName)) ∈ lw_all := lw_g (lw_at lw_m9 127 rfl) rfl
theorem q2161 : (Jvm.Cond.selects "WholePacksModel" ({ cls := "WholePacksModel", name := "points", desc := "(I)J" } : Jvm.MethodName) ({ cls := "WholePacksModel", name := "points", desc := "(I)J" } : Jvm.MethodName)) ∈ lw_all := lw_g (lw_at lw_m9 128 rfl) rfl
theorem q2162 : (Jvm.Cond.code ({ cls := "WholePacksModel", name := "points", desc := "(I)J" } : Jvm.MethodName) prog_19_method_61_code (5 : Nat) (Option.some Jvm.ClassFile.FieldType.long)) ∈ lw_all := lw_g (lw_at lw_m9 129 rfl) rfl
theorem q2163 : (Jvm.Cond.methodLink "WholePacksModel" (334 : Nat) ({ cls := "java/lang/Math", name := "floorDiv", desc := "(JI)J" } : Jvm.MethodName)) ∈ lw_all := lw_g (lw_at lw_m9 130 rfl) rfl
theorem q2168 : (Jvm.Cond.instanceMethod ({ cls := "WholePacksModel", name := "bites", desc := "()I" } : Jvm.MethodName)) ∈ lw_all := lw_g (lw_at lw_m9 135 rfl) rfl
theorem q2169 : (Jvm.Cond.selects "WholePacksModel" ({ cls := "WholePacksModel", name := "bites", desc := "()I" } : Jvm.MethodName) ({ cls := "WholePacksModel", name := "bites", desc := "()I" } : Jvm.MethodName)) ∈ lw_all := lw_g (lw_at lw_m9 136 rfl) rfl
theorem q2170 : (Jvm.Cond.code ({ cls := "WholePacksModel", name := "bites", desc := "()I" } : Jvm.MethodName) prog_19_method_62_code (4 : Nat) (Option.some Jvm.ClassFile.FieldType.int)) ∈ lw_all := lw_g (lw_at lw_m9 137 rfl) rfl
theorem q2171 : (Jvm.Cond.methodLink "WholePacksModel" (337 : Nat) ({ cls := "WholePacksModel", name := "points", desc := "(I)J" } : Jvm.MethodName)) ∈ lw_all := lw_g (lw_at lw_m9 138 rfl) rfl
theorem q2173 : (Jvm.Cond.instanceMethod ({ cls := "WholePacksModel", name := "box", desc := "(I)I" } : Jvm.MethodName)) ∈ lw_all := lw_g (lw_at lw_m9 140 rfl) rfl
theorem q2174 : (Jvm.Cond.selects "WholePacksModel" ({ cls := "WholePacksModel", name := "box", desc := "(I)I" } : Jvm.MethodName) ({ cls := "WholePacksModel", name := "box", desc := "(I)I" } : Jvm.MethodName)) ∈ lw_all := lw_g (lw_at lw_m9 141 rfl) rfl
theorem q2175 : (Jvm.Cond.code ({ cls := "WholePacksModel", name := "box", desc := "(I)I" } : Jvm.MethodName) prog_19_method_70_code (3 : Nat) (Option.some Jvm.ClassFile.FieldType.int)) ∈ lw_all := lw_g (lw_at lw_m9 142 rfl) rfl
theorem q2176 : (Jvm.Cond.constantLong "WholePacksModel" (349 : Nat) (6 : Int64)) ∈ lw_all := lw_g (lw_at lw_m9 143 rfl) rfl
theorem q2178 : (Jvm.Cond.instanceMethod ({ cls := "WholePacksModel", name := "nth", desc := "(I)I" } : Jvm.MethodName)) ∈ lw_all := lw_g (lw_at lw_m9 145 rfl) rfl
theorem q2179 : (Jvm.Cond.selects "WholePacksModel" ({ cls := "WholePacksModel", name := "nth", desc := "(I)I" } : Jvm.MethodName) ({ cls := "WholePacksModel", name := "nth", desc := "(I)I" } : Jvm.MethodName)) ∈ lw_all := lw_g (lw_at lw_m9 146 rfl) rfl
theorem q2180 : (Jvm.Cond.code ({ cls := "WholePacksModel", name := "nth", desc := "(I)I" } : Jvm.MethodName) prog_19_method_71_code (6 : Nat) (Option.some Jvm.ClassFile.FieldType.int)) ∈ lw_all := lw_g (lw_at lw_m9 147 rfl) rfl
theorem q2181 : (Jvm.Cond.constantLong "WholePacksModel" (351 : Nat) (19 : Int64)) ∈ lw_all := lw_g (lw_at lw_m9 148 rfl) rfl
theorem q2182 : (Jvm.Cond.methodLink "WholePacksModel" (353 : Nat) ({ cls := "WholePacksModel", name := "costOf", desc := "(I)I" } : Jvm.MethodName)) ∈ lw_all := lw_g (lw_at lw_m9 149 rfl) rfl
theorem q2183 : (Jvm.Cond.privateMethod ({ cls := "WholePacksModel", name := "costOf", desc := "(I)I" } : Jvm.MethodName)) ∈ lw_tbl := lw_at lw_m9 150 rfl
theorem q2184 : (Jvm.Cond.instanceMethod ({ cls := "WholePacksModel", name := "costOf", desc := "(I)I" } : Jvm.MethodName)) ∈ lw_all := lw_g (lw_at lw_m9 151 rfl) rfl
theorem q2185 : (Jvm.Cond.code ({ cls := "WholePacksModel", name := "costOf", desc := "(I)I" } : Jvm.MethodName) prog_19_method_66_code (4 : Nat) (Option.some Jvm.ClassFile.FieldType.int)) ∈ lw_all := lw_g (lw_at lw_m9 152 rfl) rfl
theorem q2186 : (Jvm.Cond.methodLink "WholePacksModel" (343 : Nat) ({ cls := "WholePacksModel", name := "mixes", desc := "(I)V" } : Jvm.MethodName)) ∈ lw_all := lw_g (lw_at lw_m9 153 rfl) rfl
theorem q2187 : (Jvm.Cond.privateMethod ({ cls := "WholePacksModel", name := "mixes", desc := "(I)V" } : Jvm.MethodName)) ∈ lw_tbl := lw_at lw_m9 154 rfl
theorem q2188 : (Jvm.Cond.instanceMethod ({ cls := "WholePacksModel", name := "mixes", desc := "(I)V" } : Jvm.MethodName)) ∈ lw_all := lw_g (lw_at lw_m9 155 rfl) rfl
theorem q2189 : (Jvm.Cond.code ({ cls := "WholePacksModel", name := "mixes", desc := "(I)V" } : Jvm.MethodName) prog_19_method_65_code (4 : Nat) (Option.none : Option Jvm.ClassFile.FieldType)) ∈ lw_all := lw_g (lw_at lw_m9 156 rfl) rfl
theorem q2190 : (Jvm.Cond.methodLink "WholePacksModel" (356 : Nat) ({ cls := "WholePacksModel", name := "broken", desc := "()I" } : Jvm.MethodName)) ∈ lw_all := lw_g (lw_at lw_m9 157 rfl) rfl
theorem q2191 : (Jvm.Cond.privateMethod ({ cls := "WholePacksModel", name := "broken", desc := "()I" } : Jvm.MethodName)) ∈ lw_tbl := lw_at lw_m9 158 rfl
theorem q2192 : (Jvm.Cond.instanceMethod ({ cls := "WholePacksModel", name := "broken", desc := "()I" } : Jvm.MethodName)) ∈ lw_all := lw_g (lw_at lw_m9 159 rfl) rfl
theorem q2193 : (Jvm.Cond.code ({ cls := "WholePacksModel", name := "broken", desc := "()I" } : Jvm.MethodName) prog_19_method_68_code (3 : Nat) (Option.some Jvm.ClassFile.FieldType.int)) ∈ lw_all := lw_g (lw_at lw_m9 160 rfl) rfl
theorem q2194 : (Jvm.Cond.methodLink "WholePacksModel" (346 : Nat) ({ cls := "WholePacksModel", name := "isBroken", desc := "(I)Z" } : Jvm.MethodName)) ∈ lw_all := lw_g (lw_at lw_m9 161 rfl) rfl
theorem q2195 : (Jvm.Cond.privateMethod ({ cls := "WholePacksModel", name := "isBroken", desc := "(I)Z" } : Jvm.MethodName)) ∈ lw_tbl := lw_at lw_m9 162 rfl
theorem q2196 : (Jvm.Cond.instanceMethod ({ cls := "WholePacksModel", name := "isBroken", desc := "(I)Z" } : Jvm.MethodName)) ∈ lw_all := lw_g (lw_at lw_m9 163 rfl) rfl
theorem q2197 : (Jvm.Cond.code ({ cls := "WholePacksModel", name := "isBroken", desc := "(I)Z" } : Jvm.MethodName) prog_19_method_67_code (5 : Nat) (Option.some Jvm.ClassFile.FieldType.boolean)) ∈ lw_all := lw_g (lw_at lw_m9 164 rfl) rfl
theorem q2198 : (Jvm.Cond.methodLink "WholePacksModel" (359 : Nat) ({ cls := "java/lang/Math", name := "min", desc := "(II)I" } : Jvm.MethodName)) ∈ lw_all := lw_g (lw_at lw_m9 165 rfl) rfl
theorem q2199 : (Jvm.Cond.methodLink "WholePacksModel" (362 : Nat) ({ cls := "WholePacksModel", name := "nextCode", desc := "(I)I" } : Jvm.MethodName)) ∈ lw_all := lw_g (lw_at lw_m9 166 rfl) rfl
theorem q2200 : (Jvm.Cond.privateMethod ({ cls := "WholePacksModel", name := "nextCode", desc := "(I)I" } : Jvm.MethodName)) ∈ lw_tbl := lw_at lw_m9 167 rfl
theorem q2201 : (Jvm.Cond.instanceMethod ({ cls := "WholePacksModel", name := "nextCode", desc := "(I)I" } : Jvm.MethodName)) ∈ lw_all := lw_g (lw_at lw_m9 168 rfl) rfl
theorem q2202 : (Jvm.Cond.code ({ cls := "WholePacksModel", name := "nextCode", desc := "(I)I" } : Jvm.MethodName) prog_19_method_69_code (5 : Nat) (Option.some Jvm.ClassFile.FieldType.int)) ∈ lw_all := lw_g (lw_at lw_m9 169 rfl) rfl
theorem q2204 : (Jvm.Cond.instanceMethod ({ cls := "WholePacksModel", name := "many", desc := "(I)I" } : Jvm.MethodName)) ∈ lw_all := lw_g (lw_at lw_m9 171 rfl) rfl
theorem q2205 : (Jvm.Cond.selects "WholePacksModel" ({ cls := "WholePacksModel", name := "many", desc := "(I)I" } : Jvm.MethodName) ({ cls := "WholePacksModel", name := "many", desc := "(I)I" } : Jvm.MethodName)) ∈ lw_all := lw_g (lw_at lw_m9 172 rfl) rfl
theorem q2206 : (Jvm.Cond.code ({ cls := "WholePacksModel", name := "many", desc := "(I)I" } : Jvm.MethodName) prog_19_method_72_code (4 : Nat) (Option.some Jvm.ClassFile.FieldType.int)) ∈ lw_all := lw_g (lw_at lw_m9 173 rfl) rfl
theorem q2208 : (Jvm.Cond.instanceMethod ({ cls := "WholePacksModel", name := "breaks", desc := "(I)I" } : Jvm.MethodName)) ∈ lw_all := lw_g (lw_at lw_m9 175 rfl) rfl
theorem q2209 : (Jvm.Cond.selects "WholePacksModel" ({ cls := "WholePacksModel", name := "breaks", desc := "(I)I" } : Jvm.MethodName) ({ cls := "WholePacksModel", name := "breaks", desc := "(I)I" } : Jvm.MethodName)) ∈ lw_all := lw_g (lw_at lw_m9 176 rfl) rfl
theorem q2210 : (Jvm.Cond.code ({ cls := "WholePacksModel", name := "breaks", desc := "(I)I" } : Jvm.MethodName) prog_19_method_73_code (3 : Nat) (Option.some Jvm.ClassFile.FieldType.int)) ∈ lw_all := lw_g (lw_at lw_m9 177 rfl) rfl
theorem q2211 : (Jvm.Cond.methodLink "WholePacksModel" (365 : Nat) ({ cls := "WholePacksModel", name := "isCode", desc := "(I)Z" } : Jvm.MethodName)) ∈ lw_all := lw_g (lw_at lw_m9 178 rfl) rfl
theorem q2212 : (Jvm.Cond.privateMethod ({ cls := "WholePacksModel", name := "isCode", desc := "(I)Z" } : Jvm.MethodName)) ∈ lw_tbl := lw_at lw_m9 179 rfl
theorem q2213 : (Jvm.Cond.instanceMethod ({ cls := "WholePacksModel", name := "isCode", desc := "(I)Z" } : Jvm.MethodName)) ∈ lw_all := lw_g (lw_at lw_m9 180 rfl) rfl
theorem q2214 : (Jvm.Cond.code ({ cls := "WholePacksModel", name := "isCode", desc := "(I)Z" } : Jvm.MethodName) prog_19_method_64_code (2 : Nat) (Option.some Jvm.ClassFile.FieldType.boolean)) ∈ lw_all := lw_g (lw_at lw_m9 181 rfl) rfl
theorem q2215 : (Jvm.Cond.methodLink "WholePacksModel" (340 : Nat) ({ cls := "WholePacksModel", name := "codes", desc := "()I" } : Jvm.MethodName)) ∈ lw_all := lw_g (lw_at lw_m9 182 rfl) rfl
theorem q2216 : (Jvm.Cond.privateMethod ({ cls := "WholePacksModel", name := "codes", desc := "()I" } : Jvm.MethodName)) ∈ lw_tbl := lw_at lw_m9 183 rfl
theorem q2217 : (Jvm.Cond.instanceMethod ({ cls := "WholePacksModel", name := "codes", desc := "()I" } : Jvm.MethodName)) ∈ lw_all := lw_g (lw_at lw_m9 184 rfl) rfl
theorem q2218 : (Jvm.Cond.code ({ cls := "WholePacksModel", name := "codes", desc := "()I" } : Jvm.MethodName) prog_19_method_63_code (3 : Nat) (Option.some Jvm.ClassFile.FieldType.int)) ∈ lw_all := lw_g (lw_at lw_m9 185 rfl) rfl
theorem q2220 : (Jvm.Cond.instanceMethod ({ cls := "WholePacksModel", name := "lost", desc := "(I)I" } : Jvm.MethodName)) ∈ lw_all := lw_g (lw_at lw_m9 187 rfl) rfl
theorem q2221 : (Jvm.Cond.selects "WholePacksModel" ({ cls := "WholePacksModel", name := "lost", desc := "(I)I" } : Jvm.MethodName) ({ cls := "WholePacksModel", name := "lost", desc := "(I)I" } : Jvm.MethodName)) ∈ lw_all := lw_g (lw_at lw_m9 188 rfl) rfl
theorem q2222 : (Jvm.Cond.code ({ cls := "WholePacksModel", name := "lost", desc := "(I)I" } : Jvm.MethodName) prog_19_method_75_code (3 : Nat) (Option.some Jvm.ClassFile.FieldType.int)) ∈ lw_all := lw_g (lw_at lw_m9 189 rfl) rfl
theorem q2223 : (Jvm.Cond.methodLink "WholePacksModel" (368 : Nat) ({ cls := "WholePacksModel", name := "isLost", desc := "(I)Z" } : Jvm.MethodName)) ∈ lw_all := lw_g (lw_at lw_m9 190 rfl) rfl
theorem q2224 : (Jvm.Cond.privateMethod ({ cls := "WholePacksModel", name := "isLost", desc := "(I)Z" } : Jvm.MethodName)) ∈ lw_tbl := lw_at lw_m9 191 rfl
theorem q2225 : (Jvm.Cond.instanceMethod ({ cls := "WholePacksModel", name := "isLost", desc := "(I)Z" } : Jvm.MethodName)) ∈ lw_all := lw_g (lw_at lw_m9 192 rfl) rfl
theorem q2226 : (Jvm.Cond.code ({ cls := "WholePacksModel", name := "isLost", desc := "(I)Z" } : Jvm.MethodName) prog_19_method_74_code (5 : Nat) (Option.some Jvm.ClassFile.FieldType.boolean)) ∈ lw_all := lw_g (lw_at lw_m9 193 rfl) rfl
theorem q2228 : (Jvm.Cond.instanceMethod ({ cls := "WholePacksModel", name := "branch", desc := "(I)I" } : Jvm.MethodName)) ∈ lw_all := lw_g (lw_at lw_m9 195 rfl) rfl
theorem q2229 : (Jvm.Cond.selects "WholePacksModel" ({ cls := "WholePacksModel", name := "branch", desc := "(I)I" } : Jvm.MethodName) ({ cls := "WholePacksModel", name := "branch", desc := "(I)I" } : Jvm.MethodName)) ∈ lw_all := lw_g (lw_at lw_m9 196 rfl) rfl
theorem q2230 : (Jvm.Cond.code ({ cls := "WholePacksModel", name := "branch", desc := "(I)I" } : Jvm.MethodName) prog_19_method_82_code (3 : Nat) (Option.some Jvm.ClassFile.FieldType.int)) ∈ lw_all := lw_g (lw_at lw_m9 197 rfl) rfl
theorem q2231 : (Jvm.Cond.methodLink "WholePacksModel" (397 : Nat) ({ cls := "WholePacksModel", name := "branches", desc := "()I" } : Jvm.MethodName)) ∈ lw_all := lw_g (lw_at lw_m9 198 rfl) rfl
theorem q2232 : (Jvm.Cond.privateMethod ({ cls := "WholePacksModel", name := "branches", desc := "()I" } : Jvm.MethodName)) ∈ lw_tbl := lw_at lw_m9 199 rfl
theorem q2233 : (Jvm.Cond.instanceMethod ({ cls := "WholePacksModel", name := "branches", desc := "()I" } : Jvm.MethodName)) ∈ lw_all := lw_g (lw_at lw_m9 200 rfl) rfl
theorem q2234 : (Jvm.Cond.code ({ cls := "WholePacksModel", name := "branches", desc := "()I" } : Jvm.MethodName) prog_19_method_81_code (5 : Nat) (Option.some Jvm.ClassFile.FieldType.int)) ∈ lw_all := lw_g (lw_at lw_m9 201 rfl) rfl
theorem q2235 : (Jvm.Cond.methodLink "WholePacksModel" (384 : Nat) ({ cls := "WholePacksModel", name := "comes", desc := "(IIII)I" } : Jvm.MethodName)) ∈ lw_all := lw_g (lw_at lw_m9 202 rfl) rfl
theorem q2236 : (Jvm.Cond.privateMethod ({ cls := "WholePacksModel", name := "comes", desc := "(IIII)I" } : Jvm.MethodName)) ∈ lw_tbl := lw_at lw_m9 203 rfl
theorem q2237 : (Jvm.Cond.instanceMethod ({ cls := "WholePacksModel", name := "comes", desc := "(IIII)I" } : Jvm.MethodName)) ∈ lw_all := lw_g (lw_at lw_m9 204 rfl) rfl
theorem q2238 : (Jvm.Cond.code ({ cls := "WholePacksModel", name := "comes", desc := "(IIII)I" } : Jvm.MethodName) prog_19_method_76_code (7 : Nat) (Option.some Jvm.ClassFile.FieldType.int)) ∈ lw_all := lw_g (lw_at lw_m9 205 rfl) rfl
theorem q2239 : (Jvm.Cond.methodLink "WholePacksModel" (374 : Nat) ({ cls := "WholePacksModel", name := "relaxes", desc := "(I)I" } : Jvm.MethodName)) ∈ lw_all := lw_g (lw_at lw_m9 206 rfl) rfl
theorem q2240 : (Jvm.Cond.privateMethod ({ cls := "WholePacksModel", name := "relaxes", desc := "(I)I" } : Jvm.MethodName)) ∈ lw_tbl := lw_at lw_m9 207 rfl
theorem q2241 : (Jvm.Cond.instanceMethod ({ cls := "WholePacksModel", name := "relaxes", desc := "(I)I" } : Jvm.MethodName)) ∈ lw_all := lw_g (lw_at lw_m9 208 rfl) rfl
theorem q2242 : (Jvm.Cond.code ({ cls := "WholePacksModel", name := "relaxes", desc := "(I)I" } : Jvm.MethodName) prog_19_method_78_code (4 : Nat) (Option.some Jvm.ClassFile.FieldType.int)) ∈ lw_all := lw_g (lw_at lw_m9 209 rfl) rfl
theorem q2243 : (Jvm.Cond.methodLink "WholePacksModel" (377 : Nat) ({ cls := "WholePacksModel", name := "bounds", desc := "(LWholePacksModel$Table;II)V" } : Jvm.MethodName)) ∈ lw_all := lw_g (lw_at lw_m9 210 rfl) rfl
theorem q2244 : (Jvm.Cond.privateMethod ({ cls := "WholePacksModel", name := "bounds", desc := "(LWholePacksModel$Table;II)V" } : Jvm.MethodName)) ∈ lw_tbl := lw_at lw_m9 211 rfl
theorem q2245 : (Jvm.Cond.instanceMethod ({ cls := "WholePacksModel", name := "bounds", desc := "(LWholePacksModel$Table;II)V" } : Jvm.MethodName)) ∈ lw_all := lw_g (lw_at lw_m9 212 rfl) rfl
theorem q2246 : (Jvm.Cond.code ({ cls := "WholePacksModel", name := "bounds", desc := "(LWholePacksModel$Table;II)V" } : Jvm.MethodName) prog_19_method_77_code (4 : Nat) (Option.none : Option Jvm.ClassFile.FieldType)) ∈ lw_all := lw_g (lw_at lw_m9 213 rfl) rfl
theorem q2247 : (Jvm.Cond.methodLink "WholePacksModel" (388 : Nat) ({ cls := "WholePacksModel", name := "hopeful", desc := "()I" } : Jvm.MethodName)) ∈ lw_all := lw_g (lw_at lw_m9 214 rfl) rfl
theorem q2248 : (Jvm.Cond.privateMethod ({ cls := "WholePacksModel", name := "hopeful", desc := "()I" } : Jvm.MethodName)) ∈ lw_tbl := lw_at lw_m9 215 rfl
theorem q2249 : (Jvm.Cond.instanceMethod ({ cls := "WholePacksModel", name := "hopeful", desc := "()I" } : Jvm.MethodName)) ∈ lw_all := lw_g (lw_at lw_m9 216 rfl) rfl
theorem q2250 : (Jvm.Cond.code ({ cls := "WholePacksModel", name := "hopeful", desc := "()I" } : Jvm.MethodName) prog_19_method_79_code (3 : Nat) (Option.some Jvm.ClassFile.FieldType.int)) ∈ lw_all := lw_g (lw_at lw_m9 217 rfl) rfl
theorem q2251 : (Jvm.Cond.methodLink "WholePacksModel" (394 : Nat) ({ cls := "WholePacksModel", name := "partlyOf", desc := "(I)I" } : Jvm.MethodName)) ∈ lw_all := lw_g (lw_at lw_m9 218 rfl) rfl
theorem q2252 : (Jvm.Cond.privateMethod ({ cls := "WholePacksModel", name := "partlyOf", desc := "(I)I" } : Jvm.MethodName)) ∈ lw_tbl := lw_at lw_m9 219 rfl
theorem q2253 : (Jvm.Cond.instanceMethod ({ cls := "WholePacksModel", name := "partlyOf", desc := "(I)I" } : Jvm.MethodName)) ∈ lw_all := lw_g (lw_at lw_m9 220 rfl) rfl
theorem q2254 : (Jvm.Cond.code ({ cls := "WholePacksModel", name := "partlyOf", desc := "(I)I" } : Jvm.MethodName) prog_19_method_80_code (3 : Nat) (Option.some Jvm.ClassFile.FieldType.int)) ∈ lw_all := lw_g (lw_at lw_m9 221 rfl) rfl
theorem q2256 : (Jvm.Cond.instanceMethod ({ cls := "WholePacksModel", name := "would", desc := "(II)I" } : Jvm.MethodName)) ∈ lw_all := lw_g (lw_at lw_m9 223 rfl) rfl
theorem q2257 : (Jvm.Cond.selects "WholePacksModel" ({ cls := "WholePacksModel", name := "would", desc := "(II)I" } : Jvm.MethodName) ({ cls := "WholePacksModel", name := "would", desc := "(II)I" } : Jvm.MethodName)) ∈ lw_all := lw_g (lw_at lw_m9 224 rfl) rfl
theorem q2258 : (Jvm.Cond.code ({ cls := "WholePacksModel", name := "would", desc := "(II)I" } : Jvm.MethodName) prog_19_method_84_code (3 : Nat) (Option.some Jvm.ClassFile.FieldType.int)) ∈ lw_all := lw_g (lw_at lw_m9 225 rfl) rfl
theorem q2259 : (Jvm.Cond.methodLink "WholePacksModel" (403 : Nat) ({ cls := "WholePacksModel", name := "worthWith", desc := "(II)I" } : Jvm.MethodName)) ∈ lw_all := lw_g (lw_at lw_m9 226 rfl) rfl
theorem q2260 : (Jvm.Cond.privateMethod ({ cls := "WholePacksModel", name := "worthWith", desc := "(II)I" } : Jvm.MethodName)) ∈ lw_tbl := lw_at lw_m9 227 rfl
theorem q2261 : (Jvm.Cond.instanceMethod ({ cls := "WholePacksModel", name := "worthWith", desc := "(II)I" } : Jvm.MethodName)) ∈ lw_all := lw_g (lw_at lw_m9 228 rfl) rfl
theorem q2262 : (Jvm.Cond.code ({ cls := "WholePacksModel", name := "worthWith", desc := "(II)I" } : Jvm.MethodName) prog_19_method_83_code (6 : Nat) (Option.some Jvm.ClassFile.FieldType.int)) ∈ lw_all := lw_g (lw_at lw_m9 229 rfl) rfl
theorem q2263 : (Jvm.Cond.methodLink "WholePacksModel" (400 : Nat) ({ cls := "WholePacksModel", name := "worth", desc := "()I" } : Jvm.MethodName)) ∈ lw_all := lw_g (lw_at lw_m9 230 rfl) rfl
theorem q2264 : (Jvm.Cond.privateMethod ({ cls := "WholePacksModel", name := "worth", desc := "()I" } : Jvm.MethodName)) ∈ lw_tbl := lw_at lw_m9 231 rfl
theorem q2265 : (Jvm.Cond.instanceMethod ({ cls := "WholePacksModel", name := "worth", desc := "()I" } : Jvm.MethodName)) ∈ lw_all := lw_g (lw_at lw_m9 232 rfl) rfl
theorem q2266 : (Jvm.Cond.code ({ cls := "WholePacksModel", name := "worth", desc := "()I" } : Jvm.MethodName) prog_19_method_45_code (2 : Nat) (Option.some Jvm.ClassFile.FieldType.int)) ∈ lw_all := lw_g (lw_at lw_m9 233 rfl) rfl
theorem q2268 : (Jvm.Cond.instanceMethod ({ cls := "WholePacksModel", name := "see", desc := "(II)I" } : Jvm.MethodName)) ∈ lw_all := lw_g (lw_at lw_m9 235 rfl) rfl
theorem q2269 : (Jvm.Cond.selects "WholePacksModel" ({ cls := "WholePacksModel", name := "see", desc := "(II)I" } : Jvm.MethodName) ({ cls := "WholePacksModel", name := "see", desc := "(II)I" } : Jvm.MethodName)) ∈ lw_all := lw_g (lw_at lw_m9 236 rfl) rfl
theorem q2270 : (Jvm.Cond.code ({ cls := "WholePacksModel", name := "see", desc := "(II)I" } : Jvm.MethodName) prog_19_method_85_code (3 : Nat) (Option.some Jvm.ClassFile.FieldType.int)) ∈ lw_all := lw_g (lw_at lw_m9 237 rfl) rfl
theorem q2272 : (Jvm.Cond.instanceMethod ({ cls := "WholePacksModel", name := "fits", desc := "(II)I" } : Jvm.MethodName)) ∈ lw_all := lw_g (lw_at lw_m9 239 rfl) rfl
theorem q2273 : (Jvm.Cond.selects "WholePacksModel" ({ cls := "WholePacksModel", name := "fits", desc := "(II)I" } : Jvm.MethodName) ({ cls := "WholePacksModel", name := "fits", desc := "(II)I" } : Jvm.MethodName)) ∈ lw_all := lw_g (lw_at lw_m10 0 rfl) rfl
theorem q2274 : (Jvm.Cond.code ({ cls := "WholePacksModel", name := "fits", desc := "(II)I" } : Jvm.MethodName) prog_19_method_87_code (6 : Nat) (Option.some Jvm.ClassFile.FieldType.int)) ∈ lw_all := lw_g (lw_at lw_m10 1 rfl) rfl
theorem q2275 : (Jvm.Cond.methodLink "WholePacksModel" (406 : Nat) ({ cls := "WholePacksModel", name := "isSeen", desc := "()Z" } : Jvm.MethodName)) ∈ lw_all := lw_g (lw_at lw_m10 2 rfl) rfl
theorem q2276 : (Jvm.Cond.privateMethod ({ cls := "WholePacksModel", name := "isSeen", desc := "()Z" } : Jvm.MethodName)) ∈ lw_tbl := lw_at lw_m10 3 rfl
theorem q2277 : (Jvm.Cond.instanceMethod ({ cls := "WholePacksModel", name := "isSeen", desc := "()Z" } : Jvm.MethodName)) ∈ lw_all := lw_g (lw_at lw_m10 4 rfl) rfl
theorem q2278 : (Jvm.Cond.code ({ cls := "WholePacksModel", name := "isSeen", desc := "()Z" } : Jvm.MethodName) prog_19_method_86_code (2 : Nat) (Option.some Jvm.ClassFile.FieldType.boolean)) ∈ lw_all := lw_g (lw_at lw_m10 5 rfl) rfl
theorem q2280 : (Jvm.Cond.instanceMethod ({ cls := "WholePacksModel", name := "odds", desc := "(IIIII)J" } : Jvm.MethodName)) ∈ lw_all := lw_g (lw_at lw_m10 7 rfl) rfl
theorem q2281 : (Jvm.Cond.selects "WholePacksModel" ({ cls := "WholePacksModel", name := "odds", desc := "(IIIII)J" } : Jvm.MethodName) ({ cls := "WholePacksModel", name := "odds", desc := "(IIIII)J" } : Jvm.MethodName)) ∈ lw_all := lw_g (lw_at lw_m10 8 rfl) rfl
theorem q2282 : (Jvm.Cond.code ({ cls := "WholePacksModel", name := "odds", desc := "(IIIII)J" } : Jvm.MethodName) prog_19_method_88_code (8 : Nat) (Option.some Jvm.ClassFile.FieldType.long)) ∈ lw_all := lw_g (lw_at lw_m10 9 rfl) rfl
theorem q2283 : (Jvm.Cond.constantLong "WholePacksModel" (409 : Nat) (8 : Int64)) ∈ lw_all := lw_g (lw_at lw_m10 10 rfl) rfl
theorem q2285 : (Jvm.Cond.instanceMethod ({ cls := "WholePacksModel", name := "mean", desc := "(I)J" } : Jvm.MethodName)) ∈ lw_all := lw_g (lw_at lw_m10 12 rfl) rfl
theorem q2286 : (Jvm.Cond.selects "WholePacksModel" ({ cls := "WholePacksModel", name := "mean", desc := "(I)J" } : Jvm.MethodName) ({ cls := "WholePacksModel", name := "mean", desc := "(I)J" } : Jvm.MethodName)) ∈ lw_all := lw_g (lw_at lw_m10 13 rfl) rfl
theorem q2287 : (Jvm.Cond.code ({ cls := "WholePacksModel", name := "mean", desc := "(I)J" } : Jvm.MethodName) prog_19_method_89_code (4 : Nat) (Option.some Jvm.ClassFile.FieldType.long)) ∈ lw_all := lw_g (lw_at lw_m10 14 rfl) rfl
theorem q2289 : (Jvm.Cond.instanceMethod ({ cls := "WholePacksModel", name := "drawn", desc := "(II)I" } : Jvm.MethodName)) ∈ lw_all := lw_g (lw_at lw_m10 16 rfl) rfl
theorem q2290 : (Jvm.Cond.selects "WholePacksModel" ({ cls := "WholePacksModel", name := "drawn", desc := "(II)I" } : Jvm.MethodName) ({ cls := "WholePacksModel", name := "drawn", desc := "(II)I" } : Jvm.MethodName)) ∈ lw_all := lw_g (lw_at lw_m10 17 rfl) rfl
theorem q2291 : (Jvm.Cond.code ({ cls := "WholePacksModel", name := "drawn", desc := "(II)I" } : Jvm.MethodName) prog_19_method_93_code (5 : Nat) (Option.some Jvm.ClassFile.FieldType.int)) ∈ lw_all := lw_g (lw_at lw_m10 18 rfl) rfl
theorem q2292 : (Jvm.Cond.constantLong "WholePacksModel" (415 : Nat) (4 : Int64)) ∈ lw_all := lw_g (lw_at lw_m10 19 rfl) rfl
theorem q2293 : (Jvm.Cond.methodLink "WholePacksModel" (417 : Nat) ({ cls := "WholePacksModel", name := "lends", desc := "()V" } : Jvm.MethodName)) ∈ lw_all := lw_g (lw_at lw_m10 20 rfl) rfl
theorem q2294 : (Jvm.Cond.privateMethod ({ cls := "WholePacksModel", name := "lends", desc := "()V" } : Jvm.MethodName)) ∈ lw_tbl := lw_at lw_m10 21 rfl
theorem q2295 : (Jvm.Cond.instanceMethod ({ cls := "WholePacksModel", name := "lends", desc := "()V" } : Jvm.MethodName)) ∈ lw_all := lw_g (lw_at lw_m10 22 rfl) rfl
theorem q2296 : (Jvm.Cond.code ({ cls := "WholePacksModel", name := "lends", desc := "()V" } : Jvm.MethodName) prog_19_method_90_code (2 : Nat) (Option.none : Option Jvm.ClassFile.FieldType)) ∈ lw_all := lw_g (lw_at lw_m10 23 rfl) rfl
theorem q2297 : (Jvm.Cond.methodLink "WholePacksModel" (420 : Nat) ({ cls := "WholePacksModel", name := "draws", desc := "(I)I" } : Jvm.MethodName)) ∈ lw_all := lw_g (lw_at lw_m10 24 rfl) rfl
theorem q2298 : (Jvm.Cond.privateMethod ({ cls := "WholePacksModel", name := "draws", desc := "(I)I" } : Jvm.MethodName)) ∈ lw_tbl := lw_at lw_m10 25 rfl
theorem q2299 : (Jvm.Cond.instanceMethod ({ cls := "WholePacksModel", name := "draws", desc := "(I)I" } : Jvm.MethodName)) ∈ lw_all := lw_g (lw_at lw_m10 26 rfl) rfl
theorem q2300 : (Jvm.Cond.code ({ cls := "WholePacksModel", name := "draws", desc := "(I)I" } : Jvm.MethodName) prog_19_method_92_code (2 : Nat) (Option.some Jvm.ClassFile.FieldType.int)) ∈ lw_all := lw_g (lw_at lw_m10 27 rfl) rfl
theorem q2301 : (Jvm.Cond.constant "WholePacksModel" (414 : Nat) (1103515245 : Int32)) ∈ lw_all := lw_g (lw_at lw_m10 28 rfl) rfl
theorem q2302 : (Jvm.Cond.methodLink "WholePacksModel" (423 : Nat) ({ cls := "WholePacksModel", name := "takesBack", desc := "()V" } : Jvm.MethodName)) ∈ lw_all := lw_g (lw_at lw_m10 29 rfl) rfl
theorem q2303 : (Jvm.Cond.privateMethod ({ cls := "WholePacksModel", name := "takesBack", desc := "()V" } : Jvm.MethodName)) ∈ lw_tbl := lw_at lw_m10 30 rfl
theorem q2304 : (Jvm.Cond.instanceMethod ({ cls := "WholePacksModel", name := "takesBack", desc := "()V" } : Jvm.MethodName)) ∈ lw_all := lw_g (lw_at lw_m10 31 rfl) rfl
theorem q2305 : (Jvm.Cond.code ({ cls := "WholePacksModel", name := "takesBack", desc := "()V" } : Jvm.MethodName) prog_19_method_91_code (2 : Nat) (Option.none : Option Jvm.ClassFile.FieldType)) ∈ lw_all := lw_g (lw_at lw_m10 32 rfl) rfl
theorem q2307 : (Jvm.Cond.instanceMethod ({ cls := "WholePacksModel", name := "offer", desc := "(II)I" } : Jvm.MethodName)) ∈ lw_all := lw_g (lw_at lw_m10 34 rfl) rfl
theorem q2308 : (Jvm.Cond.selects "WholePacksModel" ({ cls := "WholePacksModel", name := "offer", desc := "(II)I" } : Jvm.MethodName) ({ cls := "WholePacksModel", name := "offer", desc := "(II)I" } : Jvm.MethodName)) ∈ lw_all := lw_g (lw_at lw_m10 35 rfl) rfl
theorem q2309 : (Jvm.Cond.code ({ cls := "WholePacksModel", name := "offer", desc := "(II)I" } : Jvm.MethodName) prog_19_method_95_code (5 : Nat) (Option.some Jvm.ClassFile.FieldType.int)) ∈ lw_all := lw_g (lw_at lw_m10 36 rfl) rfl
theorem q2310 : (Jvm.Cond.methodLink "WholePacksModel" (426 : Nat) ({ cls := "WholePacksModel", name := "offerOf", desc := "(I)I" } : Jvm.MethodName)) ∈ lw_all := lw_g (lw_at lw_m10 37 rfl) rfl
theorem q2311 : (Jvm.Cond.privateMethod ({ cls := "WholePacksModel", name := "offerOf", desc := "(I)I" } : Jvm.MethodName)) ∈ lw_tbl := lw_at lw_m10 38 rfl
theorem q2312 : (Jvm.Cond.instanceMethod ({ cls := "WholePacksModel", name := "offerOf", desc := "(I)I" } : Jvm.MethodName)) ∈ lw_all := lw_g (lw_at lw_m10 39 rfl) rfl
theorem q2313 : (Jvm.Cond.code ({ cls := "WholePacksModel", name := "offerOf", desc := "(I)I" } : Jvm.MethodName) prog_19_method_94_code (3 : Nat) (Option.some Jvm.ClassFile.FieldType.int)) ∈ lw_all := lw_g (lw_at lw_m10 40 rfl) rfl
theorem q2315 : (Jvm.Cond.instanceMethod ({ cls := "WholePacksModel", name := "offered", desc := "(II)I" } : Jvm.MethodName)) ∈ lw_all := lw_g (lw_at lw_m10 42 rfl) rfl
theorem q2316 : (Jvm.Cond.selects "WholePacksModel" ({ cls := "WholePacksModel", name := "offered", desc := "(II)I" } : Jvm.MethodName) ({ cls := "WholePacksModel", name := "offered", desc := "(II)I" } : Jvm.MethodName)) ∈ lw_all := lw_g (lw_at lw_m10 43 rfl) rfl
theorem q2317 : (Jvm.Cond.code ({ cls := "WholePacksModel", name := "offered", desc := "(II)I" } : Jvm.MethodName) prog_19_method_98_code (4 : Nat) (Option.some Jvm.ClassFile.FieldType.int)) ∈ lw_all := lw_g (lw_at lw_m10 44 rfl) rfl
theorem q2318 : (Jvm.Cond.constantLong "WholePacksModel" (432 : Nat) (2 : Int64)) ∈ lw_all := lw_g (lw_at lw_m10 45 rfl) rfl
theorem q2319 : (Jvm.Cond.methodLink "WholePacksModel" (434 : Nat) ({ cls := "WholePacksModel", name := "place", desc := "(I)I" } : Jvm.MethodName)) ∈ lw_all := lw_g (lw_at lw_m10 46 rfl) rfl
theorem q2320 : (Jvm.Cond.privateMethod ({ cls := "WholePacksModel", name := "place", desc := "(I)I" } : Jvm.MethodName)) ∈ lw_tbl := lw_at lw_m10 47 rfl
theorem q2321 : (Jvm.Cond.instanceMethod ({ cls := "WholePacksModel", name := "place", desc := "(I)I" } : Jvm.MethodName)) ∈ lw_all := lw_g (lw_at lw_m10 48 rfl) rfl
theorem q2322 : (Jvm.Cond.code ({ cls := "WholePacksModel", name := "place", desc := "(I)I" } : Jvm.MethodName) prog_19_method_97_code (4 : Nat) (Option.some Jvm.ClassFile.FieldType.int)) ∈ lw_all := lw_g (lw_at lw_m10 49 rfl) rfl
theorem q2323 : (Jvm.Cond.methodLink "WholePacksModel" (429 : Nat) ({ cls := "WholePacksModel", name := "isAhead", desc := "(II)Z" } : Jvm.MethodName)) ∈ lw_all := lw_g (lw_at lw_m10 50 rfl) rfl
theorem q2324 : (Jvm.Cond.privateMethod ({ cls := "WholePacksModel", name := "isAhead", desc := "(II)Z" } : Jvm.MethodName)) ∈ lw_tbl := lw_at lw_m10 51 rfl
theorem q2325 : (Jvm.Cond.instanceMethod ({ cls := "WholePacksModel", name := "isAhead", desc := "(II)Z" } : Jvm.MethodName)) ∈ lw_all := lw_g (lw_at lw_m10 52 rfl) rfl
theorem q2326 : (Jvm.Cond.code ({ cls := "WholePacksModel", name := "isAhead", desc := "(II)Z" } : Jvm.MethodName) prog_19_method_96_code (4 : Nat) (Option.some Jvm.ClassFile.FieldType.boolean)) ∈ lw_all := lw_g (lw_at lw_m10 53 rfl) rfl
theorem q2328 : (Jvm.Cond.instanceMethod ({ cls := "WholePacksModel", name := "upTo", desc := "(I)I" } : Jvm.MethodName)) ∈ lw_all := lw_g (lw_at lw_m10 55 rfl) rfl
theorem q2329 : (Jvm.Cond.selects "WholePacksModel" ({ cls := "WholePacksModel", name := "upTo", desc := "(I)I" } : Jvm.MethodName) ({ cls := "WholePacksModel", name := "upTo", desc := "(I)I" } : Jvm.MethodName)) ∈ lw_all := lw_g (lw_at lw_m10 56 rfl) rfl
theorem q2330 : (Jvm.Cond.code ({ cls := "WholePacksModel", name := "upTo", desc := "(I)I" } : Jvm.MethodName) prog_19_method_99_code (4 : Nat) (Option.some Jvm.ClassFile.FieldType.int)) ∈ lw_all := lw_g (lw_at lw_m10 57 rfl) rfl
theorem q2332 : (Jvm.Cond.instanceMethod ({ cls := "WholePacksModel", name := "dearest", desc := "()I" } : Jvm.MethodName)) ∈ lw_all := lw_g (lw_at lw_m10 59 rfl) rfl
theorem q2333 : (Jvm.Cond.selects "WholePacksModel" ({ cls := "WholePacksModel", name := "dearest", desc := "()I" } : Jvm.MethodName) ({ cls := "WholePacksModel", name := "dearest", desc := "()I" } : Jvm.MethodName)) ∈ lw_all := lw_g (lw_at lw_m10 60 rfl) rfl
theorem q2334 : (Jvm.Cond.code ({ cls := "WholePacksModel", name := "dearest", desc := "()I" } : Jvm.MethodName) prog_19_method_101_code (3 : Nat) (Option.some Jvm.ClassFile.FieldType.int)) ∈ lw_all := lw_g (lw_at lw_m10 61 rfl) rfl
theorem q2335 : (Jvm.Cond.methodLink "WholePacksModel" (437 : Nat) ({ cls := "WholePacksModel", name := "gain", desc := "(I)I" } : Jvm.MethodName)) ∈ lw_all := lw_g (lw_at lw_m10 62 rfl) rfl
theorem q2336 : (Jvm.Cond.privateMethod ({ cls := "WholePacksModel", name := "gain", desc := "(I)I" } : Jvm.MethodName)) ∈ lw_tbl := lw_at lw_m10 63 rfl
theorem q2337 : (Jvm.Cond.instanceMethod ({ cls := "WholePacksModel", name := "gain", desc := "(I)I" } : Jvm.MethodName)) ∈ lw_all := lw_g (lw_at lw_m10 64 rfl) rfl
theorem q2338 : (Jvm.Cond.code ({ cls := "WholePacksModel", name := "gain", desc := "(I)I" } : Jvm.MethodName) prog_19_method_100_code (2 : Nat) (Option.some Jvm.ClassFile.FieldType.int)) ∈ lw_all := lw_g (lw_at lw_m10 65 rfl) rfl
theorem q2340 : (Jvm.Cond.instanceMethod ({ cls := "WholePacksModel", name := "plan", desc := "(III)I" } : Jvm.MethodName)) ∈ lw_all := lw_g (lw_at lw_m10 67 rfl) rfl
theorem q2341 : (Jvm.Cond.selects "WholePacksModel" ({ cls := "WholePacksModel", name := "plan", desc := "(III)I" } : Jvm.MethodName) ({ cls := "WholePacksModel", name := "plan", desc := "(III)I" } : Jvm.MethodName)) ∈ lw_all := lw_g (lw_at lw_m10 68 rfl) rfl
theorem q2342 : (Jvm.Cond.code ({ cls := "WholePacksModel", name := "plan", desc := "(III)I" } : Jvm.MethodName) prog_19_method_103_code (5 : Nat) (Option.some Jvm.ClassFile.FieldType.int)) ∈ lw_all := lw_g (lw_at lw_m10 69 rfl) rfl
theorem q2343 : (Jvm.Cond.methodLink "WholePacksModel" (440 : Nat) ({ cls := "WholePacksModel", name := "isStep", desc := "(II)Z" } : Jvm.MethodName)) ∈ lw_all := lw_g (lw_at lw_m10 70 rfl) rfl
theorem q2344 : (Jvm.Cond.static ({ cls := "WholePacksModel", name := "isStep", desc := "(II)Z" } : Jvm.MethodName)) ∈ lw_all := lw_g (lw_at lw_m10 71 rfl) rfl
theorem q2345 : (Jvm.Cond.code ({ cls := "WholePacksModel", name := "isStep", desc := "(II)Z" } : Jvm.MethodName) prog_19_method_102_code (2 : Nat) (Option.some Jvm.ClassFile.FieldType.boolean)) ∈ lw_all := lw_g (lw_at lw_m10 72 rfl) rfl
theorem q2347 : (Jvm.Cond.instanceMethod ({ cls := "WholePacksModel", name := "ends", desc := "()I" } : Jvm.MethodName)) ∈ lw_all := lw_g (lw_at lw_m10 74 rfl) rfl
theorem q2348 : (Jvm.Cond.selects "WholePacksModel" ({ cls := "WholePacksModel", name := "ends", desc := "()I" } : Jvm.MethodName) ({ cls := "WholePacksModel", name := "ends", desc := "()I" } : Jvm.MethodName)) ∈ lw_all := lw_g (lw_at lw_m10 75 rfl) rfl
theorem q2349 : (Jvm.Cond.code ({ cls := "WholePacksModel", name := "ends", desc := "()I" } : Jvm.MethodName) prog_19_method_105_code (2 : Nat) (Option.some Jvm.ClassFile.FieldType.int)) ∈ lw_all := lw_g (lw_at lw_m10 76 rfl) rfl
theorem q2350 : (Jvm.Cond.methodLink "WholePacksModel" (443 : Nat) ({ cls := "WholePacksModel", name := "goes", desc := "(III)V" } : Jvm.MethodName)) ∈ lw_all := lw_g (lw_at lw_m10 77 rfl) rfl
theorem q2351 : (Jvm.Cond.privateMethod ({ cls := "WholePacksModel", name := "goes", desc := "(III)V" } : Jvm.MethodName)) ∈ lw_tbl := lw_at lw_m10 78 rfl
theorem q2352 : (Jvm.Cond.instanceMethod ({ cls := "WholePacksModel", name := "goes", desc := "(III)V" } : Jvm.MethodName)) ∈ lw_all := lw_g (lw_at lw_m10 79 rfl) rfl
theorem q2353 : (Jvm.Cond.code ({ cls := "WholePacksModel", name := "goes", desc := "(III)V" } : Jvm.MethodName) prog_19_method_104_code (4 : Nat) (Option.none : Option Jvm.ClassFile.FieldType)) ∈ lw_all := lw_g (lw_at lw_m10 80 rfl) rfl
theorem q2355 : (Jvm.Cond.instanceMethod ({ cls := "WholePacksModel", name := "judge", desc := "(II)I" } : Jvm.MethodName)) ∈ lw_all := lw_g (lw_at lw_m10 82 rfl) rfl
theorem q2356 : (Jvm.Cond.selects "WholePacksModel" ({ cls := "WholePacksModel", name := "judge", desc := "(II)I" } : Jvm.MethodName) ({ cls := "WholePacksModel", name := "judge", desc := "(II)I" } : Jvm.MethodName)) ∈ lw_all := lw_g (lw_at lw_m10 83 rfl) rfl
theorem q2357 : (Jvm.Cond.code ({ cls := "WholePacksModel", name := "judge", desc := "(II)I" } : Jvm.MethodName) prog_19_method_107_code (4 : Nat) (Option.some Jvm.ClassFile.FieldType.int)) ∈ lw_all := lw_g (lw_at lw_m10 84 rfl) rfl
theorem q2358 : (Jvm.Cond.methodLink "WholePacksModel" (447 : Nat) ({ cls := "WholePacksModel", name := "isTape", desc := "(I)Z" } : Jvm.MethodName)) ∈ lw_all := lw_g (lw_at lw_m10 85 rfl) rfl
theorem q2359 : (Jvm.Cond.static ({ cls := "WholePacksModel", name := "isTape", desc := "(I)Z" } : Jvm.MethodName)) ∈ lw_all := lw_g (lw_at lw_m10 86 rfl) rfl
theorem q2360 : (Jvm.Cond.code ({ cls := "WholePacksModel", name := "isTape", desc := "(I)Z" } : Jvm.MethodName) prog_19_method_106_code (1 : Nat) (Option.some Jvm.ClassFile.FieldType.boolean)) ∈ lw_all := lw_g (lw_at lw_m10 87 rfl) rfl
theorem q2362 : (Jvm.Cond.instanceMethod ({ cls := "WholePacksModel", name := "image", desc := "()I" } : Jvm.MethodName)) ∈ lw_all := lw_g (lw_at lw_m10 89 rfl) rfl
theorem q2363 : (Jvm.Cond.selects "WholePacksModel" ({ cls := "WholePacksModel", name := "image", desc := "()I" } : Jvm.MethodName) ({ cls := "WholePacksModel", name := "image", desc := "()I" } : Jvm.MethodName)) ∈ lw_all := lw_g (lw_at lw_m10 90 rfl) rfl
theorem q2364 : (Jvm.Cond.code ({ cls := "WholePacksModel", name := "image", desc := "()I" } : Jvm.MethodName) prog_19_method_108_code (2 : Nat) (Option.some Jvm.ClassFile.FieldType.int)) ∈ lw_all := lw_g (lw_at lw_m10 91 rfl) rfl
theorem q2366 : (Jvm.Cond.instanceMethod ({ cls := "WholePacksModel", name := "undo", desc := "()I" } : Jvm.MethodName)) ∈ lw_all := lw_g (lw_at lw_m10 93 rfl) rfl
theorem q2367 : (Jvm.Cond.selects "WholePacksModel" ({ cls := "WholePacksModel", name := "undo", desc := "()I" } : Jvm.MethodName) ({ cls := "WholePacksModel", name := "undo", desc := "()I" } : Jvm.MethodName)) ∈ lw_all := lw_g (lw_at lw_m10 94 rfl) rfl
theorem q2368 : (Jvm.Cond.code ({ cls := "WholePacksModel", name := "undo", desc := "()I" } : Jvm.MethodName) prog_19_method_109_code (2 : Nat) (Option.some Jvm.ClassFile.FieldType.int)) ∈ lw_all := lw_g (lw_at lw_m10 95 rfl) rfl
theorem q2370 : (Jvm.Cond.instanceMethod ({ cls := "WholePacksModel", name := "count", desc := "(I)I" } : Jvm.MethodName)) ∈ lw_all := lw_g (lw_at lw_m10 97 rfl) rfl
theorem q2371 : (Jvm.Cond.selects "WholePacksModel" ({ cls := "WholePacksModel", name := "count", desc := "(I)I" } : Jvm.MethodName) ({ cls := "WholePacksModel", name := "count", desc := "(I)I" } : Jvm.MethodName)) ∈ lw_all := lw_g (lw_at lw_m10 98 rfl) rfl
theorem q2372 : (Jvm.Cond.code ({ cls := "WholePacksModel", name := "count", desc := "(I)I" } : Jvm.MethodName) prog_19_method_110_code (3 : Nat) (Option.some Jvm.ClassFile.FieldType.int)) ∈ lw_all := lw_g (lw_at lw_m10 99 rfl) rfl
theorem q2374 : (Jvm.Cond.instanceMethod ({ cls := "WholePacksModel", name := "tape", desc := "(III)I" } : Jvm.MethodName)) ∈ lw_all := lw_g (lw_at lw_m10 101 rfl) rfl
theorem q2375 : (Jvm.Cond.selects "WholePacksModel" ({ cls := "WholePacksModel", name := "tape", desc := "(III)I" } : Jvm.MethodName) ({ cls := "WholePacksModel", name := "tape", desc := "(III)I" } : Jvm.MethodName)) ∈ lw_all := lw_g (lw_at lw_m10 102 rfl) rfl
theorem q2376 : (Jvm.Cond.code ({ cls := "WholePacksModel", name := "tape", desc := "(III)I" } : Jvm.MethodName) prog_19_method_111_code (5 : Nat) (Option.some Jvm.ClassFile.FieldType.int)) ∈ lw_all := lw_g (lw_at lw_m10 103 rfl) rfl
theorem q2378 : (Jvm.Cond.instanceMethod ({ cls := "WholePacksModel", name := "item", desc := "(IIJ)I" } : Jvm.MethodName)) ∈ lw_all := lw_g (lw_at lw_m10 105 rfl) rfl
theorem q2379 : (Jvm.Cond.selects "WholePacksModel" ({ cls := "WholePacksModel", name := "item", desc := "(IIJ)I" } : Jvm.MethodName) ({ cls := "WholePacksModel", name := "item", desc := "(IIJ)I" } : Jvm.MethodName)) ∈ lw_all := lw_g (lw_at lw_m10 106 rfl) rfl
theorem q2380 : (Jvm.Cond.code ({ cls := "WholePacksModel", name := "item", desc := "(IIJ)I" } : Jvm.MethodName) prog_19_method_113_code (5 : Nat) (Option.some Jvm.ClassFile.FieldType.int)) ∈ lw_all := lw_g (lw_at lw_m10 107 rfl) rfl
theorem q2381 : (Jvm.Cond.methodLink "WholePacksModel" (453 : Nat) ({ cls := "WholePacksModel", name := "held", desc := "(IJ)J" } : Jvm.MethodName)) ∈ lw_all := lw_g (lw_at lw_m10 108 rfl) rfl
theorem q2382 : (Jvm.Cond.static ({ cls := "WholePacksModel", name := "held", desc := "(IJ)J" } : Jvm.MethodName)) ∈ lw_all := lw_g (lw_at lw_m10 109 rfl) rfl
theorem q2383 : (Jvm.Cond.code ({ cls := "WholePacksModel", name := "held", desc := "(IJ)J" } : Jvm.MethodName) prog_19_method_112_code (3 : Nat) (Option.some Jvm.ClassFile.FieldType.long)) ∈ lw_all := lw_g (lw_at lw_m10 110 rfl) rfl
theorem q2385 : (Jvm.Cond.instanceMethod ({ cls := "WholePacksModel", name := "peek", desc := "(II)J" } : Jvm.MethodName)) ∈ lw_all := lw_g (lw_at lw_m10 112 rfl) rfl
theorem q2386 : (Jvm.Cond.selects "WholePacksModel" ({ cls := "WholePacksModel", name := "peek", desc := "(II)J" } : Jvm.MethodName) ({ cls := "WholePacksModel", name := "peek", desc := "(II)J" } : Jvm.MethodName)) ∈ lw_all := lw_g (lw_at lw_m10 113 rfl) rfl
theorem q2387 : (Jvm.Cond.code ({ cls := "WholePacksModel", name := "peek", desc := "(II)J" } : Jvm.MethodName) prog_19_method_114_code (3 : Nat) (Option.some Jvm.ClassFile.FieldType.long)) ∈ lw_all := lw_g (lw_at lw_m10 114 rfl) rfl
theorem q2389 : (Jvm.Cond.instanceMethod ({ cls := "WholePacksModel", name := "shift", desc := "(IIIII)I" } : Jvm.MethodName)) ∈ lw_all := lw_g (lw_at lw_m10 116 rfl) rfl
theorem q2390 : (Jvm.Cond.selects "WholePacksModel" ({ cls := "WholePacksModel", name := "shift", desc := "(IIIII)I" } : Jvm.MethodName) ({ cls := "WholePacksModel", name := "shift", desc := "(IIIII)I" } : Jvm.MethodName)) ∈ lw_all := lw_g (lw_at lw_m10 117 rfl) rfl
theorem q2391 : (Jvm.Cond.code ({ cls := "WholePacksModel", name := "shift", desc := "(IIIII)I" } : Jvm.MethodName) prog_19_method_115_code (7 : Nat) (Option.some Jvm.ClassFile.FieldType.int)) ∈ lw_all := lw_g (lw_at lw_m10 118 rfl) rfl
theorem q2411 : (Jvm.Cond.castable "WholePacksModel" "java/lang/Object") ∈ lw_tbl := lw_at lw_m10 138 rfl
theorem in_X9 : ∀ w ∈ wsX90, w ∈ lw_all := lw_in wsX90 [1856, 1858, 1860, 1862, 1864, 1866, 1868, 1870, 1872, 1874, 1876, 1878, 1880, 1882, 1884, 1886, 1888, 1890, 1892, 1894, 1896, 1898, 1900, 1902, 1904, 1906, 1908, 1910, 1912] (by decide +kernel) (by decide +kernel)
