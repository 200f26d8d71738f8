/-! WholePacks -/
set_option maxRecDepth 100000
def RX0 : String := "WholePacks"
def TX0 : u_T := fun k => match k with
  | 0 => ("WholePacks", "w", "LWholePacks$Desk;", true)
  | 1 => ("WholePacks", "trial", "LWholePacks$Desk;", true)
  | 2 => ("WholePacks", "kept", "LWholePacks$Desk;", true)
  | 3 => ("WholePacks", "table", "LWholePacks$Table;", true)
  | 4 => ("WholePacks", "thought", "LWholePacks$Table;", true)
  | 5 => ("WholePacks", "solved", "I", false)
  | 6 => ("WholePacks", "hasTable", "Z", false)
  | 7 => ("WholePacks", "offers", "Ljava/util/TreeMap;", true)
  | 8 => ("WholePacks", "keptOffers", "Ljava/util/TreeMap;", true)
  | 9 => ("WholePacks", "lefts", "[LWholePacks$Left;", true)
  | 10 => ("WholePacks", "changes", "[LWholePacks$Change;", true)
  | 11 => ("WholePacks", "text", "[B", true)
  | 12 => ("WholePacks", "texted", "I", false)
  | 13 => ("WholePacks", "mix", "[I", true)
  | 14 => ("WholePacks", "founds", "[LWholePacks$Found;", true)
  | 15 => ("WholePacks", "cheapest", "Ljava/util/PriorityQueue;", true)
  | 16 => ("WholePacks", "seenSo", "I", false)
  | 17 => ("WholePacks", "asked", "[I", true)
  | 18 => ("WholePacks", "nodes", "[LWholePacks$Node;", true)
  | 19 => ("WholePacks", "waits", "Ljava/util/PriorityQueue;", true)
  | 20 => ("WholePacks", "nodeMany", "I", false)
  | 21 => ("WholePacks", "pivoted", "I", false)
  | 22 => ("WholePacks", "z", "I", false)
  | 23 => ("WholePacks", "hasImage", "Z", false)
  | _ => ("WholePacks", "tapes", "[LWholePacks$Tape;", true)
def tyX0 : Nat → FieldType := fun k => match k with
  | 0 => .object "WholePacks$Desk"
  | 1 => .object "WholePacks$Desk"
  | 2 => .object "WholePacks$Desk"
  | 3 => .object "WholePacks$Table"
  | 4 => .object "WholePacks$Table"
  | 5 => .int
  | 6 => .boolean
  | 7 => .object "java/util/TreeMap"
  | 8 => .object "java/util/TreeMap"
  | 9 => .array (.object "WholePacks$Left")
  | 10 => .array (.object "WholePacks$Change")
  | 11 => .array .byte
  | 12 => .int
  | 13 => .array .int
  | 14 => .array (.object "WholePacks$Found")
  | 15 => .object "java/util/PriorityQueue"
  | 16 => .int
  | 17 => .array .int
  | 18 => .array (.object "WholePacks$Node")
  | 19 => .object "java/util/PriorityQueue"
  | 20 => .int
  | 21 => .int
  | 22 => .int
  | 23 => .boolean
  | _ => .array (.object "WholePacks$Tape")
abbrev wsX00 : List Cond := u_ws RX0 TX0 25
set_option maxRecDepth 100000 in
theorem nmX0 : ∀ a, a < 25 → ∀ b, b < 25 → a ≠ b → (TX0 a).2.1 ≠ (TX0 b).2.1 := by decide +kernel
set_option maxRecDepth 100000 in
theorem tyX0_ok : ∀ k, k < 25 → parseFieldDescriptor (TX0 k).2.2.1 = some (tyX0 k) := by decide +kernel
abbrev cX0_init : ByteArray := prog_1_method_1_code
def yX0_init : MethodName := ⟨RX0, "<init>", "()V"⟩
def dkwX0_init_14 : List UInt8 := [180, 0, 87, 27, 187, 0, 85, 89, 27, 183, 0, 114, 83, 132, 1, 1, 167, 255, 233, 177]
abbrev dktX0_init_14 : List UInt8 := dkwX0_init_14 ++ []
def dkwX0_init_13 : List UInt8 := [187, 0, 64, 89, 183, 0, 113, 83, 132, 1, 1, 167, 255, 234, 3, 60, 27, 16, 40, 162, 0, 23, 42]
abbrev dktX0_init_13 : List UInt8 := dkwX0_init_13 ++ dktX0_init_14
def dkwX0_init_12 : List UInt8 := [180, 0, 52, 5, 42, 186, 0, 112, 0, 0, 83, 3, 60, 27, 16, 20, 162, 0, 22, 42, 180, 0, 66, 27]
abbrev dktX0_init_12 : List UInt8 := dkwX0_init_12 ++ dktX0_init_13
def dkwX0_init_11 : List UInt8 := [180, 0, 52, 3, 42, 186, 0, 107, 0, 0, 83, 42, 180, 0, 52, 4, 42, 186, 0, 111, 0, 0, 83, 42]
abbrev dktX0_init_11 : List UInt8 := dkwX0_init_11 ++ dktX0_init_12
def dkwX0_init_10 : List UInt8 := [42, 180, 0, 46, 3, 186, 0, 102, 0, 0, 83, 42, 180, 0, 46, 4, 186, 0, 106, 0, 0, 83, 42]
abbrev dktX0_init_10 : List UInt8 := dkwX0_init_10 ++ dktX0_init_11
def dkwX0_init_9 : List UInt8 := [83, 89, 7, 187, 0, 95, 89, 183, 0, 97, 83, 89, 8, 187, 0, 95, 89, 183, 0, 97, 83, 181, 0, 98]
abbrev dktX0_init_9 : List UInt8 := dkwX0_init_9 ++ dktX0_init_10
def dkwX0_init_8 : List UInt8 := [89, 183, 0, 97, 83, 89, 5, 187, 0, 95, 89, 183, 0, 97, 83, 89, 6, 187, 0, 95, 89, 183, 0, 97]
abbrev dktX0_init_8 : List UInt8 := dkwX0_init_8 ++ dktX0_init_9
def dkwX0_init_7 : List UInt8 := [181, 0, 92, 42, 16, 6, 189, 0, 95, 89, 3, 187, 0, 95, 89, 183, 0, 97, 83, 89, 4, 187, 0, 95]
abbrev dktX0_init_7 : List UInt8 := dkwX0_init_7 ++ dktX0_init_8
def dkwX0_init_6 : List UInt8 := [42, 8, 188, 10, 181, 0, 82, 42, 16, 40, 189, 0, 85, 181, 0, 87, 42, 187, 0, 70, 89, 183, 0, 91]
abbrev dktX0_init_6 : List UInt8 := dkwX0_init_6 ++ dktX0_init_7
def dkwX0_init_5 : List UInt8 := [189, 0, 64, 181, 0, 66, 42, 187, 0, 70, 89, 187, 0, 72, 89, 183, 0, 74, 183, 0, 75, 181, 0, 78]
abbrev dktX0_init_5 : List UInt8 := dkwX0_init_5 ++ dktX0_init_6
def dkwX0_init_4 : List UInt8 := [189, 0, 50, 181, 0, 52, 42, 16, 80, 188, 8, 181, 0, 56, 42, 8, 188, 10, 181, 0, 60, 42, 16, 20]
abbrev dktX0_init_4 : List UInt8 := dkwX0_init_4 ++ dktX0_init_5
def dkwX0_init_3 : List UInt8 := [181, 0, 37, 42, 187, 0, 34, 89, 183, 0, 36, 181, 0, 41, 42, 5, 189, 0, 44, 181, 0, 46, 42, 6]
abbrev dktX0_init_3 : List UInt8 := dkwX0_init_3 ++ dktX0_init_4
def dkwX0_init_2 : List UInt8 := [181, 0, 27, 42, 187, 0, 24, 89, 183, 0, 26, 181, 0, 31, 42, 187, 0, 34, 89, 183, 0, 36]
abbrev dktX0_init_2 : List UInt8 := dkwX0_init_2 ++ dktX0_init_3
def dkwX0_init_1 : List UInt8 := [181, 0, 18, 42, 187, 0, 9, 89, 183, 0, 11, 181, 0, 21, 42, 187, 0, 24, 89, 183, 0, 26]
abbrev dktX0_init_1 : List UInt8 := dkwX0_init_1 ++ dktX0_init_2
def dkwX0_init_0 : List UInt8 := [42, 183, 0, 3, 42, 187, 0, 9, 89, 183, 0, 11, 181, 0, 12, 42, 187, 0, 9, 89, 183, 0, 11]
abbrev dktX0_init_0 : List UInt8 := dkwX0_init_0 ++ dktX0_init_1
theorem dksX0_init_0 : cX0_init.data.toList.drop 0 = dktX0_init_0 := by decide +kernel
theorem dksX0_init_1 : cX0_init.data.toList.drop 23 = dktX0_init_1 := dk_seg dksX0_init_0 23 rfl rfl
theorem dksX0_init_2 : cX0_init.data.toList.drop 45 = dktX0_init_2 := dk_seg dksX0_init_1 22 rfl rfl
theorem dksX0_init_3 : cX0_init.data.toList.drop 67 = dktX0_init_3 := dk_seg dksX0_init_2 22 rfl rfl
theorem dksX0_init_4 : cX0_init.data.toList.drop 91 = dktX0_init_4 := dk_seg dksX0_init_3 24 rfl rfl
theorem dksX0_init_5 : cX0_init.data.toList.drop 115 = dktX0_init_5 := dk_seg dksX0_init_4 24 rfl rfl
theorem dksX0_init_6 : cX0_init.data.toList.drop 139 = dktX0_init_6 := dk_seg dksX0_init_5 24 rfl rfl
theorem dksX0_init_7 : cX0_init.data.toList.drop 163 = dktX0_init_7 := dk_seg dksX0_init_6 24 rfl rfl
theorem dksX0_init_8 : cX0_init.data.toList.drop 187 = dktX0_init_8 := dk_seg dksX0_init_7 24 rfl rfl
theorem dksX0_init_9 : cX0_init.data.toList.drop 211 = dktX0_init_9 := dk_seg dksX0_init_8 24 rfl rfl
theorem dksX0_init_10 : cX0_init.data.toList.drop 235 = dktX0_init_10 := dk_seg dksX0_init_9 24 rfl rfl
theorem dksX0_init_11 : cX0_init.data.toList.drop 258 = dktX0_init_11 := dk_seg dksX0_init_10 23 rfl rfl
theorem dksX0_init_12 : cX0_init.data.toList.drop 282 = dktX0_init_12 := dk_seg dksX0_init_11 24 rfl rfl
theorem dksX0_init_13 : cX0_init.data.toList.drop 306 = dktX0_init_13 := dk_seg dksX0_init_12 24 rfl rfl
theorem dksX0_init_14 : cX0_init.data.toList.drop 329 = dktX0_init_14 := dk_seg dksX0_init_13 23 rfl rfl
theorem dX0_init_0 : decode cX0_init 0 = .ok (.aload_n 0, 1) := dk_42 (dk_at dksX0_init_0 0 rfl rfl)
theorem dX0_init_1 : decode cX0_init 1 = .ok (.invokespecial 3, 3) := dk_183 0 3 (dk_at dksX0_init_0 1 rfl rfl)
theorem dX0_init_4 : decode cX0_init 4 = .ok (.aload_n 0, 1) := dk_42 (dk_at dksX0_init_0 4 rfl rfl)
theorem dX0_init_5 : decode cX0_init 5 = .ok (.new 9, 3) := dk_187 0 9 (dk_at dksX0_init_0 5 rfl rfl)
theorem dX0_init_8 : decode cX0_init 8 = .ok (.dup, 1) := dk_89 (dk_at dksX0_init_0 8 rfl rfl)
theorem dX0_init_9 : decode cX0_init 9 = .ok (.invokespecial 11, 3) := dk_183 0 11 (dk_at dksX0_init_0 9 rfl rfl)
theorem dX0_init_12 : decode cX0_init 12 = .ok (.putfield 12, 3) := dk_181 0 12 (dk_at dksX0_init_0 12 rfl rfl)
theorem dX0_init_15 : decode cX0_init 15 = .ok (.aload_n 0, 1) := dk_42 (dk_at dksX0_init_0 15 rfl rfl)
theorem dX0_init_16 : decode cX0_init 16 = .ok (.new 9, 3) := dk_187 0 9 (dk_at dksX0_init_0 16 rfl rfl)
theorem dX0_init_19 : decode cX0_init 19 = .ok (.dup, 1) := dk_89 (dk_at dksX0_init_0 19 rfl rfl)
theorem dX0_init_20 : decode cX0_init 20 = .ok (.invokespecial 11, 3) := dk_183 0 11 (dk_at dksX0_init_0 20 rfl rfl)
theorem dX0_init_23 : decode cX0_init 23 = .ok (.putfield 18, 3) := dk_181 0 18 (dk_at dksX0_init_1 0 rfl rfl)
theorem dX0_init_26 : decode cX0_init 26 = .ok (.aload_n 0, 1) := dk_42 (dk_at dksX0_init_1 3 rfl rfl)
theorem dX0_init_27 : decode cX0_init 27 = .ok (.new 9, 3) := dk_187 0 9 (dk_at dksX0_init_1 4 rfl rfl)
theorem dX0_init_30 : decode cX0_init 30 = .ok (.dup, 1) := dk_89 (dk_at dksX0_init_1 7 rfl rfl)
theorem dX0_init_31 : decode cX0_init 31 = .ok (.invokespecial 11, 3) := dk_183 0 11 (dk_at dksX0_init_1 8 rfl rfl)
theorem dX0_init_34 : decode cX0_init 34 = .ok (.putfield 21, 3) := dk_181 0 21 (dk_at dksX0_init_1 11 rfl rfl)
theorem dX0_init_37 : decode cX0_init 37 = .ok (.aload_n 0, 1) := dk_42 (dk_at dksX0_init_1 14 rfl rfl)
theorem dX0_init_38 : decode cX0_init 38 = .ok (.new 24, 3) := dk_187 0 24 (dk_at dksX0_init_1 15 rfl rfl)
theorem dX0_init_41 : decode cX0_init 41 = .ok (.dup, 1) := dk_89 (dk_at dksX0_init_1 18 rfl rfl)
theorem dX0_init_42 : decode cX0_init 42 = .ok (.invokespecial 26, 3) := dk_183 0 26 (dk_at dksX0_init_1 19 rfl rfl)
theorem dX0_init_45 : decode cX0_init 45 = .ok (.putfield 27, 3) := dk_181 0 27 (dk_at dksX0_init_2 0 rfl rfl)
theorem dX0_init_48 : decode cX0_init 48 = .ok (.aload_n 0, 1) := dk_42 (dk_at dksX0_init_2 3 rfl rfl)
theorem dX0_init_49 : decode cX0_init 49 = .ok (.new 24, 3) := dk_187 0 24 (dk_at dksX0_init_2 4 rfl rfl)
theorem dX0_init_52 : decode cX0_init 52 = .ok (.dup, 1) := dk_89 (dk_at dksX0_init_2 7 rfl rfl)
theorem dX0_init_53 : decode cX0_init 53 = .ok (.invokespecial 26, 3) := dk_183 0 26 (dk_at dksX0_init_2 8 rfl rfl)
theorem dX0_init_56 : decode cX0_init 56 = .ok (.putfield 31, 3) := dk_181 0 31 (dk_at dksX0_init_2 11 rfl rfl)
theorem dX0_init_59 : decode cX0_init 59 = .ok (.aload_n 0, 1) := dk_42 (dk_at dksX0_init_2 14 rfl rfl)
theorem dX0_init_60 : decode cX0_init 60 = .ok (.new 34, 3) := dk_187 0 34 (dk_at dksX0_init_2 15 rfl rfl)
theorem dX0_init_63 : decode cX0_init 63 = .ok (.dup, 1) := dk_89 (dk_at dksX0_init_2 18 rfl rfl)
theorem dX0_init_64 : decode cX0_init 64 = .ok (.invokespecial 36, 3) := dk_183 0 36 (dk_at dksX0_init_2 19 rfl rfl)
theorem dX0_init_67 : decode cX0_init 67 = .ok (.putfield 37, 3) := dk_181 0 37 (dk_at dksX0_init_3 0 rfl rfl)
theorem dX0_init_70 : decode cX0_init 70 = .ok (.aload_n 0, 1) := dk_42 (dk_at dksX0_init_3 3 rfl rfl)
theorem dX0_init_71 : decode cX0_init 71 = .ok (.new 34, 3) := dk_187 0 34 (dk_at dksX0_init_3 4 rfl rfl)
theorem dX0_init_74 : decode cX0_init 74 = .ok (.dup, 1) := dk_89 (dk_at dksX0_init_3 7 rfl rfl)
theorem dX0_init_75 : decode cX0_init 75 = .ok (.invokespecial 36, 3) := dk_183 0 36 (dk_at dksX0_init_3 8 rfl rfl)
theorem dX0_init_78 : decode cX0_init 78 = .ok (.putfield 41, 3) := dk_181 0 41 (dk_at dksX0_init_3 11 rfl rfl)
theorem dX0_init_81 : decode cX0_init 81 = .ok (.aload_n 0, 1) := dk_42 (dk_at dksX0_init_3 14 rfl rfl)
theorem dX0_init_82 : decode cX0_init 82 = .ok (.iconst 2, 1) := dk_5 (dk_at dksX0_init_3 15 rfl rfl)
theorem dX0_init_83 : decode cX0_init 83 = .ok (.anewarray 44, 3) := dk_189 0 44 (dk_at dksX0_init_3 16 rfl rfl)
theorem dX0_init_86 : decode cX0_init 86 = .ok (.putfield 46, 3) := dk_181 0 46 (dk_at dksX0_init_3 19 rfl rfl)
theorem dX0_init_89 : decode cX0_init 89 = .ok (.aload_n 0, 1) := dk_42 (dk_at dksX0_init_3 22 rfl rfl)
theorem dX0_init_90 : decode cX0_init 90 = .ok (.iconst 3, 1) := dk_6 (dk_at dksX0_init_3 23 rfl rfl)
theorem dX0_init_91 : decode cX0_init 91 = .ok (.anewarray 50, 3) := dk_189 0 50 (dk_at dksX0_init_4 0 rfl rfl)
theorem dX0_init_94 : decode cX0_init 94 = .ok (.putfield 52, 3) := dk_181 0 52 (dk_at dksX0_init_4 3 rfl rfl)
theorem dX0_init_97 : decode cX0_init 97 = .ok (.aload_n 0, 1) := dk_42 (dk_at dksX0_init_4 6 rfl rfl)
theorem dX0_init_98 : decode cX0_init 98 = .ok (.bipush 80, 2) := dk_16 80 (dk_at dksX0_init_4 7 rfl rfl)
theorem dX0_init_100 : decode cX0_init 100 = .ok (.newarray .byte, 2) := dk_188_8 (dk_at dksX0_init_4 9 rfl rfl)
theorem dX0_init_102 : decode cX0_init 102 = .ok (.putfield 56, 3) := dk_181 0 56 (dk_at dksX0_init_4 11 rfl rfl)
theorem dX0_init_105 : decode cX0_init 105 = .ok (.aload_n 0, 1) := dk_42 (dk_at dksX0_init_4 14 rfl rfl)
theorem dX0_init_106 : decode cX0_init 106 = .ok (.iconst 5, 1) := dk_8 (dk_at dksX0_init_4 15 rfl rfl)
theorem dX0_init_107 : decode cX0_init 107 = .ok (.newarray .int, 2) := dk_188_10 (dk_at dksX0_init_4 16 rfl rfl)
theorem dX0_init_109 : decode cX0_init 109 = .ok (.putfield 60, 3) := dk_181 0 60 (dk_at dksX0_init_4 18 rfl rfl)
theorem dX0_init_112 : decode cX0_init 112 = .ok (.aload_n 0, 1) := dk_42 (dk_at dksX0_init_4 21 rfl rfl)
theorem dX0_init_113 : decode cX0_init 113 = .ok (.bipush 20, 2) := dk_16 20 (dk_at dksX0_init_4 22 rfl rfl)
theorem dX0_init_115 : decode cX0_init 115 = .ok (.anewarray 64, 3) := dk_189 0 64 (dk_at dksX0_init_5 0 rfl rfl)
theorem dX0_init_118 : decode cX0_init 118 = .ok (.putfield 66, 3) := dk_181 0 66 (dk_at dksX0_init_5 3 rfl rfl)
theorem dX0_init_121 : decode cX0_init 121 = .ok (.aload_n 0, 1) := dk_42 (dk_at dksX0_init_5 6 rfl rfl)
theorem dX0_init_122 : decode cX0_init 122 = .ok (.new 70, 3) := dk_187 0 70 (dk_at dksX0_init_5 7 rfl rfl)
theorem dX0_init_125 : decode cX0_init 125 = .ok (.dup, 1) := dk_89 (dk_at dksX0_init_5 10 rfl rfl)
theorem dX0_init_126 : decode cX0_init 126 = .ok (.new 72, 3) := dk_187 0 72 (dk_at dksX0_init_5 11 rfl rfl)
theorem dX0_init_129 : decode cX0_init 129 = .ok (.dup, 1) := dk_89 (dk_at dksX0_init_5 14 rfl rfl)
theorem dX0_init_130 : decode cX0_init 130 = .ok (.invokespecial 74, 3) := dk_183 0 74 (dk_at dksX0_init_5 15 rfl rfl)
theorem dX0_init_133 : decode cX0_init 133 = .ok (.invokespecial 75, 3) := dk_183 0 75 (dk_at dksX0_init_5 18 rfl rfl)
theorem dX0_init_136 : decode cX0_init 136 = .ok (.putfield 78, 3) := dk_181 0 78 (dk_at dksX0_init_5 21 rfl rfl)
theorem dX0_init_139 : decode cX0_init 139 = .ok (.aload_n 0, 1) := dk_42 (dk_at dksX0_init_6 0 rfl rfl)
theorem dX0_init_140 : decode cX0_init 140 = .ok (.iconst 5, 1) := dk_8 (dk_at dksX0_init_6 1 rfl rfl)
theorem dX0_init_141 : decode cX0_init 141 = .ok (.newarray .int, 2) := dk_188_10 (dk_at dksX0_init_6 2 rfl rfl)
theorem dX0_init_143 : decode cX0_init 143 = .ok (.putfield 82, 3) := dk_181 0 82 (dk_at dksX0_init_6 4 rfl rfl)
theorem dX0_init_146 : decode cX0_init 146 = .ok (.aload_n 0, 1) := dk_42 (dk_at dksX0_init_6 7 rfl rfl)
theorem dX0_init_147 : decode cX0_init 147 = .ok (.bipush 40, 2) := dk_16 40 (dk_at dksX0_init_6 8 rfl rfl)
theorem dX0_init_149 : decode cX0_init 149 = .ok (.anewarray 85, 3) := dk_189 0 85 (dk_at dksX0_init_6 10 rfl rfl)
theorem dX0_init_152 : decode cX0_init 152 = .ok (.putfield 87, 3) := dk_181 0 87 (dk_at dksX0_init_6 13 rfl rfl)
theorem dX0_init_155 : decode cX0_init 155 = .ok (.aload_n 0, 1) := dk_42 (dk_at dksX0_init_6 16 rfl rfl)
theorem dX0_init_156 : decode cX0_init 156 = .ok (.new 70, 3) := dk_187 0 70 (dk_at dksX0_init_6 17 rfl rfl)
theorem dX0_init_159 : decode cX0_init 159 = .ok (.dup, 1) := dk_89 (dk_at dksX0_init_6 20 rfl rfl)
theorem dX0_init_160 : decode cX0_init 160 = .ok (.invokespecial 91, 3) := dk_183 0 91 (dk_at dksX0_init_6 21 rfl rfl)
theorem dX0_init_163 : decode cX0_init 163 = .ok (.putfield 92, 3) := dk_181 0 92 (dk_at dksX0_init_7 0 rfl rfl)
theorem dX0_init_166 : decode cX0_init 166 = .ok (.aload_n 0, 1) := dk_42 (dk_at dksX0_init_7 3 rfl rfl)
theorem dX0_init_167 : decode cX0_init 167 = .ok (.bipush 6, 2) := dk_16 6 (dk_at dksX0_init_7 4 rfl rfl)
theorem dX0_init_169 : decode cX0_init 169 = .ok (.anewarray 95, 3) := dk_189 0 95 (dk_at dksX0_init_7 6 rfl rfl)
theorem dX0_init_172 : decode cX0_init 172 = .ok (.dup, 1) := dk_89 (dk_at dksX0_init_7 9 rfl rfl)
theorem dX0_init_173 : decode cX0_init 173 = .ok (.iconst 0, 1) := dk_3 (dk_at dksX0_init_7 10 rfl rfl)
theorem dX0_init_174 : decode cX0_init 174 = .ok (.new 95, 3) := dk_187 0 95 (dk_at dksX0_init_7 11 rfl rfl)
theorem dX0_init_177 : decode cX0_init 177 = .ok (.dup, 1) := dk_89 (dk_at dksX0_init_7 14 rfl rfl)
theorem dX0_init_178 : decode cX0_init 178 = .ok (.invokespecial 97, 3) := dk_183 0 97 (dk_at dksX0_init_7 15 rfl rfl)
theorem dX0_init_181 : decode cX0_init 181 = .ok (.aastore, 1) := dk_83 (dk_at dksX0_init_7 18 rfl rfl)
theorem dX0_init_182 : decode cX0_init 182 = .ok (.dup, 1) := dk_89 (dk_at dksX0_init_7 19 rfl rfl)
theorem dX0_init_183 : decode cX0_init 183 = .ok (.iconst 1, 1) := dk_4 (dk_at dksX0_init_7 20 rfl rfl)
theorem dX0_init_184 : decode cX0_init 184 = .ok (.new 95, 3) := dk_187 0 95 (dk_at dksX0_init_7 21 rfl rfl)
theorem dX0_init_187 : decode cX0_init 187 = .ok (.dup, 1) := dk_89 (dk_at dksX0_init_8 0 rfl rfl)
theorem dX0_init_188 : decode cX0_init 188 = .ok (.invokespecial 97, 3) := dk_183 0 97 (dk_at dksX0_init_8 1 rfl rfl)
theorem dX0_init_191 : decode cX0_init 191 = .ok (.aastore, 1) := dk_83 (dk_at dksX0_init_8 4 rfl rfl)
theorem dX0_init_192 : decode cX0_init 192 = .ok (.dup, 1) := dk_89 (dk_at dksX0_init_8 5 rfl rfl)
theorem dX0_init_193 : decode cX0_init 193 = .ok (.iconst 2, 1) := dk_5 (dk_at dksX0_init_8 6 rfl rfl)
theorem dX0_init_194 : decode cX0_init 194 = .ok (.new 95, 3) := dk_187 0 95 (dk_at dksX0_init_8 7 rfl rfl)
theorem dX0_init_197 : decode cX0_init 197 = .ok (.dup, 1) := dk_89 (dk_at dksX0_init_8 10 rfl rfl)
theorem dX0_init_198 : decode cX0_init 198 = .ok (.invokespecial 97, 3) := dk_183 0 97 (dk_at dksX0_init_8 11 rfl rfl)
theorem dX0_init_201 : decode cX0_init 201 = .ok (.aastore, 1) := dk_83 (dk_at dksX0_init_8 14 rfl rfl)
theorem dX0_init_202 : decode cX0_init 202 = .ok (.dup, 1) := dk_89 (dk_at dksX0_init_8 15 rfl rfl)
theorem dX0_init_203 : decode cX0_init 203 = .ok (.iconst 3, 1) := dk_6 (dk_at dksX0_init_8 16 rfl rfl)
theorem dX0_init_204 : decode cX0_init 204 = .ok (.new 95, 3) := dk_187 0 95 (dk_at dksX0_init_8 17 rfl rfl)
theorem dX0_init_207 : decode cX0_init 207 = .ok (.dup, 1) := dk_89 (dk_at dksX0_init_8 20 rfl rfl)
theorem dX0_init_208 : decode cX0_init 208 = .ok (.invokespecial 97, 3) := dk_183 0 97 (dk_at dksX0_init_8 21 rfl rfl)
theorem dX0_init_211 : decode cX0_init 211 = .ok (.aastore, 1) := dk_83 (dk_at dksX0_init_9 0 rfl rfl)
theorem dX0_init_212 : decode cX0_init 212 = .ok (.dup, 1) := dk_89 (dk_at dksX0_init_9 1 rfl rfl)
theorem dX0_init_213 : decode cX0_init 213 = .ok (.iconst 4, 1) := dk_7 (dk_at dksX0_init_9 2 rfl rfl)
theorem dX0_init_214 : decode cX0_init 214 = .ok (.new 95, 3) := dk_187 0 95 (dk_at dksX0_init_9 3 rfl rfl)
theorem dX0_init_217 : decode cX0_init 217 = .ok (.dup, 1) := dk_89 (dk_at dksX0_init_9 6 rfl rfl)
theorem dX0_init_218 : decode cX0_init 218 = .ok (.invokespecial 97, 3) := dk_183 0 97 (dk_at dksX0_init_9 7 rfl rfl)
theorem dX0_init_221 : decode cX0_init 221 = .ok (.aastore, 1) := dk_83 (dk_at dksX0_init_9 10 rfl rfl)
theorem dX0_init_222 : decode cX0_init 222 = .ok (.dup, 1) := dk_89 (dk_at dksX0_init_9 11 rfl rfl)
theorem dX0_init_223 : decode cX0_init 223 = .ok (.iconst 5, 1) := dk_8 (dk_at dksX0_init_9 12 rfl rfl)
theorem dX0_init_224 : decode cX0_init 224 = .ok (.new 95, 3) := dk_187 0 95 (dk_at dksX0_init_9 13 rfl rfl)
theorem dX0_init_227 : decode cX0_init 227 = .ok (.dup, 1) := dk_89 (dk_at dksX0_init_9 16 rfl rfl)
theorem dX0_init_228 : decode cX0_init 228 = .ok (.invokespecial 97, 3) := dk_183 0 97 (dk_at dksX0_init_9 17 rfl rfl)
theorem dX0_init_231 : decode cX0_init 231 = .ok (.aastore, 1) := dk_83 (dk_at dksX0_init_9 20 rfl rfl)
theorem dX0_init_232 : decode cX0_init 232 = .ok (.putfield 98, 3) := dk_181 0 98 (dk_at dksX0_init_9 21 rfl rfl)
theorem dX0_init_235 : decode cX0_init 235 = .ok (.aload_n 0, 1) := dk_42 (dk_at dksX0_init_10 0 rfl rfl)
theorem dX0_init_236 : decode cX0_init 236 = .ok (.getfield 46, 3) := dk_180 0 46 (dk_at dksX0_init_10 1 rfl rfl)
theorem dX0_init_239 : decode cX0_init 239 = .ok (.iconst 0, 1) := dk_3 (dk_at dksX0_init_10 4 rfl rfl)
theorem dX0_init_240 : decode cX0_init 240 = .ok (.invokedynamic 102, 5) := by decide +kernel
theorem dX0_init_245 : decode cX0_init 245 = .ok (.aastore, 1) := dk_83 (dk_at dksX0_init_10 10 rfl rfl)
theorem dX0_init_246 : decode cX0_init 246 = .ok (.aload_n 0, 1) := dk_42 (dk_at dksX0_init_10 11 rfl rfl)
theorem dX0_init_247 : decode cX0_init 247 = .ok (.getfield 46, 3) := dk_180 0 46 (dk_at dksX0_init_10 12 rfl rfl)
theorem dX0_init_250 : decode cX0_init 250 = .ok (.iconst 1, 1) := dk_4 (dk_at dksX0_init_10 15 rfl rfl)
theorem dX0_init_251 : decode cX0_init 251 = .ok (.invokedynamic 106, 5) := by decide +kernel
theorem dX0_init_256 : decode cX0_init 256 = .ok (.aastore, 1) := dk_83 (dk_at dksX0_init_10 21 rfl rfl)
theorem dX0_init_257 : decode cX0_init 257 = .ok (.aload_n 0, 1) := dk_42 (dk_at dksX0_init_10 22 rfl rfl)
theorem dX0_init_258 : decode cX0_init 258 = .ok (.getfield 52, 3) := dk_180 0 52 (dk_at dksX0_init_11 0 rfl rfl)
theorem dX0_init_261 : decode cX0_init 261 = .ok (.iconst 0, 1) := dk_3 (dk_at dksX0_init_11 3 rfl rfl)
theorem dX0_init_262 : decode cX0_init 262 = .ok (.aload_n 0, 1) := dk_42 (dk_at dksX0_init_11 4 rfl rfl)
theorem dX0_init_263 : decode cX0_init 263 = .ok (.invokedynamic 107, 5) := by decide +kernel
theorem dX0_init_268 : decode cX0_init 268 = .ok (.aastore, 1) := dk_83 (dk_at dksX0_init_11 10 rfl rfl)
theorem dX0_init_269 : decode cX0_init 269 = .ok (.aload_n 0, 1) := dk_42 (dk_at dksX0_init_11 11 rfl rfl)
theorem dX0_init_270 : decode cX0_init 270 = .ok (.getfield 52, 3) := dk_180 0 52 (dk_at dksX0_init_11 12 rfl rfl)
theorem dX0_init_273 : decode cX0_init 273 = .ok (.iconst 1, 1) := dk_4 (dk_at dksX0_init_11 15 rfl rfl)
theorem dX0_init_274 : decode cX0_init 274 = .ok (.aload_n 0, 1) := dk_42 (dk_at dksX0_init_11 16 rfl rfl)
theorem dX0_init_275 : decode cX0_init 275 = .ok (.invokedynamic 111, 5) := by decide +kernel
theorem dX0_init_280 : decode cX0_init 280 = .ok (.aastore, 1) := dk_83 (dk_at dksX0_init_11 22 rfl rfl)
theorem dX0_init_281 : decode cX0_init 281 = .ok (.aload_n 0, 1) := dk_42 (dk_at dksX0_init_11 23 rfl rfl)
theorem dX0_init_282 : decode cX0_init 282 = .ok (.getfield 52, 3) := dk_180 0 52 (dk_at dksX0_init_12 0 rfl rfl)
theorem dX0_init_285 : decode cX0_init 285 = .ok (.iconst 2, 1) := dk_5 (dk_at dksX0_init_12 3 rfl rfl)
theorem dX0_init_286 : decode cX0_init 286 = .ok (.aload_n 0, 1) := dk_42 (dk_at dksX0_init_12 4 rfl rfl)
theorem dX0_init_287 : decode cX0_init 287 = .ok (.invokedynamic 112, 5) := by decide +kernel
theorem dX0_init_292 : decode cX0_init 292 = .ok (.aastore, 1) := dk_83 (dk_at dksX0_init_12 10 rfl rfl)
theorem dX0_init_293 : decode cX0_init 293 = .ok (.iconst 0, 1) := dk_3 (dk_at dksX0_init_12 11 rfl rfl)
theorem dX0_init_294 : decode cX0_init 294 = .ok (.istore_n 1, 1) := dk_60 (dk_at dksX0_init_12 12 rfl rfl)
theorem dX0_init_295 : decode cX0_init 295 = .ok (.iload_n 1, 1) := dk_27 (dk_at dksX0_init_12 13 rfl rfl)
theorem dX0_init_296 : decode cX0_init 296 = .ok (.bipush 20, 2) := dk_16 20 (dk_at dksX0_init_12 14 rfl rfl)
theorem dX0_init_298 : decode cX0_init 298 = .ok (.if_icmp .ge 22, 3) := dk_162 0 22 (dk_at dksX0_init_12 16 rfl rfl)
theorem dX0_init_301 : decode cX0_init 301 = .ok (.aload_n 0, 1) := dk_42 (dk_at dksX0_init_12 19 rfl rfl)
theorem dX0_init_302 : decode cX0_init 302 = .ok (.getfield 66, 3) := dk_180 0 66 (dk_at dksX0_init_12 20 rfl rfl)
theorem dX0_init_305 : decode cX0_init 305 = .ok (.iload_n 1, 1) := dk_27 (dk_at dksX0_init_12 23 rfl rfl)
theorem dX0_init_306 : decode cX0_init 306 = .ok (.new 64, 3) := dk_187 0 64 (dk_at dksX0_init_13 0 rfl rfl)
theorem dX0_init_309 : decode cX0_init 309 = .ok (.dup, 1) := dk_89 (dk_at dksX0_init_13 3 rfl rfl)
theorem dX0_init_310 : decode cX0_init 310 = .ok (.invokespecial 113, 3) := dk_183 0 113 (dk_at dksX0_init_13 4 rfl rfl)
theorem dX0_init_313 : decode cX0_init 313 = .ok (.aastore, 1) := dk_83 (dk_at dksX0_init_13 7 rfl rfl)
theorem dX0_init_314 : decode cX0_init 314 = .ok (.iinc 1 1, 3) := dk_132 1 1 (dk_at dksX0_init_13 8 rfl rfl)
theorem dX0_init_317 : decode cX0_init 317 = .ok (.goto (-22), 3) := dk_167 255 234 (dk_at dksX0_init_13 11 rfl rfl)
theorem dX0_init_320 : decode cX0_init 320 = .ok (.iconst 0, 1) := dk_3 (dk_at dksX0_init_13 14 rfl rfl)
theorem dX0_init_321 : decode cX0_init 321 = .ok (.istore_n 1, 1) := dk_60 (dk_at dksX0_init_13 15 rfl rfl)
theorem dX0_init_322 : decode cX0_init 322 = .ok (.iload_n 1, 1) := dk_27 (dk_at dksX0_init_13 16 rfl rfl)
theorem dX0_init_323 : decode cX0_init 323 = .ok (.bipush 40, 2) := dk_16 40 (dk_at dksX0_init_13 17 rfl rfl)
theorem dX0_init_325 : decode cX0_init 325 = .ok (.if_icmp .ge 23, 3) := dk_162 0 23 (dk_at dksX0_init_13 19 rfl rfl)
theorem dX0_init_328 : decode cX0_init 328 = .ok (.aload_n 0, 1) := dk_42 (dk_at dksX0_init_13 22 rfl rfl)
theorem dX0_init_329 : decode cX0_init 329 = .ok (.getfield 87, 3) := dk_180 0 87 (dk_at dksX0_init_14 0 rfl rfl)
theorem dX0_init_332 : decode cX0_init 332 = .ok (.iload_n 1, 1) := dk_27 (dk_at dksX0_init_14 3 rfl rfl)
theorem dX0_init_333 : decode cX0_init 333 = .ok (.new 85, 3) := dk_187 0 85 (dk_at dksX0_init_14 4 rfl rfl)
theorem dX0_init_336 : decode cX0_init 336 = .ok (.dup, 1) := dk_89 (dk_at dksX0_init_14 7 rfl rfl)
theorem dX0_init_337 : decode cX0_init 337 = .ok (.iload_n 1, 1) := dk_27 (dk_at dksX0_init_14 8 rfl rfl)
theorem dX0_init_338 : decode cX0_init 338 = .ok (.invokespecial 114, 3) := dk_183 0 114 (dk_at dksX0_init_14 9 rfl rfl)
theorem dX0_init_341 : decode cX0_init 341 = .ok (.aastore, 1) := dk_83 (dk_at dksX0_init_14 12 rfl rfl)
theorem dX0_init_342 : decode cX0_init 342 = .ok (.iinc 1 1, 3) := dk_132 1 1 (dk_at dksX0_init_14 13 rfl rfl)
theorem dX0_init_345 : decode cX0_init 345 = .ok (.goto (-23), 3) := dk_167 255 233 (dk_at dksX0_init_14 16 rfl rfl)
theorem dX0_init_348 : decode cX0_init 348 = .ok (.return_, 1) := dk_177 (dk_at dksX0_init_14 19 rfl rfl)
abbrev cX0_lambda_new_0 : ByteArray := prog_1_method_84_code
def yX0_lambda_new_0 : MethodName := ⟨RX0, "lambda$new$0", "(JJ)J"⟩
def dkwX0_lambda_new_0_0 : List UInt8 := [30, 32, 101, 173]
abbrev dktX0_lambda_new_0_0 : List UInt8 := dkwX0_lambda_new_0_0 ++ []
theorem dksX0_lambda_new_0_0 : cX0_lambda_new_0.data.toList.drop 0 = dktX0_lambda_new_0_0 := by decide +kernel
theorem dX0_lambda_new_0_0 : decode cX0_lambda_new_0 0 = .ok (.lload_n 0, 1) := dk_30 (dk_at dksX0_lambda_new_0_0 0 rfl rfl)
theorem dX0_lambda_new_0_1 : decode cX0_lambda_new_0 1 = .ok (.lload_n 2, 1) := dk_32 (dk_at dksX0_lambda_new_0_0 1 rfl rfl)
theorem dX0_lambda_new_0_2 : decode cX0_lambda_new_0 2 = .ok (.lsub, 1) := dk_101 (dk_at dksX0_lambda_new_0_0 2 rfl rfl)
theorem dX0_lambda_new_0_3 : decode cX0_lambda_new_0 3 = .ok (.lreturn, 1) := dk_173 (dk_at dksX0_lambda_new_0_0 3 rfl rfl)
abbrev cX0_lambda_new_1 : ByteArray := prog_1_method_83_code
def yX0_lambda_new_1 : MethodName := ⟨RX0, "lambda$new$1", "(JJ)J"⟩
def dkwX0_lambda_new_1_0 : List UInt8 := [32, 30, 101, 173]
abbrev dktX0_lambda_new_1_0 : List UInt8 := dkwX0_lambda_new_1_0 ++ []
theorem dksX0_lambda_new_1_0 : cX0_lambda_new_1.data.toList.drop 0 = dktX0_lambda_new_1_0 := by decide +kernel
theorem dX0_lambda_new_1_0 : decode cX0_lambda_new_1 0 = .ok (.lload_n 2, 1) := dk_32 (dk_at dksX0_lambda_new_1_0 0 rfl rfl)
theorem dX0_lambda_new_1_1 : decode cX0_lambda_new_1 1 = .ok (.lload_n 0, 1) := dk_30 (dk_at dksX0_lambda_new_1_0 1 rfl rfl)
theorem dX0_lambda_new_1_2 : decode cX0_lambda_new_1 2 = .ok (.lsub, 1) := dk_101 (dk_at dksX0_lambda_new_1_0 2 rfl rfl)
theorem dX0_lambda_new_1_3 : decode cX0_lambda_new_1 3 = .ok (.lreturn, 1) := dk_173 (dk_at dksX0_lambda_new_1_0 3 rfl rfl)
abbrev cX0_bounds : ByteArray := prog_1_method_66_code
def yX0_bounds : MethodName := ⟨RX0, "bounds", "(II)V"⟩
def dkwX0_bounds_1 : List UInt8 := [177]
abbrev dktX0_bounds_1 : List UInt8 := dkwX0_bounds_1 ++ []
def dkwX0_bounds_0 : List UInt8 := [42, 180, 0, 18, 27, 182, 0, 165, 153, 0, 16, 42, 180, 0, 18, 180, 0, 172, 27, 50, 28, 181, 0, 181]
abbrev dktX0_bounds_0 : List UInt8 := dkwX0_bounds_0 ++ dktX0_bounds_1
theorem dksX0_bounds_0 : cX0_bounds.data.toList.drop 0 = dktX0_bounds_0 := by decide +kernel
theorem dksX0_bounds_1 : cX0_bounds.data.toList.drop 24 = dktX0_bounds_1 := dk_seg dksX0_bounds_0 24 rfl rfl
theorem dX0_bounds_0 : decode cX0_bounds 0 = .ok (.aload_n 0, 1) := dk_42 (dk_at dksX0_bounds_0 0 rfl rfl)
theorem dX0_bounds_1 : decode cX0_bounds 1 = .ok (.getfield 18, 3) := dk_180 0 18 (dk_at dksX0_bounds_0 1 rfl rfl)
theorem dX0_bounds_4 : decode cX0_bounds 4 = .ok (.iload_n 1, 1) := dk_27 (dk_at dksX0_bounds_0 4 rfl rfl)
theorem dX0_bounds_5 : decode cX0_bounds 5 = .ok (.invokevirtual 165, 3) := dk_182 0 165 (dk_at dksX0_bounds_0 5 rfl rfl)
theorem dX0_bounds_8 : decode cX0_bounds 8 = .ok (.ifCond .eq 16, 3) := dk_153 0 16 (dk_at dksX0_bounds_0 8 rfl rfl)
theorem dX0_bounds_11 : decode cX0_bounds 11 = .ok (.aload_n 0, 1) := dk_42 (dk_at dksX0_bounds_0 11 rfl rfl)
theorem dX0_bounds_12 : decode cX0_bounds 12 = .ok (.getfield 18, 3) := dk_180 0 18 (dk_at dksX0_bounds_0 12 rfl rfl)
theorem dX0_bounds_15 : decode cX0_bounds 15 = .ok (.getfield 172, 3) := dk_180 0 172 (dk_at dksX0_bounds_0 15 rfl rfl)
theorem dX0_bounds_18 : decode cX0_bounds 18 = .ok (.iload_n 1, 1) := dk_27 (dk_at dksX0_bounds_0 18 rfl rfl)
theorem dX0_bounds_19 : decode cX0_bounds 19 = .ok (.aaload, 1) := dk_50 (dk_at dksX0_bounds_0 19 rfl rfl)
theorem dX0_bounds_20 : decode cX0_bounds 20 = .ok (.iload_n 2, 1) := dk_28 (dk_at dksX0_bounds_0 20 rfl rfl)
theorem dX0_bounds_21 : decode cX0_bounds 21 = .ok (.putfield 181, 3) := dk_181 0 181 (dk_at dksX0_bounds_0 21 rfl rfl)
theorem dX0_bounds_24 : decode cX0_bounds 24 = .ok (.return_, 1) := dk_177 (dk_at dksX0_bounds_1 0 rfl rfl)
abbrev cX0_in : ByteArray := prog_1_method_2_code
def yX0_in : MethodName := ⟨RX0, "in", "(JJJ)Z"⟩
def dkwX0_in_0 : List UInt8 := [30, 32, 148, 155, 0, 14, 30, 22, 4, 148, 157, 0, 7, 4, 167, 0, 4, 3, 172]
abbrev dktX0_in_0 : List UInt8 := dkwX0_in_0 ++ []
theorem dksX0_in_0 : cX0_in.data.toList.drop 0 = dktX0_in_0 := by decide +kernel
theorem dX0_in_0 : decode cX0_in 0 = .ok (.lload_n 0, 1) := dk_30 (dk_at dksX0_in_0 0 rfl rfl)
theorem dX0_in_1 : decode cX0_in 1 = .ok (.lload_n 2, 1) := dk_32 (dk_at dksX0_in_0 1 rfl rfl)
theorem dX0_in_2 : decode cX0_in 2 = .ok (.lcmp, 1) := dk_148 (dk_at dksX0_in_0 2 rfl rfl)
theorem dX0_in_3 : decode cX0_in 3 = .ok (.ifCond .lt 14, 3) := dk_155 0 14 (dk_at dksX0_in_0 3 rfl rfl)
theorem dX0_in_6 : decode cX0_in 6 = .ok (.lload_n 0, 1) := dk_30 (dk_at dksX0_in_0 6 rfl rfl)
theorem dX0_in_7 : decode cX0_in 7 = .ok (.lload 4, 2) := dk_22 4 (dk_at dksX0_in_0 7 rfl rfl)
theorem dX0_in_9 : decode cX0_in 9 = .ok (.lcmp, 1) := dk_148 (dk_at dksX0_in_0 9 rfl rfl)
theorem dX0_in_10 : decode cX0_in 10 = .ok (.ifCond .gt 7, 3) := dk_157 0 7 (dk_at dksX0_in_0 10 rfl rfl)
theorem dX0_in_13 : decode cX0_in 13 = .ok (.iconst 1, 1) := dk_4 (dk_at dksX0_in_0 13 rfl rfl)
theorem dX0_in_14 : decode cX0_in 14 = .ok (.goto 4, 3) := dk_167 0 4 (dk_at dksX0_in_0 14 rfl rfl)
theorem dX0_in_17 : decode cX0_in 17 = .ok (.iconst 0, 1) := dk_3 (dk_at dksX0_in_0 17 rfl rfl)
theorem dX0_in_18 : decode cX0_in 18 = .ok (.ireturn, 1) := dk_172 (dk_at dksX0_in_0 18 rfl rfl)
abbrev cX0_lambda_new_2 : ByteArray := prog_1_method_82_code
def yX0_lambda_new_2 : MethodName := ⟨RX0, "lambda$new$2", "(II)V"⟩
def dkwX0_lambda_new_2_1 : List UInt8 := [180, 0, 18, 180, 0, 151, 27, 46, 79, 177]
abbrev dktX0_lambda_new_2_1 : List UInt8 := dkwX0_lambda_new_2_1 ++ []
def dkwX0_lambda_new_2_0 : List UInt8 := [42, 180, 0, 18, 180, 0, 151, 27, 42, 180, 0, 18, 27, 182, 0, 145, 153, 0, 7, 28, 167, 0, 12, 42]
abbrev dktX0_lambda_new_2_0 : List UInt8 := dkwX0_lambda_new_2_0 ++ dktX0_lambda_new_2_1
theorem dksX0_lambda_new_2_0 : cX0_lambda_new_2.data.toList.drop 0 = dktX0_lambda_new_2_0 := by decide +kernel
theorem dksX0_lambda_new_2_1 : cX0_lambda_new_2.data.toList.drop 24 = dktX0_lambda_new_2_1 := dk_seg dksX0_lambda_new_2_0 24 rfl rfl
theorem dX0_lambda_new_2_0 : decode cX0_lambda_new_2 0 = .ok (.aload_n 0, 1) := dk_42 (dk_at dksX0_lambda_new_2_0 0 rfl rfl)
theorem dX0_lambda_new_2_1 : decode cX0_lambda_new_2 1 = .ok (.getfield 18, 3) := dk_180 0 18 (dk_at dksX0_lambda_new_2_0 1 rfl rfl)
theorem dX0_lambda_new_2_4 : decode cX0_lambda_new_2 4 = .ok (.getfield 151, 3) := dk_180 0 151 (dk_at dksX0_lambda_new_2_0 4 rfl rfl)
theorem dX0_lambda_new_2_7 : decode cX0_lambda_new_2 7 = .ok (.iload_n 1, 1) := dk_27 (dk_at dksX0_lambda_new_2_0 7 rfl rfl)
theorem dX0_lambda_new_2_8 : decode cX0_lambda_new_2 8 = .ok (.aload_n 0, 1) := dk_42 (dk_at dksX0_lambda_new_2_0 8 rfl rfl)
theorem dX0_lambda_new_2_9 : decode cX0_lambda_new_2 9 = .ok (.getfield 18, 3) := dk_180 0 18 (dk_at dksX0_lambda_new_2_0 9 rfl rfl)
theorem dX0_lambda_new_2_12 : decode cX0_lambda_new_2 12 = .ok (.iload_n 1, 1) := dk_27 (dk_at dksX0_lambda_new_2_0 12 rfl rfl)
theorem dX0_lambda_new_2_13 : decode cX0_lambda_new_2 13 = .ok (.invokevirtual 145, 3) := dk_182 0 145 (dk_at dksX0_lambda_new_2_0 13 rfl rfl)
theorem dX0_lambda_new_2_16 : decode cX0_lambda_new_2 16 = .ok (.ifCond .eq 7, 3) := dk_153 0 7 (dk_at dksX0_lambda_new_2_0 16 rfl rfl)
theorem dX0_lambda_new_2_19 : decode cX0_lambda_new_2 19 = .ok (.iload_n 2, 1) := dk_28 (dk_at dksX0_lambda_new_2_0 19 rfl rfl)
theorem dX0_lambda_new_2_20 : decode cX0_lambda_new_2 20 = .ok (.goto 12, 3) := dk_167 0 12 (dk_at dksX0_lambda_new_2_0 20 rfl rfl)
theorem dX0_lambda_new_2_23 : decode cX0_lambda_new_2 23 = .ok (.aload_n 0, 1) := dk_42 (dk_at dksX0_lambda_new_2_0 23 rfl rfl)
theorem dX0_lambda_new_2_24 : decode cX0_lambda_new_2 24 = .ok (.getfield 18, 3) := dk_180 0 18 (dk_at dksX0_lambda_new_2_1 0 rfl rfl)
theorem dX0_lambda_new_2_27 : decode cX0_lambda_new_2 27 = .ok (.getfield 151, 3) := dk_180 0 151 (dk_at dksX0_lambda_new_2_1 3 rfl rfl)
theorem dX0_lambda_new_2_30 : decode cX0_lambda_new_2 30 = .ok (.iload_n 1, 1) := dk_27 (dk_at dksX0_lambda_new_2_1 6 rfl rfl)
theorem dX0_lambda_new_2_31 : decode cX0_lambda_new_2 31 = .ok (.iaload, 1) := dk_46 (dk_at dksX0_lambda_new_2_1 7 rfl rfl)
theorem dX0_lambda_new_2_32 : decode cX0_lambda_new_2 32 = .ok (.iastore, 1) := dk_79 (dk_at dksX0_lambda_new_2_1 8 rfl rfl)
theorem dX0_lambda_new_2_33 : decode cX0_lambda_new_2 33 = .ok (.return_, 1) := dk_177 (dk_at dksX0_lambda_new_2_1 9 rfl rfl)
abbrev cX0_factors : ByteArray := prog_1_method_67_code
def yX0_factors : MethodName := ⟨RX0, "factors", "(II)V"⟩
def dkwX0_factors_1 : List UInt8 := [28, 79, 177]
abbrev dktX0_factors_1 : List UInt8 := dkwX0_factors_1 ++ []
def dkwX0_factors_0 : List UInt8 := [42, 180, 0, 18, 27, 182, 0, 165, 153, 0, 18, 42, 180, 0, 18, 180, 0, 172, 27, 50, 180, 0, 176, 3]
abbrev dktX0_factors_0 : List UInt8 := dkwX0_factors_0 ++ dktX0_factors_1
theorem dksX0_factors_0 : cX0_factors.data.toList.drop 0 = dktX0_factors_0 := by decide +kernel
theorem dksX0_factors_1 : cX0_factors.data.toList.drop 24 = dktX0_factors_1 := dk_seg dksX0_factors_0 24 rfl rfl
theorem dX0_factors_0 : decode cX0_factors 0 = .ok (.aload_n 0, 1) := dk_42 (dk_at dksX0_factors_0 0 rfl rfl)
theorem dX0_factors_1 : decode cX0_factors 1 = .ok (.getfield 18, 3) := dk_180 0 18 (dk_at dksX0_factors_0 1 rfl rfl)
theorem dX0_factors_4 : decode cX0_factors 4 = .ok (.iload_n 1, 1) := dk_27 (dk_at dksX0_factors_0 4 rfl rfl)
theorem dX0_factors_5 : decode cX0_factors 5 = .ok (.invokevirtual 165, 3) := dk_182 0 165 (dk_at dksX0_factors_0 5 rfl rfl)
theorem dX0_factors_8 : decode cX0_factors 8 = .ok (.ifCond .eq 18, 3) := dk_153 0 18 (dk_at dksX0_factors_0 8 rfl rfl)
theorem dX0_factors_11 : decode cX0_factors 11 = .ok (.aload_n 0, 1) := dk_42 (dk_at dksX0_factors_0 11 rfl rfl)
theorem dX0_factors_12 : decode cX0_factors 12 = .ok (.getfield 18, 3) := dk_180 0 18 (dk_at dksX0_factors_0 12 rfl rfl)
theorem dX0_factors_15 : decode cX0_factors 15 = .ok (.getfield 172, 3) := dk_180 0 172 (dk_at dksX0_factors_0 15 rfl rfl)
theorem dX0_factors_18 : decode cX0_factors 18 = .ok (.iload_n 1, 1) := dk_27 (dk_at dksX0_factors_0 18 rfl rfl)
theorem dX0_factors_19 : decode cX0_factors 19 = .ok (.aaload, 1) := dk_50 (dk_at dksX0_factors_0 19 rfl rfl)
theorem dX0_factors_20 : decode cX0_factors 20 = .ok (.getfield 176, 3) := dk_180 0 176 (dk_at dksX0_factors_0 20 rfl rfl)
theorem dX0_factors_23 : decode cX0_factors 23 = .ok (.iconst 0, 1) := dk_3 (dk_at dksX0_factors_0 23 rfl rfl)
theorem dX0_factors_24 : decode cX0_factors 24 = .ok (.iload_n 2, 1) := dk_28 (dk_at dksX0_factors_1 0 rfl rfl)
theorem dX0_factors_25 : decode cX0_factors 25 = .ok (.iastore, 1) := dk_79 (dk_at dksX0_factors_1 1 rfl rfl)
theorem dX0_factors_26 : decode cX0_factors 26 = .ok (.return_, 1) := dk_177 (dk_at dksX0_factors_1 2 rfl rfl)
abbrev cX0_size : ByteArray := prog_1_method_6_code
def yX0_size : MethodName := ⟨RX0, "size", "(I)I"⟩
def dkwX0_size_1 : List UInt8 := [180, 0, 12, 27, 182, 0, 135, 42, 180, 0, 37, 182, 0, 138, 42, 28, 182, 0, 141, 172]
abbrev dktX0_size_1 : List UInt8 := dkwX0_size_1 ++ []
def dkwX0_size_0 : List UInt8 := [27, 133, 10, 20, 0, 125, 184, 0, 127, 154, 0, 6, 16, 254, 172, 42, 180, 0, 12, 180, 0, 131, 61, 42]
abbrev dktX0_size_0 : List UInt8 := dkwX0_size_0 ++ dktX0_size_1
theorem dksX0_size_0 : cX0_size.data.toList.drop 0 = dktX0_size_0 := by decide +kernel
theorem dksX0_size_1 : cX0_size.data.toList.drop 24 = dktX0_size_1 := dk_seg dksX0_size_0 24 rfl rfl
theorem dX0_size_0 : decode cX0_size 0 = .ok (.iload_n 1, 1) := dk_27 (dk_at dksX0_size_0 0 rfl rfl)
theorem dX0_size_1 : decode cX0_size 1 = .ok (.i2l, 1) := dk_133 (dk_at dksX0_size_0 1 rfl rfl)
theorem dX0_size_2 : decode cX0_size 2 = .ok (.lconst 1, 1) := dk_10 (dk_at dksX0_size_0 2 rfl rfl)
theorem dX0_size_3 : decode cX0_size 3 = .ok (.ldc2_w 125, 3) := dk_20 0 125 (dk_at dksX0_size_0 3 rfl rfl)
theorem dX0_size_6 : decode cX0_size 6 = .ok (.invokestatic 127, 3) := dk_184 0 127 (dk_at dksX0_size_0 6 rfl rfl)
theorem dX0_size_9 : decode cX0_size 9 = .ok (.ifCond .ne 6, 3) := dk_154 0 6 (dk_at dksX0_size_0 9 rfl rfl)
theorem dX0_size_12 : decode cX0_size 12 = .ok (.bipush (-2), 2) := dk_16 254 (dk_at dksX0_size_0 12 rfl rfl)
theorem dX0_size_14 : decode cX0_size 14 = .ok (.ireturn, 1) := dk_172 (dk_at dksX0_size_0 14 rfl rfl)
theorem dX0_size_15 : decode cX0_size 15 = .ok (.aload_n 0, 1) := dk_42 (dk_at dksX0_size_0 15 rfl rfl)
theorem dX0_size_16 : decode cX0_size 16 = .ok (.getfield 12, 3) := dk_180 0 12 (dk_at dksX0_size_0 16 rfl rfl)
theorem dX0_size_19 : decode cX0_size 19 = .ok (.getfield 131, 3) := dk_180 0 131 (dk_at dksX0_size_0 19 rfl rfl)
theorem dX0_size_22 : decode cX0_size 22 = .ok (.istore_n 2, 1) := dk_61 (dk_at dksX0_size_0 22 rfl rfl)
theorem dX0_size_23 : decode cX0_size 23 = .ok (.aload_n 0, 1) := dk_42 (dk_at dksX0_size_0 23 rfl rfl)
theorem dX0_size_24 : decode cX0_size 24 = .ok (.getfield 12, 3) := dk_180 0 12 (dk_at dksX0_size_1 0 rfl rfl)
theorem dX0_size_27 : decode cX0_size 27 = .ok (.iload_n 1, 1) := dk_27 (dk_at dksX0_size_1 3 rfl rfl)
theorem dX0_size_28 : decode cX0_size 28 = .ok (.invokevirtual 135, 3) := dk_182 0 135 (dk_at dksX0_size_1 4 rfl rfl)
theorem dX0_size_31 : decode cX0_size 31 = .ok (.aload_n 0, 1) := dk_42 (dk_at dksX0_size_1 7 rfl rfl)
theorem dX0_size_32 : decode cX0_size 32 = .ok (.getfield 37, 3) := dk_180 0 37 (dk_at dksX0_size_1 8 rfl rfl)
theorem dX0_size_35 : decode cX0_size 35 = .ok (.invokevirtual 138, 3) := dk_182 0 138 (dk_at dksX0_size_1 11 rfl rfl)
theorem dX0_size_38 : decode cX0_size 38 = .ok (.aload_n 0, 1) := dk_42 (dk_at dksX0_size_1 14 rfl rfl)
theorem dX0_size_39 : decode cX0_size 39 = .ok (.iload_n 2, 1) := dk_28 (dk_at dksX0_size_1 15 rfl rfl)
theorem dX0_size_40 : decode cX0_size 40 = .ok (.invokevirtual 141, 3) := dk_182 0 141 (dk_at dksX0_size_1 16 rfl rfl)
theorem dX0_size_43 : decode cX0_size 43 = .ok (.ireturn, 1) := dk_172 (dk_at dksX0_size_1 19 rfl rfl)
abbrev cX0_told : ByteArray := prog_1_method_5_code
def yX0_told : MethodName := ⟨RX0, "told", "(I)I"⟩
def dkwX0_told_0 : List UInt8 := [42, 3, 181, 0, 121, 27, 172]
abbrev dktX0_told_0 : List UInt8 := dkwX0_told_0 ++ []
theorem dksX0_told_0 : cX0_told.data.toList.drop 0 = dktX0_told_0 := by decide +kernel
theorem dX0_told_0 : decode cX0_told 0 = .ok (.aload_n 0, 1) := dk_42 (dk_at dksX0_told_0 0 rfl rfl)
theorem dX0_told_1 : decode cX0_told 1 = .ok (.iconst 0, 1) := dk_3 (dk_at dksX0_told_0 1 rfl rfl)
theorem dX0_told_2 : decode cX0_told 2 = .ok (.putfield 121, 3) := dk_181 0 121 (dk_at dksX0_told_0 2 rfl rfl)
theorem dX0_told_5 : decode cX0_told 5 = .ok (.iload_n 1, 1) := dk_27 (dk_at dksX0_told_0 5 rfl rfl)
theorem dX0_told_6 : decode cX0_told 6 = .ok (.ireturn, 1) := dk_172 (dk_at dksX0_told_0 6 rfl rfl)
abbrev cX0_cost : ByteArray := prog_1_method_7_code
def yX0_cost : MethodName := ⟨RX0, "cost", "(II)I"⟩
def dkwX0_cost_2 : List UInt8 := [28, 79, 42, 180, 0, 37, 182, 0, 138, 42, 29, 182, 0, 141, 172]
abbrev dktX0_cost_2 : List UInt8 := dkwX0_cost_2 ++ []
def dkwX0_cost_1 : List UInt8 := [154, 0, 6, 16, 254, 172, 42, 180, 0, 12, 180, 0, 151, 27, 46, 62, 42, 180, 0, 12, 180, 0, 151, 27]
abbrev dktX0_cost_1 : List UInt8 := dkwX0_cost_1 ++ dktX0_cost_2
def dkwX0_cost_0 : List UInt8 := [42, 180, 0, 12, 27, 182, 0, 145, 154, 0, 5, 2, 172, 28, 133, 9, 20, 0, 149, 184, 0, 127]
abbrev dktX0_cost_0 : List UInt8 := dkwX0_cost_0 ++ dktX0_cost_1
theorem dksX0_cost_0 : cX0_cost.data.toList.drop 0 = dktX0_cost_0 := by decide +kernel
theorem dksX0_cost_1 : cX0_cost.data.toList.drop 22 = dktX0_cost_1 := dk_seg dksX0_cost_0 22 rfl rfl
theorem dksX0_cost_2 : cX0_cost.data.toList.drop 46 = dktX0_cost_2 := dk_seg dksX0_cost_1 24 rfl rfl
theorem dX0_cost_0 : decode cX0_cost 0 = .ok (.aload_n 0, 1) := dk_42 (dk_at dksX0_cost_0 0 rfl rfl)
theorem dX0_cost_1 : decode cX0_cost 1 = .ok (.getfield 12, 3) := dk_180 0 12 (dk_at dksX0_cost_0 1 rfl rfl)
theorem dX0_cost_4 : decode cX0_cost 4 = .ok (.iload_n 1, 1) := dk_27 (dk_at dksX0_cost_0 4 rfl rfl)
theorem dX0_cost_5 : decode cX0_cost 5 = .ok (.invokevirtual 145, 3) := dk_182 0 145 (dk_at dksX0_cost_0 5 rfl rfl)
theorem dX0_cost_8 : decode cX0_cost 8 = .ok (.ifCond .ne 5, 3) := dk_154 0 5 (dk_at dksX0_cost_0 8 rfl rfl)
theorem dX0_cost_11 : decode cX0_cost 11 = .ok (.iconst (-1), 1) := dk_2 (dk_at dksX0_cost_0 11 rfl rfl)
theorem dX0_cost_12 : decode cX0_cost 12 = .ok (.ireturn, 1) := dk_172 (dk_at dksX0_cost_0 12 rfl rfl)
theorem dX0_cost_13 : decode cX0_cost 13 = .ok (.iload_n 2, 1) := dk_28 (dk_at dksX0_cost_0 13 rfl rfl)
theorem dX0_cost_14 : decode cX0_cost 14 = .ok (.i2l, 1) := dk_133 (dk_at dksX0_cost_0 14 rfl rfl)
theorem dX0_cost_15 : decode cX0_cost 15 = .ok (.lconst 0, 1) := dk_9 (dk_at dksX0_cost_0 15 rfl rfl)
theorem dX0_cost_16 : decode cX0_cost 16 = .ok (.ldc2_w 149, 3) := dk_20 0 149 (dk_at dksX0_cost_0 16 rfl rfl)
theorem dX0_cost_19 : decode cX0_cost 19 = .ok (.invokestatic 127, 3) := dk_184 0 127 (dk_at dksX0_cost_0 19 rfl rfl)
theorem dX0_cost_22 : decode cX0_cost 22 = .ok (.ifCond .ne 6, 3) := dk_154 0 6 (dk_at dksX0_cost_1 0 rfl rfl)
theorem dX0_cost_25 : decode cX0_cost 25 = .ok (.bipush (-2), 2) := dk_16 254 (dk_at dksX0_cost_1 3 rfl rfl)
theorem dX0_cost_27 : decode cX0_cost 27 = .ok (.ireturn, 1) := dk_172 (dk_at dksX0_cost_1 5 rfl rfl)
theorem dX0_cost_28 : decode cX0_cost 28 = .ok (.aload_n 0, 1) := dk_42 (dk_at dksX0_cost_1 6 rfl rfl)
theorem dX0_cost_29 : decode cX0_cost 29 = .ok (.getfield 12, 3) := dk_180 0 12 (dk_at dksX0_cost_1 7 rfl rfl)
theorem dX0_cost_32 : decode cX0_cost 32 = .ok (.getfield 151, 3) := dk_180 0 151 (dk_at dksX0_cost_1 10 rfl rfl)
theorem dX0_cost_35 : decode cX0_cost 35 = .ok (.iload_n 1, 1) := dk_27 (dk_at dksX0_cost_1 13 rfl rfl)
theorem dX0_cost_36 : decode cX0_cost 36 = .ok (.iaload, 1) := dk_46 (dk_at dksX0_cost_1 14 rfl rfl)
theorem dX0_cost_37 : decode cX0_cost 37 = .ok (.istore_n 3, 1) := dk_62 (dk_at dksX0_cost_1 15 rfl rfl)
theorem dX0_cost_38 : decode cX0_cost 38 = .ok (.aload_n 0, 1) := dk_42 (dk_at dksX0_cost_1 16 rfl rfl)
theorem dX0_cost_39 : decode cX0_cost 39 = .ok (.getfield 12, 3) := dk_180 0 12 (dk_at dksX0_cost_1 17 rfl rfl)
theorem dX0_cost_42 : decode cX0_cost 42 = .ok (.getfield 151, 3) := dk_180 0 151 (dk_at dksX0_cost_1 20 rfl rfl)
theorem dX0_cost_45 : decode cX0_cost 45 = .ok (.iload_n 1, 1) := dk_27 (dk_at dksX0_cost_1 23 rfl rfl)
theorem dX0_cost_46 : decode cX0_cost 46 = .ok (.iload_n 2, 1) := dk_28 (dk_at dksX0_cost_2 0 rfl rfl)
theorem dX0_cost_47 : decode cX0_cost 47 = .ok (.iastore, 1) := dk_79 (dk_at dksX0_cost_2 1 rfl rfl)
theorem dX0_cost_48 : decode cX0_cost 48 = .ok (.aload_n 0, 1) := dk_42 (dk_at dksX0_cost_2 2 rfl rfl)
theorem dX0_cost_49 : decode cX0_cost 49 = .ok (.getfield 37, 3) := dk_180 0 37 (dk_at dksX0_cost_2 3 rfl rfl)
theorem dX0_cost_52 : decode cX0_cost 52 = .ok (.invokevirtual 138, 3) := dk_182 0 138 (dk_at dksX0_cost_2 6 rfl rfl)
theorem dX0_cost_55 : decode cX0_cost 55 = .ok (.aload_n 0, 1) := dk_42 (dk_at dksX0_cost_2 9 rfl rfl)
theorem dX0_cost_56 : decode cX0_cost 56 = .ok (.iload_n 3, 1) := dk_29 (dk_at dksX0_cost_2 10 rfl rfl)
theorem dX0_cost_57 : decode cX0_cost 57 = .ok (.invokevirtual 141, 3) := dk_182 0 141 (dk_at dksX0_cost_2 11 rfl rfl)
theorem dX0_cost_60 : decode cX0_cost 60 = .ok (.ireturn, 1) := dk_172 (dk_at dksX0_cost_2 14 rfl rfl)
abbrev cX0_rule : ByteArray := prog_1_method_8_code
def yX0_rule : MethodName := ⟨RX0, "rule", "(II)I"⟩
def dkwX0_rule_2 : List UInt8 := [182, 0, 161, 78, 42, 42, 180, 0, 12, 180, 0, 158, 4, 100, 182, 0, 141, 172]
abbrev dktX0_rule_2 : List UInt8 := dkwX0_rule_2 ++ []
def dkwX0_rule_1 : List UInt8 := [16, 254, 172, 42, 180, 0, 12, 180, 0, 158, 16, 8, 160, 0, 6, 16, 252, 172, 42, 180, 0, 12, 27, 28]
abbrev dktX0_rule_1 : List UInt8 := dkwX0_rule_1 ++ dktX0_rule_2
def dkwX0_rule_0 : List UInt8 := [27, 133, 9, 10, 184, 0, 127, 153, 0, 17, 28, 133, 20, 0, 154, 20, 0, 156, 184, 0, 127, 154, 0, 6]
abbrev dktX0_rule_0 : List UInt8 := dkwX0_rule_0 ++ dktX0_rule_1
theorem dksX0_rule_0 : cX0_rule.data.toList.drop 0 = dktX0_rule_0 := by decide +kernel
theorem dksX0_rule_1 : cX0_rule.data.toList.drop 24 = dktX0_rule_1 := dk_seg dksX0_rule_0 24 rfl rfl
theorem dksX0_rule_2 : cX0_rule.data.toList.drop 48 = dktX0_rule_2 := dk_seg dksX0_rule_1 24 rfl rfl
theorem dX0_rule_0 : decode cX0_rule 0 = .ok (.iload_n 1, 1) := dk_27 (dk_at dksX0_rule_0 0 rfl rfl)
theorem dX0_rule_1 : decode cX0_rule 1 = .ok (.i2l, 1) := dk_133 (dk_at dksX0_rule_0 1 rfl rfl)
theorem dX0_rule_2 : decode cX0_rule 2 = .ok (.lconst 0, 1) := dk_9 (dk_at dksX0_rule_0 2 rfl rfl)
theorem dX0_rule_3 : decode cX0_rule 3 = .ok (.lconst 1, 1) := dk_10 (dk_at dksX0_rule_0 3 rfl rfl)
theorem dX0_rule_4 : decode cX0_rule 4 = .ok (.invokestatic 127, 3) := dk_184 0 127 (dk_at dksX0_rule_0 4 rfl rfl)
theorem dX0_rule_7 : decode cX0_rule 7 = .ok (.ifCond .eq 17, 3) := dk_153 0 17 (dk_at dksX0_rule_0 7 rfl rfl)
theorem dX0_rule_10 : decode cX0_rule 10 = .ok (.iload_n 2, 1) := dk_28 (dk_at dksX0_rule_0 10 rfl rfl)
theorem dX0_rule_11 : decode cX0_rule 11 = .ok (.i2l, 1) := dk_133 (dk_at dksX0_rule_0 11 rfl rfl)
theorem dX0_rule_12 : decode cX0_rule 12 = .ok (.ldc2_w 154, 3) := dk_20 0 154 (dk_at dksX0_rule_0 12 rfl rfl)
theorem dX0_rule_15 : decode cX0_rule 15 = .ok (.ldc2_w 156, 3) := dk_20 0 156 (dk_at dksX0_rule_0 15 rfl rfl)
theorem dX0_rule_18 : decode cX0_rule 18 = .ok (.invokestatic 127, 3) := dk_184 0 127 (dk_at dksX0_rule_0 18 rfl rfl)
theorem dX0_rule_21 : decode cX0_rule 21 = .ok (.ifCond .ne 6, 3) := dk_154 0 6 (dk_at dksX0_rule_0 21 rfl rfl)
theorem dX0_rule_24 : decode cX0_rule 24 = .ok (.bipush (-2), 2) := dk_16 254 (dk_at dksX0_rule_1 0 rfl rfl)
theorem dX0_rule_26 : decode cX0_rule 26 = .ok (.ireturn, 1) := dk_172 (dk_at dksX0_rule_1 2 rfl rfl)
theorem dX0_rule_27 : decode cX0_rule 27 = .ok (.aload_n 0, 1) := dk_42 (dk_at dksX0_rule_1 3 rfl rfl)
theorem dX0_rule_28 : decode cX0_rule 28 = .ok (.getfield 12, 3) := dk_180 0 12 (dk_at dksX0_rule_1 4 rfl rfl)
theorem dX0_rule_31 : decode cX0_rule 31 = .ok (.getfield 158, 3) := dk_180 0 158 (dk_at dksX0_rule_1 7 rfl rfl)
theorem dX0_rule_34 : decode cX0_rule 34 = .ok (.bipush 8, 2) := dk_16 8 (dk_at dksX0_rule_1 10 rfl rfl)
theorem dX0_rule_36 : decode cX0_rule 36 = .ok (.if_icmp .ne 6, 3) := dk_160 0 6 (dk_at dksX0_rule_1 12 rfl rfl)
theorem dX0_rule_39 : decode cX0_rule 39 = .ok (.bipush (-4), 2) := dk_16 252 (dk_at dksX0_rule_1 15 rfl rfl)
theorem dX0_rule_41 : decode cX0_rule 41 = .ok (.ireturn, 1) := dk_172 (dk_at dksX0_rule_1 17 rfl rfl)
theorem dX0_rule_42 : decode cX0_rule 42 = .ok (.aload_n 0, 1) := dk_42 (dk_at dksX0_rule_1 18 rfl rfl)
theorem dX0_rule_43 : decode cX0_rule 43 = .ok (.getfield 12, 3) := dk_180 0 12 (dk_at dksX0_rule_1 19 rfl rfl)
theorem dX0_rule_46 : decode cX0_rule 46 = .ok (.iload_n 1, 1) := dk_27 (dk_at dksX0_rule_1 22 rfl rfl)
theorem dX0_rule_47 : decode cX0_rule 47 = .ok (.iload_n 2, 1) := dk_28 (dk_at dksX0_rule_1 23 rfl rfl)
theorem dX0_rule_48 : decode cX0_rule 48 = .ok (.invokevirtual 161, 3) := dk_182 0 161 (dk_at dksX0_rule_2 0 rfl rfl)
theorem dX0_rule_51 : decode cX0_rule 51 = .ok (.astore_n 3, 1) := dk_78 (dk_at dksX0_rule_2 3 rfl rfl)
theorem dX0_rule_52 : decode cX0_rule 52 = .ok (.aload_n 0, 1) := dk_42 (dk_at dksX0_rule_2 4 rfl rfl)
theorem dX0_rule_53 : decode cX0_rule 53 = .ok (.aload_n 0, 1) := dk_42 (dk_at dksX0_rule_2 5 rfl rfl)
theorem dX0_rule_54 : decode cX0_rule 54 = .ok (.getfield 12, 3) := dk_180 0 12 (dk_at dksX0_rule_2 6 rfl rfl)
theorem dX0_rule_57 : decode cX0_rule 57 = .ok (.getfield 158, 3) := dk_180 0 158 (dk_at dksX0_rule_2 9 rfl rfl)
theorem dX0_rule_60 : decode cX0_rule 60 = .ok (.iconst 1, 1) := dk_4 (dk_at dksX0_rule_2 12 rfl rfl)
theorem dX0_rule_61 : decode cX0_rule 61 = .ok (.isub, 1) := dk_100 (dk_at dksX0_rule_2 13 rfl rfl)
theorem dX0_rule_62 : decode cX0_rule 62 = .ok (.invokevirtual 141, 3) := dk_182 0 141 (dk_at dksX0_rule_2 14 rfl rfl)
theorem dX0_rule_65 : decode cX0_rule 65 = .ok (.ireturn, 1) := dk_172 (dk_at dksX0_rule_2 17 rfl rfl)
abbrev cX0_factor : ByteArray := prog_1_method_9_code
def yX0_factor : MethodName := ⟨RX0, "factor", "(III)I"⟩
def dkwX0_factor_3 : List UInt8 := [42, 21, 4, 16, 100, 96, 182, 0, 141, 172]
abbrev dktX0_factor_3 : List UInt8 := dkwX0_factor_3 ++ []
def dkwX0_factor_2 : List UInt8 := [27, 50, 180, 0, 176, 28, 46, 54, 4, 42, 180, 0, 12, 180, 0, 172, 27, 50, 180, 0, 176, 28, 29, 79]
abbrev dktX0_factor_2 : List UInt8 := dkwX0_factor_2 ++ dktX0_factor_3
def dkwX0_factor_1 : List UInt8 := [29, 133, 20, 0, 168, 20, 0, 170, 184, 0, 127, 154, 0, 6, 16, 254, 172, 42, 180, 0, 12, 180, 0, 172]
abbrev dktX0_factor_1 : List UInt8 := dkwX0_factor_1 ++ dktX0_factor_2
def dkwX0_factor_0 : List UInt8 := [42, 180, 0, 12, 27, 182, 0, 165, 153, 0, 14, 42, 180, 0, 12, 28, 182, 0, 145, 154, 0, 5, 2, 172]
abbrev dktX0_factor_0 : List UInt8 := dkwX0_factor_0 ++ dktX0_factor_1
theorem dksX0_factor_0 : cX0_factor.data.toList.drop 0 = dktX0_factor_0 := by decide +kernel
theorem dksX0_factor_1 : cX0_factor.data.toList.drop 24 = dktX0_factor_1 := dk_seg dksX0_factor_0 24 rfl rfl
theorem dksX0_factor_2 : cX0_factor.data.toList.drop 48 = dktX0_factor_2 := dk_seg dksX0_factor_1 24 rfl rfl
theorem dksX0_factor_3 : cX0_factor.data.toList.drop 72 = dktX0_factor_3 := dk_seg dksX0_factor_2 24 rfl rfl
theorem dX0_factor_0 : decode cX0_factor 0 = .ok (.aload_n 0, 1) := dk_42 (dk_at dksX0_factor_0 0 rfl rfl)
theorem dX0_factor_1 : decode cX0_factor 1 = .ok (.getfield 12, 3) := dk_180 0 12 (dk_at dksX0_factor_0 1 rfl rfl)
theorem dX0_factor_4 : decode cX0_factor 4 = .ok (.iload_n 1, 1) := dk_27 (dk_at dksX0_factor_0 4 rfl rfl)
theorem dX0_factor_5 : decode cX0_factor 5 = .ok (.invokevirtual 165, 3) := dk_182 0 165 (dk_at dksX0_factor_0 5 rfl rfl)
theorem dX0_factor_8 : decode cX0_factor 8 = .ok (.ifCond .eq 14, 3) := dk_153 0 14 (dk_at dksX0_factor_0 8 rfl rfl)
theorem dX0_factor_11 : decode cX0_factor 11 = .ok (.aload_n 0, 1) := dk_42 (dk_at dksX0_factor_0 11 rfl rfl)
theorem dX0_factor_12 : decode cX0_factor 12 = .ok (.getfield 12, 3) := dk_180 0 12 (dk_at dksX0_factor_0 12 rfl rfl)
theorem dX0_factor_15 : decode cX0_factor 15 = .ok (.iload_n 2, 1) := dk_28 (dk_at dksX0_factor_0 15 rfl rfl)
theorem dX0_factor_16 : decode cX0_factor 16 = .ok (.invokevirtual 145, 3) := dk_182 0 145 (dk_at dksX0_factor_0 16 rfl rfl)
theorem dX0_factor_19 : decode cX0_factor 19 = .ok (.ifCond .ne 5, 3) := dk_154 0 5 (dk_at dksX0_factor_0 19 rfl rfl)
theorem dX0_factor_22 : decode cX0_factor 22 = .ok (.iconst (-1), 1) := dk_2 (dk_at dksX0_factor_0 22 rfl rfl)
theorem dX0_factor_23 : decode cX0_factor 23 = .ok (.ireturn, 1) := dk_172 (dk_at dksX0_factor_0 23 rfl rfl)
theorem dX0_factor_24 : decode cX0_factor 24 = .ok (.iload_n 3, 1) := dk_29 (dk_at dksX0_factor_1 0 rfl rfl)
theorem dX0_factor_25 : decode cX0_factor 25 = .ok (.i2l, 1) := dk_133 (dk_at dksX0_factor_1 1 rfl rfl)
theorem dX0_factor_26 : decode cX0_factor 26 = .ok (.ldc2_w 168, 3) := dk_20 0 168 (dk_at dksX0_factor_1 2 rfl rfl)
theorem dX0_factor_29 : decode cX0_factor 29 = .ok (.ldc2_w 170, 3) := dk_20 0 170 (dk_at dksX0_factor_1 5 rfl rfl)
theorem dX0_factor_32 : decode cX0_factor 32 = .ok (.invokestatic 127, 3) := dk_184 0 127 (dk_at dksX0_factor_1 8 rfl rfl)
theorem dX0_factor_35 : decode cX0_factor 35 = .ok (.ifCond .ne 6, 3) := dk_154 0 6 (dk_at dksX0_factor_1 11 rfl rfl)
theorem dX0_factor_38 : decode cX0_factor 38 = .ok (.bipush (-2), 2) := dk_16 254 (dk_at dksX0_factor_1 14 rfl rfl)
theorem dX0_factor_40 : decode cX0_factor 40 = .ok (.ireturn, 1) := dk_172 (dk_at dksX0_factor_1 16 rfl rfl)
theorem dX0_factor_41 : decode cX0_factor 41 = .ok (.aload_n 0, 1) := dk_42 (dk_at dksX0_factor_1 17 rfl rfl)
theorem dX0_factor_42 : decode cX0_factor 42 = .ok (.getfield 12, 3) := dk_180 0 12 (dk_at dksX0_factor_1 18 rfl rfl)
theorem dX0_factor_45 : decode cX0_factor 45 = .ok (.getfield 172, 3) := dk_180 0 172 (dk_at dksX0_factor_1 21 rfl rfl)
theorem dX0_factor_48 : decode cX0_factor 48 = .ok (.iload_n 1, 1) := dk_27 (dk_at dksX0_factor_2 0 rfl rfl)
theorem dX0_factor_49 : decode cX0_factor 49 = .ok (.aaload, 1) := dk_50 (dk_at dksX0_factor_2 1 rfl rfl)
theorem dX0_factor_50 : decode cX0_factor 50 = .ok (.getfield 176, 3) := dk_180 0 176 (dk_at dksX0_factor_2 2 rfl rfl)
theorem dX0_factor_53 : decode cX0_factor 53 = .ok (.iload_n 2, 1) := dk_28 (dk_at dksX0_factor_2 5 rfl rfl)
theorem dX0_factor_54 : decode cX0_factor 54 = .ok (.iaload, 1) := dk_46 (dk_at dksX0_factor_2 6 rfl rfl)
theorem dX0_factor_55 : decode cX0_factor 55 = .ok (.istore 4, 2) := dk_54 4 (dk_at dksX0_factor_2 7 rfl rfl)
theorem dX0_factor_57 : decode cX0_factor 57 = .ok (.aload_n 0, 1) := dk_42 (dk_at dksX0_factor_2 9 rfl rfl)
theorem dX0_factor_58 : decode cX0_factor 58 = .ok (.getfield 12, 3) := dk_180 0 12 (dk_at dksX0_factor_2 10 rfl rfl)
theorem dX0_factor_61 : decode cX0_factor 61 = .ok (.getfield 172, 3) := dk_180 0 172 (dk_at dksX0_factor_2 13 rfl rfl)
theorem dX0_factor_64 : decode cX0_factor 64 = .ok (.iload_n 1, 1) := dk_27 (dk_at dksX0_factor_2 16 rfl rfl)
theorem dX0_factor_65 : decode cX0_factor 65 = .ok (.aaload, 1) := dk_50 (dk_at dksX0_factor_2 17 rfl rfl)
theorem dX0_factor_66 : decode cX0_factor 66 = .ok (.getfield 176, 3) := dk_180 0 176 (dk_at dksX0_factor_2 18 rfl rfl)
theorem dX0_factor_69 : decode cX0_factor 69 = .ok (.iload_n 2, 1) := dk_28 (dk_at dksX0_factor_2 21 rfl rfl)
theorem dX0_factor_70 : decode cX0_factor 70 = .ok (.iload_n 3, 1) := dk_29 (dk_at dksX0_factor_2 22 rfl rfl)
theorem dX0_factor_71 : decode cX0_factor 71 = .ok (.iastore, 1) := dk_79 (dk_at dksX0_factor_2 23 rfl rfl)
theorem dX0_factor_72 : decode cX0_factor 72 = .ok (.aload_n 0, 1) := dk_42 (dk_at dksX0_factor_3 0 rfl rfl)
theorem dX0_factor_73 : decode cX0_factor 73 = .ok (.iload 4, 2) := dk_21 4 (dk_at dksX0_factor_3 1 rfl rfl)
theorem dX0_factor_75 : decode cX0_factor 75 = .ok (.bipush 100, 2) := dk_16 100 (dk_at dksX0_factor_3 3 rfl rfl)
theorem dX0_factor_77 : decode cX0_factor 77 = .ok (.iadd, 1) := dk_96 (dk_at dksX0_factor_3 5 rfl rfl)
theorem dX0_factor_78 : decode cX0_factor 78 = .ok (.invokevirtual 141, 3) := dk_182 0 141 (dk_at dksX0_factor_3 6 rfl rfl)
theorem dX0_factor_81 : decode cX0_factor 81 = .ok (.ireturn, 1) := dk_172 (dk_at dksX0_factor_3 9 rfl rfl)
abbrev cX0_bound : ByteArray := prog_1_method_10_code
def yX0_bound : MethodName := ⟨RX0, "bound", "(II)I"⟩
def dkwX0_bound_2 : List UInt8 := [180, 0, 172, 27, 50, 28, 181, 0, 181, 42, 29, 17, 3, 232, 96, 182, 0, 141, 172]
abbrev dktX0_bound_2 : List UInt8 := dkwX0_bound_2 ++ []
def dkwX0_bound_1 : List UInt8 := [154, 0, 6, 16, 254, 172, 42, 180, 0, 12, 180, 0, 172, 27, 50, 180, 0, 181, 62, 42, 180, 0, 12]
abbrev dktX0_bound_1 : List UInt8 := dkwX0_bound_1 ++ dktX0_bound_2
def dkwX0_bound_0 : List UInt8 := [42, 180, 0, 12, 27, 182, 0, 165, 154, 0, 5, 2, 172, 28, 133, 20, 0, 154, 20, 0, 156, 184, 0, 127]
abbrev dktX0_bound_0 : List UInt8 := dkwX0_bound_0 ++ dktX0_bound_1
theorem dksX0_bound_0 : cX0_bound.data.toList.drop 0 = dktX0_bound_0 := by decide +kernel
theorem dksX0_bound_1 : cX0_bound.data.toList.drop 24 = dktX0_bound_1 := dk_seg dksX0_bound_0 24 rfl rfl
theorem dksX0_bound_2 : cX0_bound.data.toList.drop 47 = dktX0_bound_2 := dk_seg dksX0_bound_1 23 rfl rfl
theorem dX0_bound_0 : decode cX0_bound 0 = .ok (.aload_n 0, 1) := dk_42 (dk_at dksX0_bound_0 0 rfl rfl)
theorem dX0_bound_1 : decode cX0_bound 1 = .ok (.getfield 12, 3) := dk_180 0 12 (dk_at dksX0_bound_0 1 rfl rfl)
theorem dX0_bound_4 : decode cX0_bound 4 = .ok (.iload_n 1, 1) := dk_27 (dk_at dksX0_bound_0 4 rfl rfl)
theorem dX0_bound_5 : decode cX0_bound 5 = .ok (.invokevirtual 165, 3) := dk_182 0 165 (dk_at dksX0_bound_0 5 rfl rfl)
theorem dX0_bound_8 : decode cX0_bound 8 = .ok (.ifCond .ne 5, 3) := dk_154 0 5 (dk_at dksX0_bound_0 8 rfl rfl)
theorem dX0_bound_11 : decode cX0_bound 11 = .ok (.iconst (-1), 1) := dk_2 (dk_at dksX0_bound_0 11 rfl rfl)
theorem dX0_bound_12 : decode cX0_bound 12 = .ok (.ireturn, 1) := dk_172 (dk_at dksX0_bound_0 12 rfl rfl)
theorem dX0_bound_13 : decode cX0_bound 13 = .ok (.iload_n 2, 1) := dk_28 (dk_at dksX0_bound_0 13 rfl rfl)
theorem dX0_bound_14 : decode cX0_bound 14 = .ok (.i2l, 1) := dk_133 (dk_at dksX0_bound_0 14 rfl rfl)
theorem dX0_bound_15 : decode cX0_bound 15 = .ok (.ldc2_w 154, 3) := dk_20 0 154 (dk_at dksX0_bound_0 15 rfl rfl)
theorem dX0_bound_18 : decode cX0_bound 18 = .ok (.ldc2_w 156, 3) := dk_20 0 156 (dk_at dksX0_bound_0 18 rfl rfl)
theorem dX0_bound_21 : decode cX0_bound 21 = .ok (.invokestatic 127, 3) := dk_184 0 127 (dk_at dksX0_bound_0 21 rfl rfl)
theorem dX0_bound_24 : decode cX0_bound 24 = .ok (.ifCond .ne 6, 3) := dk_154 0 6 (dk_at dksX0_bound_1 0 rfl rfl)
theorem dX0_bound_27 : decode cX0_bound 27 = .ok (.bipush (-2), 2) := dk_16 254 (dk_at dksX0_bound_1 3 rfl rfl)
theorem dX0_bound_29 : decode cX0_bound 29 = .ok (.ireturn, 1) := dk_172 (dk_at dksX0_bound_1 5 rfl rfl)
theorem dX0_bound_30 : decode cX0_bound 30 = .ok (.aload_n 0, 1) := dk_42 (dk_at dksX0_bound_1 6 rfl rfl)
theorem dX0_bound_31 : decode cX0_bound 31 = .ok (.getfield 12, 3) := dk_180 0 12 (dk_at dksX0_bound_1 7 rfl rfl)
theorem dX0_bound_34 : decode cX0_bound 34 = .ok (.getfield 172, 3) := dk_180 0 172 (dk_at dksX0_bound_1 10 rfl rfl)
theorem dX0_bound_37 : decode cX0_bound 37 = .ok (.iload_n 1, 1) := dk_27 (dk_at dksX0_bound_1 13 rfl rfl)
theorem dX0_bound_38 : decode cX0_bound 38 = .ok (.aaload, 1) := dk_50 (dk_at dksX0_bound_1 14 rfl rfl)
theorem dX0_bound_39 : decode cX0_bound 39 = .ok (.getfield 181, 3) := dk_180 0 181 (dk_at dksX0_bound_1 15 rfl rfl)
theorem dX0_bound_42 : decode cX0_bound 42 = .ok (.istore_n 3, 1) := dk_62 (dk_at dksX0_bound_1 18 rfl rfl)
theorem dX0_bound_43 : decode cX0_bound 43 = .ok (.aload_n 0, 1) := dk_42 (dk_at dksX0_bound_1 19 rfl rfl)
theorem dX0_bound_44 : decode cX0_bound 44 = .ok (.getfield 12, 3) := dk_180 0 12 (dk_at dksX0_bound_1 20 rfl rfl)
theorem dX0_bound_47 : decode cX0_bound 47 = .ok (.getfield 172, 3) := dk_180 0 172 (dk_at dksX0_bound_2 0 rfl rfl)
theorem dX0_bound_50 : decode cX0_bound 50 = .ok (.iload_n 1, 1) := dk_27 (dk_at dksX0_bound_2 3 rfl rfl)
theorem dX0_bound_51 : decode cX0_bound 51 = .ok (.aaload, 1) := dk_50 (dk_at dksX0_bound_2 4 rfl rfl)
theorem dX0_bound_52 : decode cX0_bound 52 = .ok (.iload_n 2, 1) := dk_28 (dk_at dksX0_bound_2 5 rfl rfl)
theorem dX0_bound_53 : decode cX0_bound 53 = .ok (.putfield 181, 3) := dk_181 0 181 (dk_at dksX0_bound_2 6 rfl rfl)
theorem dX0_bound_56 : decode cX0_bound 56 = .ok (.aload_n 0, 1) := dk_42 (dk_at dksX0_bound_2 9 rfl rfl)
theorem dX0_bound_57 : decode cX0_bound 57 = .ok (.iload_n 3, 1) := dk_29 (dk_at dksX0_bound_2 10 rfl rfl)
theorem dX0_bound_58 : decode cX0_bound 58 = .ok (.sipush 1000, 3) := dk_17 3 232 (dk_at dksX0_bound_2 11 rfl rfl)
theorem dX0_bound_61 : decode cX0_bound 61 = .ok (.iadd, 1) := dk_96 (dk_at dksX0_bound_2 14 rfl rfl)
theorem dX0_bound_62 : decode cX0_bound 62 = .ok (.invokevirtual 141, 3) := dk_182 0 141 (dk_at dksX0_bound_2 15 rfl rfl)
theorem dX0_bound_65 : decode cX0_bound 65 = .ok (.ireturn, 1) := dk_172 (dk_at dksX0_bound_2 18 rfl rfl)
abbrev cX0_less : ByteArray := prog_1_method_11_code
def yX0_less : MethodName := ⟨RX0, "less", "()I"⟩
def dkwX0_less_2 : List UInt8 := [180, 0, 158, 182, 0, 141, 172]
abbrev dktX0_less_2 : List UInt8 := dkwX0_less_2 ++ []
def dkwX0_less_1 : List UInt8 := [181, 0, 158, 42, 180, 0, 12, 180, 0, 184, 42, 180, 0, 12, 180, 0, 158, 3, 79, 42, 42, 180, 0, 12]
abbrev dktX0_less_1 : List UInt8 := dkwX0_less_1 ++ dktX0_less_2
def dkwX0_less_0 : List UInt8 := [42, 180, 0, 12, 180, 0, 158, 154, 0, 6, 16, 253, 172, 42, 180, 0, 12, 89, 180, 0, 158, 4, 100]
abbrev dktX0_less_0 : List UInt8 := dkwX0_less_0 ++ dktX0_less_1
theorem dksX0_less_0 : cX0_less.data.toList.drop 0 = dktX0_less_0 := by decide +kernel
theorem dksX0_less_1 : cX0_less.data.toList.drop 23 = dktX0_less_1 := dk_seg dksX0_less_0 23 rfl rfl
theorem dksX0_less_2 : cX0_less.data.toList.drop 47 = dktX0_less_2 := dk_seg dksX0_less_1 24 rfl rfl
theorem dX0_less_0 : decode cX0_less 0 = .ok (.aload_n 0, 1) := dk_42 (dk_at dksX0_less_0 0 rfl rfl)
theorem dX0_less_1 : decode cX0_less 1 = .ok (.getfield 12, 3) := dk_180 0 12 (dk_at dksX0_less_0 1 rfl rfl)
theorem dX0_less_4 : decode cX0_less 4 = .ok (.getfield 158, 3) := dk_180 0 158 (dk_at dksX0_less_0 4 rfl rfl)
theorem dX0_less_7 : decode cX0_less 7 = .ok (.ifCond .ne 6, 3) := dk_154 0 6 (dk_at dksX0_less_0 7 rfl rfl)
theorem dX0_less_10 : decode cX0_less 10 = .ok (.bipush (-3), 2) := dk_16 253 (dk_at dksX0_less_0 10 rfl rfl)
theorem dX0_less_12 : decode cX0_less 12 = .ok (.ireturn, 1) := dk_172 (dk_at dksX0_less_0 12 rfl rfl)
theorem dX0_less_13 : decode cX0_less 13 = .ok (.aload_n 0, 1) := dk_42 (dk_at dksX0_less_0 13 rfl rfl)
theorem dX0_less_14 : decode cX0_less 14 = .ok (.getfield 12, 3) := dk_180 0 12 (dk_at dksX0_less_0 14 rfl rfl)
theorem dX0_less_17 : decode cX0_less 17 = .ok (.dup, 1) := dk_89 (dk_at dksX0_less_0 17 rfl rfl)
theorem dX0_less_18 : decode cX0_less 18 = .ok (.getfield 158, 3) := dk_180 0 158 (dk_at dksX0_less_0 18 rfl rfl)
theorem dX0_less_21 : decode cX0_less 21 = .ok (.iconst 1, 1) := dk_4 (dk_at dksX0_less_0 21 rfl rfl)
theorem dX0_less_22 : decode cX0_less 22 = .ok (.isub, 1) := dk_100 (dk_at dksX0_less_0 22 rfl rfl)
theorem dX0_less_23 : decode cX0_less 23 = .ok (.putfield 158, 3) := dk_181 0 158 (dk_at dksX0_less_1 0 rfl rfl)
theorem dX0_less_26 : decode cX0_less 26 = .ok (.aload_n 0, 1) := dk_42 (dk_at dksX0_less_1 3 rfl rfl)
theorem dX0_less_27 : decode cX0_less 27 = .ok (.getfield 12, 3) := dk_180 0 12 (dk_at dksX0_less_1 4 rfl rfl)
theorem dX0_less_30 : decode cX0_less 30 = .ok (.getfield 184, 3) := dk_180 0 184 (dk_at dksX0_less_1 7 rfl rfl)
theorem dX0_less_33 : decode cX0_less 33 = .ok (.aload_n 0, 1) := dk_42 (dk_at dksX0_less_1 10 rfl rfl)
theorem dX0_less_34 : decode cX0_less 34 = .ok (.getfield 12, 3) := dk_180 0 12 (dk_at dksX0_less_1 11 rfl rfl)
theorem dX0_less_37 : decode cX0_less 37 = .ok (.getfield 158, 3) := dk_180 0 158 (dk_at dksX0_less_1 14 rfl rfl)
theorem dX0_less_40 : decode cX0_less 40 = .ok (.iconst 0, 1) := dk_3 (dk_at dksX0_less_1 17 rfl rfl)
theorem dX0_less_41 : decode cX0_less 41 = .ok (.iastore, 1) := dk_79 (dk_at dksX0_less_1 18 rfl rfl)
theorem dX0_less_42 : decode cX0_less 42 = .ok (.aload_n 0, 1) := dk_42 (dk_at dksX0_less_1 19 rfl rfl)
theorem dX0_less_43 : decode cX0_less 43 = .ok (.aload_n 0, 1) := dk_42 (dk_at dksX0_less_1 20 rfl rfl)
theorem dX0_less_44 : decode cX0_less 44 = .ok (.getfield 12, 3) := dk_180 0 12 (dk_at dksX0_less_1 21 rfl rfl)
theorem dX0_less_47 : decode cX0_less 47 = .ok (.getfield 158, 3) := dk_180 0 158 (dk_at dksX0_less_2 0 rfl rfl)
theorem dX0_less_50 : decode cX0_less 50 = .ok (.invokevirtual 141, 3) := dk_182 0 141 (dk_at dksX0_less_2 3 rfl rfl)
theorem dX0_less_53 : decode cX0_less 53 = .ok (.ireturn, 1) := dk_172 (dk_at dksX0_less_2 6 rfl rfl)
abbrev cX0_feed : ByteArray := prog_1_method_12_code
def yX0_feed : MethodName := ⟨RX0, "feed", "(I)I"⟩
def dkwX0_feed_2 : List UInt8 := [42, 180, 0, 189, 172]
abbrev dktX0_feed_2 : List UInt8 := dkwX0_feed_2 ++ []
def dkwX0_feed_1 : List UInt8 := [16, 252, 172, 42, 180, 0, 56, 42, 180, 0, 189, 27, 145, 84, 42, 89, 180, 0, 189, 4, 96, 181, 0, 189]
abbrev dktX0_feed_1 : List UInt8 := dkwX0_feed_1 ++ dktX0_feed_2
def dkwX0_feed_0 : List UInt8 := [27, 133, 9, 20, 0, 187, 184, 0, 127, 154, 0, 6, 16, 254, 172, 42, 180, 0, 189, 16, 80, 160, 0, 6]
abbrev dktX0_feed_0 : List UInt8 := dkwX0_feed_0 ++ dktX0_feed_1
theorem dksX0_feed_0 : cX0_feed.data.toList.drop 0 = dktX0_feed_0 := by decide +kernel
theorem dksX0_feed_1 : cX0_feed.data.toList.drop 24 = dktX0_feed_1 := dk_seg dksX0_feed_0 24 rfl rfl
theorem dksX0_feed_2 : cX0_feed.data.toList.drop 48 = dktX0_feed_2 := dk_seg dksX0_feed_1 24 rfl rfl
theorem dX0_feed_0 : decode cX0_feed 0 = .ok (.iload_n 1, 1) := dk_27 (dk_at dksX0_feed_0 0 rfl rfl)
theorem dX0_feed_1 : decode cX0_feed 1 = .ok (.i2l, 1) := dk_133 (dk_at dksX0_feed_0 1 rfl rfl)
theorem dX0_feed_2 : decode cX0_feed 2 = .ok (.lconst 0, 1) := dk_9 (dk_at dksX0_feed_0 2 rfl rfl)
theorem dX0_feed_3 : decode cX0_feed 3 = .ok (.ldc2_w 187, 3) := dk_20 0 187 (dk_at dksX0_feed_0 3 rfl rfl)
theorem dX0_feed_6 : decode cX0_feed 6 = .ok (.invokestatic 127, 3) := dk_184 0 127 (dk_at dksX0_feed_0 6 rfl rfl)
theorem dX0_feed_9 : decode cX0_feed 9 = .ok (.ifCond .ne 6, 3) := dk_154 0 6 (dk_at dksX0_feed_0 9 rfl rfl)
theorem dX0_feed_12 : decode cX0_feed 12 = .ok (.bipush (-2), 2) := dk_16 254 (dk_at dksX0_feed_0 12 rfl rfl)
theorem dX0_feed_14 : decode cX0_feed 14 = .ok (.ireturn, 1) := dk_172 (dk_at dksX0_feed_0 14 rfl rfl)
theorem dX0_feed_15 : decode cX0_feed 15 = .ok (.aload_n 0, 1) := dk_42 (dk_at dksX0_feed_0 15 rfl rfl)
theorem dX0_feed_16 : decode cX0_feed 16 = .ok (.getfield 189, 3) := dk_180 0 189 (dk_at dksX0_feed_0 16 rfl rfl)
theorem dX0_feed_19 : decode cX0_feed 19 = .ok (.bipush 80, 2) := dk_16 80 (dk_at dksX0_feed_0 19 rfl rfl)
theorem dX0_feed_21 : decode cX0_feed 21 = .ok (.if_icmp .ne 6, 3) := dk_160 0 6 (dk_at dksX0_feed_0 21 rfl rfl)
theorem dX0_feed_24 : decode cX0_feed 24 = .ok (.bipush (-4), 2) := dk_16 252 (dk_at dksX0_feed_1 0 rfl rfl)
theorem dX0_feed_26 : decode cX0_feed 26 = .ok (.ireturn, 1) := dk_172 (dk_at dksX0_feed_1 2 rfl rfl)
theorem dX0_feed_27 : decode cX0_feed 27 = .ok (.aload_n 0, 1) := dk_42 (dk_at dksX0_feed_1 3 rfl rfl)
theorem dX0_feed_28 : decode cX0_feed 28 = .ok (.getfield 56, 3) := dk_180 0 56 (dk_at dksX0_feed_1 4 rfl rfl)
theorem dX0_feed_31 : decode cX0_feed 31 = .ok (.aload_n 0, 1) := dk_42 (dk_at dksX0_feed_1 7 rfl rfl)
theorem dX0_feed_32 : decode cX0_feed 32 = .ok (.getfield 189, 3) := dk_180 0 189 (dk_at dksX0_feed_1 8 rfl rfl)
theorem dX0_feed_35 : decode cX0_feed 35 = .ok (.iload_n 1, 1) := dk_27 (dk_at dksX0_feed_1 11 rfl rfl)
theorem dX0_feed_36 : decode cX0_feed 36 = .ok (.i2b, 1) := dk_145 (dk_at dksX0_feed_1 12 rfl rfl)
theorem dX0_feed_37 : decode cX0_feed 37 = .ok (.bastore, 1) := dk_84 (dk_at dksX0_feed_1 13 rfl rfl)
theorem dX0_feed_38 : decode cX0_feed 38 = .ok (.aload_n 0, 1) := dk_42 (dk_at dksX0_feed_1 14 rfl rfl)
theorem dX0_feed_39 : decode cX0_feed 39 = .ok (.dup, 1) := dk_89 (dk_at dksX0_feed_1 15 rfl rfl)
theorem dX0_feed_40 : decode cX0_feed 40 = .ok (.getfield 189, 3) := dk_180 0 189 (dk_at dksX0_feed_1 16 rfl rfl)
theorem dX0_feed_43 : decode cX0_feed 43 = .ok (.iconst 1, 1) := dk_4 (dk_at dksX0_feed_1 19 rfl rfl)
theorem dX0_feed_44 : decode cX0_feed 44 = .ok (.iadd, 1) := dk_96 (dk_at dksX0_feed_1 20 rfl rfl)
theorem dX0_feed_45 : decode cX0_feed 45 = .ok (.putfield 189, 3) := dk_181 0 189 (dk_at dksX0_feed_1 21 rfl rfl)
theorem dX0_feed_48 : decode cX0_feed 48 = .ok (.aload_n 0, 1) := dk_42 (dk_at dksX0_feed_2 0 rfl rfl)
theorem dX0_feed_49 : decode cX0_feed 49 = .ok (.getfield 189, 3) := dk_180 0 189 (dk_at dksX0_feed_2 1 rfl rfl)
theorem dX0_feed_52 : decode cX0_feed 52 = .ok (.ireturn, 1) := dk_172 (dk_at dksX0_feed_2 4 rfl rfl)
abbrev cX0_read : ByteArray := prog_1_method_13_code
def yX0_read : MethodName := ⟨RX0, "read", "()I"⟩
def dkwX0_read_5 : List UInt8 := [3, 181, 0, 189, 29, 172, 58, 4, 42, 3, 181, 0, 189, 25, 4, 191]
abbrev dktX0_read_5 : List UInt8 := dkwX0_read_5 ++ []
def dkwX0_read_4 : List UInt8 := [180, 0, 200, 182, 0, 141, 61, 42, 3, 181, 0, 189, 28, 172, 77, 16, 246, 44, 180, 0, 212, 100, 62, 42]
abbrev dktX0_read_4 : List UInt8 := dkwX0_read_4 ++ dktX0_read_5
def dkwX0_read_3 : List UInt8 := [182, 0, 206, 42, 180, 0, 12, 89, 180, 0, 158, 4, 96, 181, 0, 158, 132, 2, 1, 167, 255, 208, 42, 43]
abbrev dktX0_read_3 : List UInt8 := dkwX0_read_3 ++ dktX0_read_4
def dkwX0_read_2 : List UInt8 := [162, 0, 46, 42, 180, 0, 12, 180, 0, 172, 42, 180, 0, 12, 180, 0, 158, 50, 43, 180, 0, 203, 28, 50]
abbrev dktX0_read_2 : List UInt8 := dkwX0_read_2 ++ dktX0_read_3
def dkwX0_read_1 : List UInt8 := [96, 16, 8, 164, 0, 13, 16, 252, 61, 42, 3, 181, 0, 189, 28, 172, 3, 61, 28, 43, 180, 0, 200]
abbrev dktX0_read_1 : List UInt8 := dkwX0_read_1 ++ dktX0_read_2
def dkwX0_read_0 : List UInt8 := [187, 0, 192, 89, 42, 183, 0, 194, 76, 43, 182, 0, 197, 42, 180, 0, 12, 180, 0, 158, 43, 180, 0, 200]
abbrev dktX0_read_0 : List UInt8 := dkwX0_read_0 ++ dktX0_read_1
theorem dksX0_read_0 : cX0_read.data.toList.drop 0 = dktX0_read_0 := by decide +kernel
theorem dksX0_read_1 : cX0_read.data.toList.drop 24 = dktX0_read_1 := dk_seg dksX0_read_0 24 rfl rfl
theorem dksX0_read_2 : cX0_read.data.toList.drop 47 = dktX0_read_2 := dk_seg dksX0_read_1 23 rfl rfl
theorem dksX0_read_3 : cX0_read.data.toList.drop 71 = dktX0_read_3 := dk_seg dksX0_read_2 24 rfl rfl
theorem dksX0_read_4 : cX0_read.data.toList.drop 95 = dktX0_read_4 := dk_seg dksX0_read_3 24 rfl rfl
theorem dksX0_read_5 : cX0_read.data.toList.drop 119 = dktX0_read_5 := dk_seg dksX0_read_4 24 rfl rfl
theorem dX0_read_0 : decode cX0_read 0 = .ok (.new 192, 3) := dk_187 0 192 (dk_at dksX0_read_0 0 rfl rfl)
theorem dX0_read_3 : decode cX0_read 3 = .ok (.dup, 1) := dk_89 (dk_at dksX0_read_0 3 rfl rfl)
theorem dX0_read_4 : decode cX0_read 4 = .ok (.aload_n 0, 1) := dk_42 (dk_at dksX0_read_0 4 rfl rfl)
theorem dX0_read_5 : decode cX0_read 5 = .ok (.invokespecial 194, 3) := dk_183 0 194 (dk_at dksX0_read_0 5 rfl rfl)
theorem dX0_read_8 : decode cX0_read 8 = .ok (.astore_n 1, 1) := dk_76 (dk_at dksX0_read_0 8 rfl rfl)
theorem dX0_read_9 : decode cX0_read 9 = .ok (.aload_n 1, 1) := dk_43 (dk_at dksX0_read_0 9 rfl rfl)
theorem dX0_read_10 : decode cX0_read 10 = .ok (.invokevirtual 197, 3) := dk_182 0 197 (dk_at dksX0_read_0 10 rfl rfl)
theorem dX0_read_13 : decode cX0_read 13 = .ok (.aload_n 0, 1) := dk_42 (dk_at dksX0_read_0 13 rfl rfl)
theorem dX0_read_14 : decode cX0_read 14 = .ok (.getfield 12, 3) := dk_180 0 12 (dk_at dksX0_read_0 14 rfl rfl)
theorem dX0_read_17 : decode cX0_read 17 = .ok (.getfield 158, 3) := dk_180 0 158 (dk_at dksX0_read_0 17 rfl rfl)
theorem dX0_read_20 : decode cX0_read 20 = .ok (.aload_n 1, 1) := dk_43 (dk_at dksX0_read_0 20 rfl rfl)
theorem dX0_read_21 : decode cX0_read 21 = .ok (.getfield 200, 3) := dk_180 0 200 (dk_at dksX0_read_0 21 rfl rfl)
theorem dX0_read_24 : decode cX0_read 24 = .ok (.iadd, 1) := dk_96 (dk_at dksX0_read_1 0 rfl rfl)
theorem dX0_read_25 : decode cX0_read 25 = .ok (.bipush 8, 2) := dk_16 8 (dk_at dksX0_read_1 1 rfl rfl)
theorem dX0_read_27 : decode cX0_read 27 = .ok (.if_icmp .le 13, 3) := dk_164 0 13 (dk_at dksX0_read_1 3 rfl rfl)
theorem dX0_read_30 : decode cX0_read 30 = .ok (.bipush (-4), 2) := dk_16 252 (dk_at dksX0_read_1 6 rfl rfl)
theorem dX0_read_32 : decode cX0_read 32 = .ok (.istore_n 2, 1) := dk_61 (dk_at dksX0_read_1 8 rfl rfl)
theorem dX0_read_33 : decode cX0_read 33 = .ok (.aload_n 0, 1) := dk_42 (dk_at dksX0_read_1 9 rfl rfl)
theorem dX0_read_34 : decode cX0_read 34 = .ok (.iconst 0, 1) := dk_3 (dk_at dksX0_read_1 10 rfl rfl)
theorem dX0_read_35 : decode cX0_read 35 = .ok (.putfield 189, 3) := dk_181 0 189 (dk_at dksX0_read_1 11 rfl rfl)
theorem dX0_read_38 : decode cX0_read 38 = .ok (.iload_n 2, 1) := dk_28 (dk_at dksX0_read_1 14 rfl rfl)
theorem dX0_read_39 : decode cX0_read 39 = .ok (.ireturn, 1) := dk_172 (dk_at dksX0_read_1 15 rfl rfl)
theorem dX0_read_40 : decode cX0_read 40 = .ok (.iconst 0, 1) := dk_3 (dk_at dksX0_read_1 16 rfl rfl)
theorem dX0_read_41 : decode cX0_read 41 = .ok (.istore_n 2, 1) := dk_61 (dk_at dksX0_read_1 17 rfl rfl)
theorem dX0_read_42 : decode cX0_read 42 = .ok (.iload_n 2, 1) := dk_28 (dk_at dksX0_read_1 18 rfl rfl)
theorem dX0_read_43 : decode cX0_read 43 = .ok (.aload_n 1, 1) := dk_43 (dk_at dksX0_read_1 19 rfl rfl)
theorem dX0_read_44 : decode cX0_read 44 = .ok (.getfield 200, 3) := dk_180 0 200 (dk_at dksX0_read_1 20 rfl rfl)
theorem dX0_read_47 : decode cX0_read 47 = .ok (.if_icmp .ge 46, 3) := dk_162 0 46 (dk_at dksX0_read_2 0 rfl rfl)
theorem dX0_read_50 : decode cX0_read 50 = .ok (.aload_n 0, 1) := dk_42 (dk_at dksX0_read_2 3 rfl rfl)
theorem dX0_read_51 : decode cX0_read 51 = .ok (.getfield 12, 3) := dk_180 0 12 (dk_at dksX0_read_2 4 rfl rfl)
theorem dX0_read_54 : decode cX0_read 54 = .ok (.getfield 172, 3) := dk_180 0 172 (dk_at dksX0_read_2 7 rfl rfl)
theorem dX0_read_57 : decode cX0_read 57 = .ok (.aload_n 0, 1) := dk_42 (dk_at dksX0_read_2 10 rfl rfl)
theorem dX0_read_58 : decode cX0_read 58 = .ok (.getfield 12, 3) := dk_180 0 12 (dk_at dksX0_read_2 11 rfl rfl)
theorem dX0_read_61 : decode cX0_read 61 = .ok (.getfield 158, 3) := dk_180 0 158 (dk_at dksX0_read_2 14 rfl rfl)
theorem dX0_read_64 : decode cX0_read 64 = .ok (.aaload, 1) := dk_50 (dk_at dksX0_read_2 17 rfl rfl)
theorem dX0_read_65 : decode cX0_read 65 = .ok (.aload_n 1, 1) := dk_43 (dk_at dksX0_read_2 18 rfl rfl)
theorem dX0_read_66 : decode cX0_read 66 = .ok (.getfield 203, 3) := dk_180 0 203 (dk_at dksX0_read_2 19 rfl rfl)
theorem dX0_read_69 : decode cX0_read 69 = .ok (.iload_n 2, 1) := dk_28 (dk_at dksX0_read_2 22 rfl rfl)
theorem dX0_read_70 : decode cX0_read 70 = .ok (.aaload, 1) := dk_50 (dk_at dksX0_read_2 23 rfl rfl)
theorem dX0_read_71 : decode cX0_read 71 = .ok (.invokevirtual 206, 3) := dk_182 0 206 (dk_at dksX0_read_3 0 rfl rfl)
theorem dX0_read_74 : decode cX0_read 74 = .ok (.aload_n 0, 1) := dk_42 (dk_at dksX0_read_3 3 rfl rfl)
theorem dX0_read_75 : decode cX0_read 75 = .ok (.getfield 12, 3) := dk_180 0 12 (dk_at dksX0_read_3 4 rfl rfl)
theorem dX0_read_78 : decode cX0_read 78 = .ok (.dup, 1) := dk_89 (dk_at dksX0_read_3 7 rfl rfl)
theorem dX0_read_79 : decode cX0_read 79 = .ok (.getfield 158, 3) := dk_180 0 158 (dk_at dksX0_read_3 8 rfl rfl)
theorem dX0_read_82 : decode cX0_read 82 = .ok (.iconst 1, 1) := dk_4 (dk_at dksX0_read_3 11 rfl rfl)
theorem dX0_read_83 : decode cX0_read 83 = .ok (.iadd, 1) := dk_96 (dk_at dksX0_read_3 12 rfl rfl)
theorem dX0_read_84 : decode cX0_read 84 = .ok (.putfield 158, 3) := dk_181 0 158 (dk_at dksX0_read_3 13 rfl rfl)
theorem dX0_read_87 : decode cX0_read 87 = .ok (.iinc 2 1, 3) := dk_132 2 1 (dk_at dksX0_read_3 16 rfl rfl)
theorem dX0_read_90 : decode cX0_read 90 = .ok (.goto (-48), 3) := dk_167 255 208 (dk_at dksX0_read_3 19 rfl rfl)
theorem dX0_read_93 : decode cX0_read 93 = .ok (.aload_n 0, 1) := dk_42 (dk_at dksX0_read_3 22 rfl rfl)
theorem dX0_read_94 : decode cX0_read 94 = .ok (.aload_n 1, 1) := dk_43 (dk_at dksX0_read_3 23 rfl rfl)
theorem dX0_read_95 : decode cX0_read 95 = .ok (.getfield 200, 3) := dk_180 0 200 (dk_at dksX0_read_4 0 rfl rfl)
theorem dX0_read_98 : decode cX0_read 98 = .ok (.invokevirtual 141, 3) := dk_182 0 141 (dk_at dksX0_read_4 3 rfl rfl)
theorem dX0_read_101 : decode cX0_read 101 = .ok (.istore_n 2, 1) := dk_61 (dk_at dksX0_read_4 6 rfl rfl)
theorem dX0_read_102 : decode cX0_read 102 = .ok (.aload_n 0, 1) := dk_42 (dk_at dksX0_read_4 7 rfl rfl)
theorem dX0_read_103 : decode cX0_read 103 = .ok (.iconst 0, 1) := dk_3 (dk_at dksX0_read_4 8 rfl rfl)
theorem dX0_read_104 : decode cX0_read 104 = .ok (.putfield 189, 3) := dk_181 0 189 (dk_at dksX0_read_4 9 rfl rfl)
theorem dX0_read_107 : decode cX0_read 107 = .ok (.iload_n 2, 1) := dk_28 (dk_at dksX0_read_4 12 rfl rfl)
theorem dX0_read_108 : decode cX0_read 108 = .ok (.ireturn, 1) := dk_172 (dk_at dksX0_read_4 13 rfl rfl)
theorem dX0_read_109 : decode cX0_read 109 = .ok (.astore_n 2, 1) := dk_77 (dk_at dksX0_read_4 14 rfl rfl)
theorem dX0_read_110 : decode cX0_read 110 = .ok (.bipush (-10), 2) := dk_16 246 (dk_at dksX0_read_4 15 rfl rfl)
theorem dX0_read_112 : decode cX0_read 112 = .ok (.aload_n 2, 1) := dk_44 (dk_at dksX0_read_4 17 rfl rfl)
theorem dX0_read_113 : decode cX0_read 113 = .ok (.getfield 212, 3) := dk_180 0 212 (dk_at dksX0_read_4 18 rfl rfl)
theorem dX0_read_116 : decode cX0_read 116 = .ok (.isub, 1) := dk_100 (dk_at dksX0_read_4 21 rfl rfl)
theorem dX0_read_117 : decode cX0_read 117 = .ok (.istore_n 3, 1) := dk_62 (dk_at dksX0_read_4 22 rfl rfl)
theorem dX0_read_118 : decode cX0_read 118 = .ok (.aload_n 0, 1) := dk_42 (dk_at dksX0_read_4 23 rfl rfl)
theorem dX0_read_119 : decode cX0_read 119 = .ok (.iconst 0, 1) := dk_3 (dk_at dksX0_read_5 0 rfl rfl)
theorem dX0_read_120 : decode cX0_read 120 = .ok (.putfield 189, 3) := dk_181 0 189 (dk_at dksX0_read_5 1 rfl rfl)
theorem dX0_read_123 : decode cX0_read 123 = .ok (.iload_n 3, 1) := dk_29 (dk_at dksX0_read_5 4 rfl rfl)
theorem dX0_read_124 : decode cX0_read 124 = .ok (.ireturn, 1) := dk_172 (dk_at dksX0_read_5 5 rfl rfl)
theorem dX0_read_125 : decode cX0_read 125 = .ok (.astore 4, 2) := dk_58 4 (dk_at dksX0_read_5 6 rfl rfl)
theorem dX0_read_127 : decode cX0_read 127 = .ok (.aload_n 0, 1) := dk_42 (dk_at dksX0_read_5 8 rfl rfl)
theorem dX0_read_128 : decode cX0_read 128 = .ok (.iconst 0, 1) := dk_3 (dk_at dksX0_read_5 9 rfl rfl)
theorem dX0_read_129 : decode cX0_read 129 = .ok (.putfield 189, 3) := dk_181 0 189 (dk_at dksX0_read_5 10 rfl rfl)
theorem dX0_read_132 : decode cX0_read 132 = .ok (.aload 4, 2) := dk_25 4 (dk_at dksX0_read_5 13 rfl rfl)
theorem dX0_read_134 : decode cX0_read 134 = .ok (.athrow, 1) := dk_191 (dk_at dksX0_read_5 15 rfl rfl)
abbrev cX0_ruleOf : ByteArray := prog_1_method_14_code
def yX0_ruleOf : MethodName := ⟨RX0, "ruleOf", "(II)I"⟩
def dkwX0_ruleOf_3 : List UInt8 := [180, 0, 176, 28, 5, 100, 46, 96, 172]
abbrev dktX0_ruleOf_3 : List UInt8 := dkwX0_ruleOf_3 ++ []
def dkwX0_ruleOf_2 : List UInt8 := [154, 0, 10, 45, 180, 0, 215, 167, 0, 23, 28, 4, 160, 0, 10, 45, 180, 0, 181, 167, 0, 11, 45]
abbrev dktX0_ruleOf_2 : List UInt8 := dkwX0_ruleOf_2 ++ dktX0_ruleOf_3
def dkwX0_ruleOf_1 : List UInt8 := [184, 0, 127, 154, 0, 5, 2, 172, 42, 180, 0, 12, 180, 0, 172, 27, 50, 78, 17, 3, 232, 28]
abbrev dktX0_ruleOf_1 : List UInt8 := dkwX0_ruleOf_1 ++ dktX0_ruleOf_2
def dkwX0_ruleOf_0 : List UInt8 := [42, 180, 0, 12, 27, 182, 0, 165, 153, 0, 22, 28, 133, 9, 42, 180, 0, 12, 180, 0, 131, 4, 96, 133]
abbrev dktX0_ruleOf_0 : List UInt8 := dkwX0_ruleOf_0 ++ dktX0_ruleOf_1
theorem dksX0_ruleOf_0 : cX0_ruleOf.data.toList.drop 0 = dktX0_ruleOf_0 := by decide +kernel
theorem dksX0_ruleOf_1 : cX0_ruleOf.data.toList.drop 24 = dktX0_ruleOf_1 := dk_seg dksX0_ruleOf_0 24 rfl rfl
theorem dksX0_ruleOf_2 : cX0_ruleOf.data.toList.drop 46 = dktX0_ruleOf_2 := dk_seg dksX0_ruleOf_1 22 rfl rfl
theorem dksX0_ruleOf_3 : cX0_ruleOf.data.toList.drop 69 = dktX0_ruleOf_3 := dk_seg dksX0_ruleOf_2 23 rfl rfl
theorem dX0_ruleOf_0 : decode cX0_ruleOf 0 = .ok (.aload_n 0, 1) := dk_42 (dk_at dksX0_ruleOf_0 0 rfl rfl)
theorem dX0_ruleOf_1 : decode cX0_ruleOf 1 = .ok (.getfield 12, 3) := dk_180 0 12 (dk_at dksX0_ruleOf_0 1 rfl rfl)
theorem dX0_ruleOf_4 : decode cX0_ruleOf 4 = .ok (.iload_n 1, 1) := dk_27 (dk_at dksX0_ruleOf_0 4 rfl rfl)
theorem dX0_ruleOf_5 : decode cX0_ruleOf 5 = .ok (.invokevirtual 165, 3) := dk_182 0 165 (dk_at dksX0_ruleOf_0 5 rfl rfl)
theorem dX0_ruleOf_8 : decode cX0_ruleOf 8 = .ok (.ifCond .eq 22, 3) := dk_153 0 22 (dk_at dksX0_ruleOf_0 8 rfl rfl)
theorem dX0_ruleOf_11 : decode cX0_ruleOf 11 = .ok (.iload_n 2, 1) := dk_28 (dk_at dksX0_ruleOf_0 11 rfl rfl)
theorem dX0_ruleOf_12 : decode cX0_ruleOf 12 = .ok (.i2l, 1) := dk_133 (dk_at dksX0_ruleOf_0 12 rfl rfl)
theorem dX0_ruleOf_13 : decode cX0_ruleOf 13 = .ok (.lconst 0, 1) := dk_9 (dk_at dksX0_ruleOf_0 13 rfl rfl)
theorem dX0_ruleOf_14 : decode cX0_ruleOf 14 = .ok (.aload_n 0, 1) := dk_42 (dk_at dksX0_ruleOf_0 14 rfl rfl)
theorem dX0_ruleOf_15 : decode cX0_ruleOf 15 = .ok (.getfield 12, 3) := dk_180 0 12 (dk_at dksX0_ruleOf_0 15 rfl rfl)
theorem dX0_ruleOf_18 : decode cX0_ruleOf 18 = .ok (.getfield 131, 3) := dk_180 0 131 (dk_at dksX0_ruleOf_0 18 rfl rfl)
theorem dX0_ruleOf_21 : decode cX0_ruleOf 21 = .ok (.iconst 1, 1) := dk_4 (dk_at dksX0_ruleOf_0 21 rfl rfl)
theorem dX0_ruleOf_22 : decode cX0_ruleOf 22 = .ok (.iadd, 1) := dk_96 (dk_at dksX0_ruleOf_0 22 rfl rfl)
theorem dX0_ruleOf_23 : decode cX0_ruleOf 23 = .ok (.i2l, 1) := dk_133 (dk_at dksX0_ruleOf_0 23 rfl rfl)
theorem dX0_ruleOf_24 : decode cX0_ruleOf 24 = .ok (.invokestatic 127, 3) := dk_184 0 127 (dk_at dksX0_ruleOf_1 0 rfl rfl)
theorem dX0_ruleOf_27 : decode cX0_ruleOf 27 = .ok (.ifCond .ne 5, 3) := dk_154 0 5 (dk_at dksX0_ruleOf_1 3 rfl rfl)
theorem dX0_ruleOf_30 : decode cX0_ruleOf 30 = .ok (.iconst (-1), 1) := dk_2 (dk_at dksX0_ruleOf_1 6 rfl rfl)
theorem dX0_ruleOf_31 : decode cX0_ruleOf 31 = .ok (.ireturn, 1) := dk_172 (dk_at dksX0_ruleOf_1 7 rfl rfl)
theorem dX0_ruleOf_32 : decode cX0_ruleOf 32 = .ok (.aload_n 0, 1) := dk_42 (dk_at dksX0_ruleOf_1 8 rfl rfl)
theorem dX0_ruleOf_33 : decode cX0_ruleOf 33 = .ok (.getfield 12, 3) := dk_180 0 12 (dk_at dksX0_ruleOf_1 9 rfl rfl)
theorem dX0_ruleOf_36 : decode cX0_ruleOf 36 = .ok (.getfield 172, 3) := dk_180 0 172 (dk_at dksX0_ruleOf_1 12 rfl rfl)
theorem dX0_ruleOf_39 : decode cX0_ruleOf 39 = .ok (.iload_n 1, 1) := dk_27 (dk_at dksX0_ruleOf_1 15 rfl rfl)
theorem dX0_ruleOf_40 : decode cX0_ruleOf 40 = .ok (.aaload, 1) := dk_50 (dk_at dksX0_ruleOf_1 16 rfl rfl)
theorem dX0_ruleOf_41 : decode cX0_ruleOf 41 = .ok (.astore_n 3, 1) := dk_78 (dk_at dksX0_ruleOf_1 17 rfl rfl)
theorem dX0_ruleOf_42 : decode cX0_ruleOf 42 = .ok (.sipush 1000, 3) := dk_17 3 232 (dk_at dksX0_ruleOf_1 18 rfl rfl)
theorem dX0_ruleOf_45 : decode cX0_ruleOf 45 = .ok (.iload_n 2, 1) := dk_28 (dk_at dksX0_ruleOf_1 21 rfl rfl)
theorem dX0_ruleOf_46 : decode cX0_ruleOf 46 = .ok (.ifCond .ne 10, 3) := dk_154 0 10 (dk_at dksX0_ruleOf_2 0 rfl rfl)
theorem dX0_ruleOf_49 : decode cX0_ruleOf 49 = .ok (.aload_n 3, 1) := dk_45 (dk_at dksX0_ruleOf_2 3 rfl rfl)
theorem dX0_ruleOf_50 : decode cX0_ruleOf 50 = .ok (.getfield 215, 3) := dk_180 0 215 (dk_at dksX0_ruleOf_2 4 rfl rfl)
theorem dX0_ruleOf_53 : decode cX0_ruleOf 53 = .ok (.goto 23, 3) := dk_167 0 23 (dk_at dksX0_ruleOf_2 7 rfl rfl)
theorem dX0_ruleOf_56 : decode cX0_ruleOf 56 = .ok (.iload_n 2, 1) := dk_28 (dk_at dksX0_ruleOf_2 10 rfl rfl)
theorem dX0_ruleOf_57 : decode cX0_ruleOf 57 = .ok (.iconst 1, 1) := dk_4 (dk_at dksX0_ruleOf_2 11 rfl rfl)
theorem dX0_ruleOf_58 : decode cX0_ruleOf 58 = .ok (.if_icmp .ne 10, 3) := dk_160 0 10 (dk_at dksX0_ruleOf_2 12 rfl rfl)
theorem dX0_ruleOf_61 : decode cX0_ruleOf 61 = .ok (.aload_n 3, 1) := dk_45 (dk_at dksX0_ruleOf_2 15 rfl rfl)
theorem dX0_ruleOf_62 : decode cX0_ruleOf 62 = .ok (.getfield 181, 3) := dk_180 0 181 (dk_at dksX0_ruleOf_2 16 rfl rfl)
theorem dX0_ruleOf_65 : decode cX0_ruleOf 65 = .ok (.goto 11, 3) := dk_167 0 11 (dk_at dksX0_ruleOf_2 19 rfl rfl)
theorem dX0_ruleOf_68 : decode cX0_ruleOf 68 = .ok (.aload_n 3, 1) := dk_45 (dk_at dksX0_ruleOf_2 22 rfl rfl)
theorem dX0_ruleOf_69 : decode cX0_ruleOf 69 = .ok (.getfield 176, 3) := dk_180 0 176 (dk_at dksX0_ruleOf_3 0 rfl rfl)
theorem dX0_ruleOf_72 : decode cX0_ruleOf 72 = .ok (.iload_n 2, 1) := dk_28 (dk_at dksX0_ruleOf_3 3 rfl rfl)
theorem dX0_ruleOf_73 : decode cX0_ruleOf 73 = .ok (.iconst 2, 1) := dk_5 (dk_at dksX0_ruleOf_3 4 rfl rfl)
theorem dX0_ruleOf_74 : decode cX0_ruleOf 74 = .ok (.isub, 1) := dk_100 (dk_at dksX0_ruleOf_3 5 rfl rfl)
theorem dX0_ruleOf_75 : decode cX0_ruleOf 75 = .ok (.iaload, 1) := dk_46 (dk_at dksX0_ruleOf_3 6 rfl rfl)
theorem dX0_ruleOf_76 : decode cX0_ruleOf 76 = .ok (.iadd, 1) := dk_96 (dk_at dksX0_ruleOf_3 7 rfl rfl)
theorem dX0_ruleOf_77 : decode cX0_ruleOf 77 = .ok (.ireturn, 1) := dk_172 (dk_at dksX0_ruleOf_3 8 rfl rfl)
abbrev cX0_solve : ByteArray := prog_1_method_15_code
def yX0_solve : MethodName := ⟨RX0, "solve", "(I)I"⟩
def dkwX0_solve_1 : List UInt8 := [27, 182, 0, 220, 181, 0, 224, 42, 4, 181, 0, 121, 42, 180, 0, 224, 172]
abbrev dktX0_solve_1 : List UInt8 := dkwX0_solve_1 ++ []
def dkwX0_solve_0 : List UInt8 := [27, 133, 9, 20, 0, 218, 184, 0, 127, 154, 0, 6, 16, 254, 172, 42, 42, 180, 0, 27, 42, 180, 0, 12]
abbrev dktX0_solve_0 : List UInt8 := dkwX0_solve_0 ++ dktX0_solve_1
theorem dksX0_solve_0 : cX0_solve.data.toList.drop 0 = dktX0_solve_0 := by decide +kernel
theorem dksX0_solve_1 : cX0_solve.data.toList.drop 24 = dktX0_solve_1 := dk_seg dksX0_solve_0 24 rfl rfl
theorem dX0_solve_0 : decode cX0_solve 0 = .ok (.iload_n 1, 1) := dk_27 (dk_at dksX0_solve_0 0 rfl rfl)
theorem dX0_solve_1 : decode cX0_solve 1 = .ok (.i2l, 1) := dk_133 (dk_at dksX0_solve_0 1 rfl rfl)
theorem dX0_solve_2 : decode cX0_solve 2 = .ok (.lconst 0, 1) := dk_9 (dk_at dksX0_solve_0 2 rfl rfl)
theorem dX0_solve_3 : decode cX0_solve 3 = .ok (.ldc2_w 218, 3) := dk_20 0 218 (dk_at dksX0_solve_0 3 rfl rfl)
theorem dX0_solve_6 : decode cX0_solve 6 = .ok (.invokestatic 127, 3) := dk_184 0 127 (dk_at dksX0_solve_0 6 rfl rfl)
theorem dX0_solve_9 : decode cX0_solve 9 = .ok (.ifCond .ne 6, 3) := dk_154 0 6 (dk_at dksX0_solve_0 9 rfl rfl)
theorem dX0_solve_12 : decode cX0_solve 12 = .ok (.bipush (-2), 2) := dk_16 254 (dk_at dksX0_solve_0 12 rfl rfl)
theorem dX0_solve_14 : decode cX0_solve 14 = .ok (.ireturn, 1) := dk_172 (dk_at dksX0_solve_0 14 rfl rfl)
theorem dX0_solve_15 : decode cX0_solve 15 = .ok (.aload_n 0, 1) := dk_42 (dk_at dksX0_solve_0 15 rfl rfl)
theorem dX0_solve_16 : decode cX0_solve 16 = .ok (.aload_n 0, 1) := dk_42 (dk_at dksX0_solve_0 16 rfl rfl)
theorem dX0_solve_17 : decode cX0_solve 17 = .ok (.getfield 27, 3) := dk_180 0 27 (dk_at dksX0_solve_0 17 rfl rfl)
theorem dX0_solve_20 : decode cX0_solve 20 = .ok (.aload_n 0, 1) := dk_42 (dk_at dksX0_solve_0 20 rfl rfl)
theorem dX0_solve_21 : decode cX0_solve 21 = .ok (.getfield 12, 3) := dk_180 0 12 (dk_at dksX0_solve_0 21 rfl rfl)
theorem dX0_solve_24 : decode cX0_solve 24 = .ok (.iload_n 1, 1) := dk_27 (dk_at dksX0_solve_1 0 rfl rfl)
theorem dX0_solve_25 : decode cX0_solve 25 = .ok (.invokevirtual 220, 3) := dk_182 0 220 (dk_at dksX0_solve_1 1 rfl rfl)
theorem dX0_solve_28 : decode cX0_solve 28 = .ok (.putfield 224, 3) := dk_181 0 224 (dk_at dksX0_solve_1 4 rfl rfl)
theorem dX0_solve_31 : decode cX0_solve 31 = .ok (.aload_n 0, 1) := dk_42 (dk_at dksX0_solve_1 7 rfl rfl)
theorem dX0_solve_32 : decode cX0_solve 32 = .ok (.iconst 1, 1) := dk_4 (dk_at dksX0_solve_1 8 rfl rfl)
theorem dX0_solve_33 : decode cX0_solve 33 = .ok (.putfield 121, 3) := dk_181 0 121 (dk_at dksX0_solve_1 9 rfl rfl)
theorem dX0_solve_36 : decode cX0_solve 36 = .ok (.aload_n 0, 1) := dk_42 (dk_at dksX0_solve_1 12 rfl rfl)
theorem dX0_solve_37 : decode cX0_solve 37 = .ok (.getfield 224, 3) := dk_180 0 224 (dk_at dksX0_solve_1 13 rfl rfl)
theorem dX0_solve_40 : decode cX0_solve 40 = .ok (.ireturn, 1) := dk_172 (dk_at dksX0_solve_1 16 rfl rfl)
abbrev cX0_entry : ByteArray := prog_1_method_16_code
def yX0_entry : MethodName := ⟨RX0, "entry", "(II)J"⟩
def dkwX0_entry_7 : List UInt8 := [180, 0, 27, 27, 28, 182, 0, 254, 173]
abbrev dktX0_entry_7 : List UInt8 := dkwX0_entry_7 ++ []
def dkwX0_entry_6 : List UInt8 := [27, 46, 133, 167, 0, 29, 28, 29, 160, 0, 15, 42, 180, 0, 27, 180, 0, 251, 27, 47, 167, 0, 12, 42]
abbrev dktX0_entry_6 : List UInt8 := dkwX0_entry_6 ++ dktX0_entry_7
def dkwX0_entry_5 : List UInt8 := [42, 180, 0, 27, 180, 0, 244, 28, 47, 173, 28, 29, 4, 96, 160, 0, 16, 42, 180, 0, 27, 180, 0, 248]
abbrev dktX0_entry_5 : List UInt8 := dkwX0_entry_5 ++ dktX0_entry_6
def dkwX0_entry_4 : List UInt8 := [180, 0, 27, 180, 0, 237, 167, 0, 27, 28, 29, 160, 0, 13, 42, 180, 0, 27, 180, 0, 241, 167, 0, 12]
abbrev dktX0_entry_4 : List UInt8 := dkwX0_entry_4 ++ dktX0_entry_5
def dkwX0_entry_3 : List UInt8 := [42, 180, 0, 27, 180, 0, 234, 28, 46, 133, 173, 27, 2, 160, 0, 45, 28, 29, 4, 96, 160, 0, 13, 42]
abbrev dktX0_entry_3 : List UInt8 := dkwX0_entry_3 ++ dktX0_entry_4
def dkwX0_entry_2 : List UInt8 := [133, 167, 0, 7, 29, 4, 96, 133, 184, 0, 127, 154, 0, 7, 20, 0, 232, 173, 27, 16, 254, 160, 0, 14]
abbrev dktX0_entry_2 : List UInt8 := dkwX0_entry_2 ++ dktX0_entry_3
def dkwX0_entry_1 : List UInt8 := [180, 0, 229, 4, 100, 133, 184, 0, 127, 153, 0, 29, 28, 133, 9, 27, 16, 254, 160, 0, 10, 29, 4, 100]
abbrev dktX0_entry_1 : List UInt8 := dkwX0_entry_1 ++ dktX0_entry_2
def dkwX0_entry_0 : List UInt8 := [42, 180, 0, 12, 180, 0, 131, 62, 42, 180, 0, 121, 153, 0, 50, 27, 133, 20, 0, 227, 42, 180, 0, 27]
abbrev dktX0_entry_0 : List UInt8 := dkwX0_entry_0 ++ dktX0_entry_1
theorem dksX0_entry_0 : cX0_entry.data.toList.drop 0 = dktX0_entry_0 := by decide +kernel
theorem dksX0_entry_1 : cX0_entry.data.toList.drop 24 = dktX0_entry_1 := dk_seg dksX0_entry_0 24 rfl rfl
theorem dksX0_entry_2 : cX0_entry.data.toList.drop 48 = dktX0_entry_2 := dk_seg dksX0_entry_1 24 rfl rfl
theorem dksX0_entry_3 : cX0_entry.data.toList.drop 72 = dktX0_entry_3 := dk_seg dksX0_entry_2 24 rfl rfl
theorem dksX0_entry_4 : cX0_entry.data.toList.drop 96 = dktX0_entry_4 := dk_seg dksX0_entry_3 24 rfl rfl
theorem dksX0_entry_5 : cX0_entry.data.toList.drop 120 = dktX0_entry_5 := dk_seg dksX0_entry_4 24 rfl rfl
theorem dksX0_entry_6 : cX0_entry.data.toList.drop 144 = dktX0_entry_6 := dk_seg dksX0_entry_5 24 rfl rfl
theorem dksX0_entry_7 : cX0_entry.data.toList.drop 168 = dktX0_entry_7 := dk_seg dksX0_entry_6 24 rfl rfl
theorem dX0_entry_0 : decode cX0_entry 0 = .ok (.aload_n 0, 1) := dk_42 (dk_at dksX0_entry_0 0 rfl rfl)
theorem dX0_entry_1 : decode cX0_entry 1 = .ok (.getfield 12, 3) := dk_180 0 12 (dk_at dksX0_entry_0 1 rfl rfl)
theorem dX0_entry_4 : decode cX0_entry 4 = .ok (.getfield 131, 3) := dk_180 0 131 (dk_at dksX0_entry_0 4 rfl rfl)
theorem dX0_entry_7 : decode cX0_entry 7 = .ok (.istore_n 3, 1) := dk_62 (dk_at dksX0_entry_0 7 rfl rfl)
theorem dX0_entry_8 : decode cX0_entry 8 = .ok (.aload_n 0, 1) := dk_42 (dk_at dksX0_entry_0 8 rfl rfl)
theorem dX0_entry_9 : decode cX0_entry 9 = .ok (.getfield 121, 3) := dk_180 0 121 (dk_at dksX0_entry_0 9 rfl rfl)
theorem dX0_entry_12 : decode cX0_entry 12 = .ok (.ifCond .eq 50, 3) := dk_153 0 50 (dk_at dksX0_entry_0 12 rfl rfl)
theorem dX0_entry_15 : decode cX0_entry 15 = .ok (.iload_n 1, 1) := dk_27 (dk_at dksX0_entry_0 15 rfl rfl)
theorem dX0_entry_16 : decode cX0_entry 16 = .ok (.i2l, 1) := dk_133 (dk_at dksX0_entry_0 16 rfl rfl)
theorem dX0_entry_17 : decode cX0_entry 17 = .ok (.ldc2_w 227, 3) := dk_20 0 227 (dk_at dksX0_entry_0 17 rfl rfl)
theorem dX0_entry_20 : decode cX0_entry 20 = .ok (.aload_n 0, 1) := dk_42 (dk_at dksX0_entry_0 20 rfl rfl)
theorem dX0_entry_21 : decode cX0_entry 21 = .ok (.getfield 27, 3) := dk_180 0 27 (dk_at dksX0_entry_0 21 rfl rfl)
theorem dX0_entry_24 : decode cX0_entry 24 = .ok (.getfield 229, 3) := dk_180 0 229 (dk_at dksX0_entry_1 0 rfl rfl)
theorem dX0_entry_27 : decode cX0_entry 27 = .ok (.iconst 1, 1) := dk_4 (dk_at dksX0_entry_1 3 rfl rfl)
theorem dX0_entry_28 : decode cX0_entry 28 = .ok (.isub, 1) := dk_100 (dk_at dksX0_entry_1 4 rfl rfl)
theorem dX0_entry_29 : decode cX0_entry 29 = .ok (.i2l, 1) := dk_133 (dk_at dksX0_entry_1 5 rfl rfl)
theorem dX0_entry_30 : decode cX0_entry 30 = .ok (.invokestatic 127, 3) := dk_184 0 127 (dk_at dksX0_entry_1 6 rfl rfl)
theorem dX0_entry_33 : decode cX0_entry 33 = .ok (.ifCond .eq 29, 3) := dk_153 0 29 (dk_at dksX0_entry_1 9 rfl rfl)
theorem dX0_entry_36 : decode cX0_entry 36 = .ok (.iload_n 2, 1) := dk_28 (dk_at dksX0_entry_1 12 rfl rfl)
theorem dX0_entry_37 : decode cX0_entry 37 = .ok (.i2l, 1) := dk_133 (dk_at dksX0_entry_1 13 rfl rfl)
theorem dX0_entry_38 : decode cX0_entry 38 = .ok (.lconst 0, 1) := dk_9 (dk_at dksX0_entry_1 14 rfl rfl)
theorem dX0_entry_39 : decode cX0_entry 39 = .ok (.iload_n 1, 1) := dk_27 (dk_at dksX0_entry_1 15 rfl rfl)
theorem dX0_entry_40 : decode cX0_entry 40 = .ok (.bipush (-2), 2) := dk_16 254 (dk_at dksX0_entry_1 16 rfl rfl)
theorem dX0_entry_42 : decode cX0_entry 42 = .ok (.if_icmp .ne 10, 3) := dk_160 0 10 (dk_at dksX0_entry_1 18 rfl rfl)
theorem dX0_entry_45 : decode cX0_entry 45 = .ok (.iload_n 3, 1) := dk_29 (dk_at dksX0_entry_1 21 rfl rfl)
theorem dX0_entry_46 : decode cX0_entry 46 = .ok (.iconst 1, 1) := dk_4 (dk_at dksX0_entry_1 22 rfl rfl)
theorem dX0_entry_47 : decode cX0_entry 47 = .ok (.isub, 1) := dk_100 (dk_at dksX0_entry_1 23 rfl rfl)
theorem dX0_entry_48 : decode cX0_entry 48 = .ok (.i2l, 1) := dk_133 (dk_at dksX0_entry_2 0 rfl rfl)
theorem dX0_entry_49 : decode cX0_entry 49 = .ok (.goto 7, 3) := dk_167 0 7 (dk_at dksX0_entry_2 1 rfl rfl)
theorem dX0_entry_52 : decode cX0_entry 52 = .ok (.iload_n 3, 1) := dk_29 (dk_at dksX0_entry_2 4 rfl rfl)
theorem dX0_entry_53 : decode cX0_entry 53 = .ok (.iconst 1, 1) := dk_4 (dk_at dksX0_entry_2 5 rfl rfl)
theorem dX0_entry_54 : decode cX0_entry 54 = .ok (.iadd, 1) := dk_96 (dk_at dksX0_entry_2 6 rfl rfl)
theorem dX0_entry_55 : decode cX0_entry 55 = .ok (.i2l, 1) := dk_133 (dk_at dksX0_entry_2 7 rfl rfl)
theorem dX0_entry_56 : decode cX0_entry 56 = .ok (.invokestatic 127, 3) := dk_184 0 127 (dk_at dksX0_entry_2 8 rfl rfl)
theorem dX0_entry_59 : decode cX0_entry 59 = .ok (.ifCond .ne 7, 3) := dk_154 0 7 (dk_at dksX0_entry_2 11 rfl rfl)
theorem dX0_entry_62 : decode cX0_entry 62 = .ok (.ldc2_w 232, 3) := dk_20 0 232 (dk_at dksX0_entry_2 14 rfl rfl)
theorem dX0_entry_65 : decode cX0_entry 65 = .ok (.lreturn, 1) := dk_173 (dk_at dksX0_entry_2 17 rfl rfl)
theorem dX0_entry_66 : decode cX0_entry 66 = .ok (.iload_n 1, 1) := dk_27 (dk_at dksX0_entry_2 18 rfl rfl)
theorem dX0_entry_67 : decode cX0_entry 67 = .ok (.bipush (-2), 2) := dk_16 254 (dk_at dksX0_entry_2 19 rfl rfl)
theorem dX0_entry_69 : decode cX0_entry 69 = .ok (.if_icmp .ne 14, 3) := dk_160 0 14 (dk_at dksX0_entry_2 21 rfl rfl)
theorem dX0_entry_72 : decode cX0_entry 72 = .ok (.aload_n 0, 1) := dk_42 (dk_at dksX0_entry_3 0 rfl rfl)
theorem dX0_entry_73 : decode cX0_entry 73 = .ok (.getfield 27, 3) := dk_180 0 27 (dk_at dksX0_entry_3 1 rfl rfl)
theorem dX0_entry_76 : decode cX0_entry 76 = .ok (.getfield 234, 3) := dk_180 0 234 (dk_at dksX0_entry_3 4 rfl rfl)
theorem dX0_entry_79 : decode cX0_entry 79 = .ok (.iload_n 2, 1) := dk_28 (dk_at dksX0_entry_3 7 rfl rfl)
theorem dX0_entry_80 : decode cX0_entry 80 = .ok (.iaload, 1) := dk_46 (dk_at dksX0_entry_3 8 rfl rfl)
theorem dX0_entry_81 : decode cX0_entry 81 = .ok (.i2l, 1) := dk_133 (dk_at dksX0_entry_3 9 rfl rfl)
theorem dX0_entry_82 : decode cX0_entry 82 = .ok (.lreturn, 1) := dk_173 (dk_at dksX0_entry_3 10 rfl rfl)
theorem dX0_entry_83 : decode cX0_entry 83 = .ok (.iload_n 1, 1) := dk_27 (dk_at dksX0_entry_3 11 rfl rfl)
theorem dX0_entry_84 : decode cX0_entry 84 = .ok (.iconst (-1), 1) := dk_2 (dk_at dksX0_entry_3 12 rfl rfl)
theorem dX0_entry_85 : decode cX0_entry 85 = .ok (.if_icmp .ne 45, 3) := dk_160 0 45 (dk_at dksX0_entry_3 13 rfl rfl)
theorem dX0_entry_88 : decode cX0_entry 88 = .ok (.iload_n 2, 1) := dk_28 (dk_at dksX0_entry_3 16 rfl rfl)
theorem dX0_entry_89 : decode cX0_entry 89 = .ok (.iload_n 3, 1) := dk_29 (dk_at dksX0_entry_3 17 rfl rfl)
theorem dX0_entry_90 : decode cX0_entry 90 = .ok (.iconst 1, 1) := dk_4 (dk_at dksX0_entry_3 18 rfl rfl)
theorem dX0_entry_91 : decode cX0_entry 91 = .ok (.iadd, 1) := dk_96 (dk_at dksX0_entry_3 19 rfl rfl)
theorem dX0_entry_92 : decode cX0_entry 92 = .ok (.if_icmp .ne 13, 3) := dk_160 0 13 (dk_at dksX0_entry_3 20 rfl rfl)
theorem dX0_entry_95 : decode cX0_entry 95 = .ok (.aload_n 0, 1) := dk_42 (dk_at dksX0_entry_3 23 rfl rfl)
theorem dX0_entry_96 : decode cX0_entry 96 = .ok (.getfield 27, 3) := dk_180 0 27 (dk_at dksX0_entry_4 0 rfl rfl)
theorem dX0_entry_99 : decode cX0_entry 99 = .ok (.getfield 237, 3) := dk_180 0 237 (dk_at dksX0_entry_4 3 rfl rfl)
theorem dX0_entry_102 : decode cX0_entry 102 = .ok (.goto 27, 3) := dk_167 0 27 (dk_at dksX0_entry_4 6 rfl rfl)
theorem dX0_entry_105 : decode cX0_entry 105 = .ok (.iload_n 2, 1) := dk_28 (dk_at dksX0_entry_4 9 rfl rfl)
theorem dX0_entry_106 : decode cX0_entry 106 = .ok (.iload_n 3, 1) := dk_29 (dk_at dksX0_entry_4 10 rfl rfl)
theorem dX0_entry_107 : decode cX0_entry 107 = .ok (.if_icmp .ne 13, 3) := dk_160 0 13 (dk_at dksX0_entry_4 11 rfl rfl)
theorem dX0_entry_110 : decode cX0_entry 110 = .ok (.aload_n 0, 1) := dk_42 (dk_at dksX0_entry_4 14 rfl rfl)
theorem dX0_entry_111 : decode cX0_entry 111 = .ok (.getfield 27, 3) := dk_180 0 27 (dk_at dksX0_entry_4 15 rfl rfl)
theorem dX0_entry_114 : decode cX0_entry 114 = .ok (.getfield 241, 3) := dk_180 0 241 (dk_at dksX0_entry_4 18 rfl rfl)
theorem dX0_entry_117 : decode cX0_entry 117 = .ok (.goto 12, 3) := dk_167 0 12 (dk_at dksX0_entry_4 21 rfl rfl)
theorem dX0_entry_120 : decode cX0_entry 120 = .ok (.aload_n 0, 1) := dk_42 (dk_at dksX0_entry_5 0 rfl rfl)
theorem dX0_entry_121 : decode cX0_entry 121 = .ok (.getfield 27, 3) := dk_180 0 27 (dk_at dksX0_entry_5 1 rfl rfl)
theorem dX0_entry_124 : decode cX0_entry 124 = .ok (.getfield 244, 3) := dk_180 0 244 (dk_at dksX0_entry_5 4 rfl rfl)
theorem dX0_entry_127 : decode cX0_entry 127 = .ok (.iload_n 2, 1) := dk_28 (dk_at dksX0_entry_5 7 rfl rfl)
theorem dX0_entry_128 : decode cX0_entry 128 = .ok (.laload, 1) := dk_47 (dk_at dksX0_entry_5 8 rfl rfl)
theorem dX0_entry_129 : decode cX0_entry 129 = .ok (.lreturn, 1) := dk_173 (dk_at dksX0_entry_5 9 rfl rfl)
theorem dX0_entry_130 : decode cX0_entry 130 = .ok (.iload_n 2, 1) := dk_28 (dk_at dksX0_entry_5 10 rfl rfl)
theorem dX0_entry_131 : decode cX0_entry 131 = .ok (.iload_n 3, 1) := dk_29 (dk_at dksX0_entry_5 11 rfl rfl)
theorem dX0_entry_132 : decode cX0_entry 132 = .ok (.iconst 1, 1) := dk_4 (dk_at dksX0_entry_5 12 rfl rfl)
theorem dX0_entry_133 : decode cX0_entry 133 = .ok (.iadd, 1) := dk_96 (dk_at dksX0_entry_5 13 rfl rfl)
theorem dX0_entry_134 : decode cX0_entry 134 = .ok (.if_icmp .ne 16, 3) := dk_160 0 16 (dk_at dksX0_entry_5 14 rfl rfl)
theorem dX0_entry_137 : decode cX0_entry 137 = .ok (.aload_n 0, 1) := dk_42 (dk_at dksX0_entry_5 17 rfl rfl)
theorem dX0_entry_138 : decode cX0_entry 138 = .ok (.getfield 27, 3) := dk_180 0 27 (dk_at dksX0_entry_5 18 rfl rfl)
theorem dX0_entry_141 : decode cX0_entry 141 = .ok (.getfield 248, 3) := dk_180 0 248 (dk_at dksX0_entry_5 21 rfl rfl)
theorem dX0_entry_144 : decode cX0_entry 144 = .ok (.iload_n 1, 1) := dk_27 (dk_at dksX0_entry_6 0 rfl rfl)
theorem dX0_entry_145 : decode cX0_entry 145 = .ok (.iaload, 1) := dk_46 (dk_at dksX0_entry_6 1 rfl rfl)
theorem dX0_entry_146 : decode cX0_entry 146 = .ok (.i2l, 1) := dk_133 (dk_at dksX0_entry_6 2 rfl rfl)
theorem dX0_entry_147 : decode cX0_entry 147 = .ok (.goto 29, 3) := dk_167 0 29 (dk_at dksX0_entry_6 3 rfl rfl)
theorem dX0_entry_150 : decode cX0_entry 150 = .ok (.iload_n 2, 1) := dk_28 (dk_at dksX0_entry_6 6 rfl rfl)
theorem dX0_entry_151 : decode cX0_entry 151 = .ok (.iload_n 3, 1) := dk_29 (dk_at dksX0_entry_6 7 rfl rfl)
theorem dX0_entry_152 : decode cX0_entry 152 = .ok (.if_icmp .ne 15, 3) := dk_160 0 15 (dk_at dksX0_entry_6 8 rfl rfl)
theorem dX0_entry_155 : decode cX0_entry 155 = .ok (.aload_n 0, 1) := dk_42 (dk_at dksX0_entry_6 11 rfl rfl)
theorem dX0_entry_156 : decode cX0_entry 156 = .ok (.getfield 27, 3) := dk_180 0 27 (dk_at dksX0_entry_6 12 rfl rfl)
theorem dX0_entry_159 : decode cX0_entry 159 = .ok (.getfield 251, 3) := dk_180 0 251 (dk_at dksX0_entry_6 15 rfl rfl)
theorem dX0_entry_162 : decode cX0_entry 162 = .ok (.iload_n 1, 1) := dk_27 (dk_at dksX0_entry_6 18 rfl rfl)
theorem dX0_entry_163 : decode cX0_entry 163 = .ok (.laload, 1) := dk_47 (dk_at dksX0_entry_6 19 rfl rfl)
theorem dX0_entry_164 : decode cX0_entry 164 = .ok (.goto 12, 3) := dk_167 0 12 (dk_at dksX0_entry_6 20 rfl rfl)
theorem dX0_entry_167 : decode cX0_entry 167 = .ok (.aload_n 0, 1) := dk_42 (dk_at dksX0_entry_6 23 rfl rfl)
theorem dX0_entry_168 : decode cX0_entry 168 = .ok (.getfield 27, 3) := dk_180 0 27 (dk_at dksX0_entry_7 0 rfl rfl)
theorem dX0_entry_171 : decode cX0_entry 171 = .ok (.iload_n 1, 1) := dk_27 (dk_at dksX0_entry_7 3 rfl rfl)
theorem dX0_entry_172 : decode cX0_entry 172 = .ok (.iload_n 2, 1) := dk_28 (dk_at dksX0_entry_7 4 rfl rfl)
theorem dX0_entry_173 : decode cX0_entry 173 = .ok (.invokevirtual 254, 3) := dk_182 0 254 (dk_at dksX0_entry_7 5 rfl rfl)
theorem dX0_entry_176 : decode cX0_entry 176 = .ok (.lreturn, 1) := dk_173 (dk_at dksX0_entry_7 8 rfl rfl)
abbrev cX0_amount : ByteArray := prog_1_method_19_code
def yX0_amount : MethodName := ⟨RX0, "amount", "(II)J"⟩
def dkwX0_amount_2 : List UInt8 := [167, 0, 6, 20, 0, 232, 173]
abbrev dktX0_amount_2 : List UInt8 := dkwX0_amount_2 ++ []
def dkwX0_amount_1 : List UInt8 := [153, 0, 25, 42, 180, 0, 27, 27, 182, 1, 11, 42, 180, 0, 27, 180, 0, 237, 28, 184, 1, 15]
abbrev dktX0_amount_1 : List UInt8 := dkwX0_amount_1 ++ dktX0_amount_2
def dkwX0_amount_0 : List UInt8 := [42, 180, 0, 121, 153, 0, 43, 42, 180, 0, 12, 27, 182, 0, 145, 153, 0, 32, 28, 184, 1, 8]
abbrev dktX0_amount_0 : List UInt8 := dkwX0_amount_0 ++ dktX0_amount_1
theorem dksX0_amount_0 : cX0_amount.data.toList.drop 0 = dktX0_amount_0 := by decide +kernel
theorem dksX0_amount_1 : cX0_amount.data.toList.drop 22 = dktX0_amount_1 := dk_seg dksX0_amount_0 22 rfl rfl
theorem dksX0_amount_2 : cX0_amount.data.toList.drop 44 = dktX0_amount_2 := dk_seg dksX0_amount_1 22 rfl rfl
theorem dX0_amount_0 : decode cX0_amount 0 = .ok (.aload_n 0, 1) := dk_42 (dk_at dksX0_amount_0 0 rfl rfl)
theorem dX0_amount_1 : decode cX0_amount 1 = .ok (.getfield 121, 3) := dk_180 0 121 (dk_at dksX0_amount_0 1 rfl rfl)
theorem dX0_amount_4 : decode cX0_amount 4 = .ok (.ifCond .eq 43, 3) := dk_153 0 43 (dk_at dksX0_amount_0 4 rfl rfl)
theorem dX0_amount_7 : decode cX0_amount 7 = .ok (.aload_n 0, 1) := dk_42 (dk_at dksX0_amount_0 7 rfl rfl)
theorem dX0_amount_8 : decode cX0_amount 8 = .ok (.getfield 12, 3) := dk_180 0 12 (dk_at dksX0_amount_0 8 rfl rfl)
theorem dX0_amount_11 : decode cX0_amount 11 = .ok (.iload_n 1, 1) := dk_27 (dk_at dksX0_amount_0 11 rfl rfl)
theorem dX0_amount_12 : decode cX0_amount 12 = .ok (.invokevirtual 145, 3) := dk_182 0 145 (dk_at dksX0_amount_0 12 rfl rfl)
theorem dX0_amount_15 : decode cX0_amount 15 = .ok (.ifCond .eq 32, 3) := dk_153 0 32 (dk_at dksX0_amount_0 15 rfl rfl)
theorem dX0_amount_18 : decode cX0_amount 18 = .ok (.iload_n 2, 1) := dk_28 (dk_at dksX0_amount_0 18 rfl rfl)
theorem dX0_amount_19 : decode cX0_amount 19 = .ok (.invokestatic 264, 3) := dk_184 1 8 (dk_at dksX0_amount_0 19 rfl rfl)
theorem dX0_amount_22 : decode cX0_amount 22 = .ok (.ifCond .eq 25, 3) := dk_153 0 25 (dk_at dksX0_amount_1 0 rfl rfl)
theorem dX0_amount_25 : decode cX0_amount 25 = .ok (.aload_n 0, 1) := dk_42 (dk_at dksX0_amount_1 3 rfl rfl)
theorem dX0_amount_26 : decode cX0_amount 26 = .ok (.getfield 27, 3) := dk_180 0 27 (dk_at dksX0_amount_1 4 rfl rfl)
theorem dX0_amount_29 : decode cX0_amount 29 = .ok (.iload_n 1, 1) := dk_27 (dk_at dksX0_amount_1 7 rfl rfl)
theorem dX0_amount_30 : decode cX0_amount 30 = .ok (.invokevirtual 267, 3) := dk_182 1 11 (dk_at dksX0_amount_1 8 rfl rfl)
theorem dX0_amount_33 : decode cX0_amount 33 = .ok (.aload_n 0, 1) := dk_42 (dk_at dksX0_amount_1 11 rfl rfl)
theorem dX0_amount_34 : decode cX0_amount 34 = .ok (.getfield 27, 3) := dk_180 0 27 (dk_at dksX0_amount_1 12 rfl rfl)
theorem dX0_amount_37 : decode cX0_amount 37 = .ok (.getfield 237, 3) := dk_180 0 237 (dk_at dksX0_amount_1 15 rfl rfl)
theorem dX0_amount_40 : decode cX0_amount 40 = .ok (.iload_n 2, 1) := dk_28 (dk_at dksX0_amount_1 18 rfl rfl)
theorem dX0_amount_41 : decode cX0_amount 41 = .ok (.invokestatic 271, 3) := dk_184 1 15 (dk_at dksX0_amount_1 19 rfl rfl)
theorem dX0_amount_44 : decode cX0_amount 44 = .ok (.goto 6, 3) := dk_167 0 6 (dk_at dksX0_amount_2 0 rfl rfl)
theorem dX0_amount_47 : decode cX0_amount 47 = .ok (.ldc2_w 232, 3) := dk_20 0 232 (dk_at dksX0_amount_2 3 rfl rfl)
theorem dX0_amount_50 : decode cX0_amount 50 = .ok (.lreturn, 1) := dk_173 (dk_at dksX0_amount_2 6 rfl rfl)
abbrev cX0_isPart : ByteArray := prog_1_method_17_code
def yX0_isPart : MethodName := ⟨RX0, "isPart", "(I)Z"⟩
def dkwX0_isPart_0 : List UInt8 := [26, 133, 9, 10, 184, 0, 127, 172]
abbrev dktX0_isPart_0 : List UInt8 := dkwX0_isPart_0 ++ []
theorem dksX0_isPart_0 : cX0_isPart.data.toList.drop 0 = dktX0_isPart_0 := by decide +kernel
theorem dX0_isPart_0 : decode cX0_isPart 0 = .ok (.iload_n 0, 1) := dk_26 (dk_at dksX0_isPart_0 0 rfl rfl)
theorem dX0_isPart_1 : decode cX0_isPart 1 = .ok (.i2l, 1) := dk_133 (dk_at dksX0_isPart_0 1 rfl rfl)
theorem dX0_isPart_2 : decode cX0_isPart 2 = .ok (.lconst 0, 1) := dk_9 (dk_at dksX0_isPart_0 2 rfl rfl)
theorem dX0_isPart_3 : decode cX0_isPart 3 = .ok (.lconst 1, 1) := dk_10 (dk_at dksX0_isPart_0 3 rfl rfl)
theorem dX0_isPart_4 : decode cX0_isPart 4 = .ok (.invokestatic 127, 3) := dk_184 0 127 (dk_at dksX0_isPart_0 4 rfl rfl)
theorem dX0_isPart_7 : decode cX0_isPart 7 = .ok (.ireturn, 1) := dk_172 (dk_at dksX0_isPart_0 7 rfl rfl)
abbrev cX0_share : ByteArray := prog_1_method_18_code
def yX0_share : MethodName := ⟨RX0, "share", "(JJI)J"⟩
def dkwX0_share_1 : List UInt8 := [22, 5, 109, 173]
abbrev dktX0_share_1 : List UInt8 := dkwX0_share_1 ++ []
def dkwX0_share_0 : List UInt8 := [30, 184, 1, 2, 32, 184, 0, 117, 55, 5, 21, 4, 154, 0, 10, 30, 22, 5, 109, 167, 0, 7, 32]
abbrev dktX0_share_0 : List UInt8 := dkwX0_share_0 ++ dktX0_share_1
theorem dksX0_share_0 : cX0_share.data.toList.drop 0 = dktX0_share_0 := by decide +kernel
theorem dksX0_share_1 : cX0_share.data.toList.drop 23 = dktX0_share_1 := dk_seg dksX0_share_0 23 rfl rfl
theorem dX0_share_0 : decode cX0_share 0 = .ok (.lload_n 0, 1) := dk_30 (dk_at dksX0_share_0 0 rfl rfl)
theorem dX0_share_1 : decode cX0_share 1 = .ok (.invokestatic 258, 3) := dk_184 1 2 (dk_at dksX0_share_0 1 rfl rfl)
theorem dX0_share_4 : decode cX0_share 4 = .ok (.lload_n 2, 1) := dk_32 (dk_at dksX0_share_0 4 rfl rfl)
theorem dX0_share_5 : decode cX0_share 5 = .ok (.invokestatic 117, 3) := dk_184 0 117 (dk_at dksX0_share_0 5 rfl rfl)
theorem dX0_share_8 : decode cX0_share 8 = .ok (.lstore 5, 2) := dk_55 5 (dk_at dksX0_share_0 8 rfl rfl)
theorem dX0_share_10 : decode cX0_share 10 = .ok (.iload 4, 2) := dk_21 4 (dk_at dksX0_share_0 10 rfl rfl)
theorem dX0_share_12 : decode cX0_share 12 = .ok (.ifCond .ne 10, 3) := dk_154 0 10 (dk_at dksX0_share_0 12 rfl rfl)
theorem dX0_share_15 : decode cX0_share 15 = .ok (.lload_n 0, 1) := dk_30 (dk_at dksX0_share_0 15 rfl rfl)
theorem dX0_share_16 : decode cX0_share 16 = .ok (.lload 5, 2) := dk_22 5 (dk_at dksX0_share_0 16 rfl rfl)
theorem dX0_share_18 : decode cX0_share 18 = .ok (.ldiv, 1) := dk_109 (dk_at dksX0_share_0 18 rfl rfl)
theorem dX0_share_19 : decode cX0_share 19 = .ok (.goto 7, 3) := dk_167 0 7 (dk_at dksX0_share_0 19 rfl rfl)
theorem dX0_share_22 : decode cX0_share 22 = .ok (.lload_n 2, 1) := dk_32 (dk_at dksX0_share_0 22 rfl rfl)
theorem dX0_share_23 : decode cX0_share 23 = .ok (.lload 5, 2) := dk_22 5 (dk_at dksX0_share_1 0 rfl rfl)
theorem dX0_share_25 : decode cX0_share 25 = .ok (.ldiv, 1) := dk_109 (dk_at dksX0_share_1 2 rfl rfl)
theorem dX0_share_26 : decode cX0_share 26 = .ok (.lreturn, 1) := dk_173 (dk_at dksX0_share_1 3 rfl rfl)
abbrev cX0_divisor : ByteArray := prog_1_method_3_code
def yX0_divisor : MethodName := ⟨RX0, "divisor", "(JJ)J"⟩
def dkwX0_divisor_1 : List UInt8 := [22, 8, 55, 6, 167, 255, 234, 22, 4, 173]
abbrev dktX0_divisor_1 : List UInt8 := dkwX0_divisor_1 ++ []
def dkwX0_divisor_0 : List UInt8 := [30, 55, 4, 32, 55, 6, 22, 6, 9, 148, 153, 0, 21, 22, 4, 22, 6, 113, 55, 8, 22, 6, 55, 4]
abbrev dktX0_divisor_0 : List UInt8 := dkwX0_divisor_0 ++ dktX0_divisor_1
theorem dksX0_divisor_0 : cX0_divisor.data.toList.drop 0 = dktX0_divisor_0 := by decide +kernel
theorem dksX0_divisor_1 : cX0_divisor.data.toList.drop 24 = dktX0_divisor_1 := dk_seg dksX0_divisor_0 24 rfl rfl
theorem dX0_divisor_0 : decode cX0_divisor 0 = .ok (.lload_n 0, 1) := dk_30 (dk_at dksX0_divisor_0 0 rfl rfl)
theorem dX0_divisor_1 : decode cX0_divisor 1 = .ok (.lstore 4, 2) := dk_55 4 (dk_at dksX0_divisor_0 1 rfl rfl)
theorem dX0_divisor_3 : decode cX0_divisor 3 = .ok (.lload_n 2, 1) := dk_32 (dk_at dksX0_divisor_0 3 rfl rfl)
theorem dX0_divisor_4 : decode cX0_divisor 4 = .ok (.lstore 6, 2) := dk_55 6 (dk_at dksX0_divisor_0 4 rfl rfl)
theorem dX0_divisor_6 : decode cX0_divisor 6 = .ok (.lload 6, 2) := dk_22 6 (dk_at dksX0_divisor_0 6 rfl rfl)
theorem dX0_divisor_8 : decode cX0_divisor 8 = .ok (.lconst 0, 1) := dk_9 (dk_at dksX0_divisor_0 8 rfl rfl)
theorem dX0_divisor_9 : decode cX0_divisor 9 = .ok (.lcmp, 1) := dk_148 (dk_at dksX0_divisor_0 9 rfl rfl)
theorem dX0_divisor_10 : decode cX0_divisor 10 = .ok (.ifCond .eq 21, 3) := dk_153 0 21 (dk_at dksX0_divisor_0 10 rfl rfl)
theorem dX0_divisor_13 : decode cX0_divisor 13 = .ok (.lload 4, 2) := dk_22 4 (dk_at dksX0_divisor_0 13 rfl rfl)
theorem dX0_divisor_15 : decode cX0_divisor 15 = .ok (.lload 6, 2) := dk_22 6 (dk_at dksX0_divisor_0 15 rfl rfl)
theorem dX0_divisor_17 : decode cX0_divisor 17 = .ok (.lrem, 1) := dk_113 (dk_at dksX0_divisor_0 17 rfl rfl)
theorem dX0_divisor_18 : decode cX0_divisor 18 = .ok (.lstore 8, 2) := dk_55 8 (dk_at dksX0_divisor_0 18 rfl rfl)
theorem dX0_divisor_20 : decode cX0_divisor 20 = .ok (.lload 6, 2) := dk_22 6 (dk_at dksX0_divisor_0 20 rfl rfl)
theorem dX0_divisor_22 : decode cX0_divisor 22 = .ok (.lstore 4, 2) := dk_55 4 (dk_at dksX0_divisor_0 22 rfl rfl)
theorem dX0_divisor_24 : decode cX0_divisor 24 = .ok (.lload 8, 2) := dk_22 8 (dk_at dksX0_divisor_1 0 rfl rfl)
theorem dX0_divisor_26 : decode cX0_divisor 26 = .ok (.lstore 6, 2) := dk_55 6 (dk_at dksX0_divisor_1 2 rfl rfl)
theorem dX0_divisor_28 : decode cX0_divisor 28 = .ok (.goto (-22), 3) := dk_167 255 234 (dk_at dksX0_divisor_1 4 rfl rfl)
theorem dX0_divisor_31 : decode cX0_divisor 31 = .ok (.lload 4, 2) := dk_22 4 (dk_at dksX0_divisor_1 7 rfl rfl)
theorem dX0_divisor_33 : decode cX0_divisor 33 = .ok (.lreturn, 1) := dk_173 (dk_at dksX0_divisor_1 9 rfl rfl)
abbrev cX0_value : ByteArray := prog_1_method_20_code
def yX0_value : MethodName := ⟨RX0, "value", "(I)J"⟩
def dkwX0_value_1 : List UInt8 := [180, 0, 27, 180, 0, 237, 27, 184, 1, 15, 167, 0, 6, 20, 0, 232, 173]
abbrev dktX0_value_1 : List UInt8 := dkwX0_value_1 ++ []
def dkwX0_value_0 : List UInt8 := [42, 180, 0, 121, 153, 0, 31, 27, 184, 1, 8, 153, 0, 24, 42, 180, 0, 27, 180, 0, 241, 42]
abbrev dktX0_value_0 : List UInt8 := dkwX0_value_0 ++ dktX0_value_1
theorem dksX0_value_0 : cX0_value.data.toList.drop 0 = dktX0_value_0 := by decide +kernel
theorem dksX0_value_1 : cX0_value.data.toList.drop 22 = dktX0_value_1 := dk_seg dksX0_value_0 22 rfl rfl
theorem dX0_value_0 : decode cX0_value 0 = .ok (.aload_n 0, 1) := dk_42 (dk_at dksX0_value_0 0 rfl rfl)
theorem dX0_value_1 : decode cX0_value 1 = .ok (.getfield 121, 3) := dk_180 0 121 (dk_at dksX0_value_0 1 rfl rfl)
theorem dX0_value_4 : decode cX0_value 4 = .ok (.ifCond .eq 31, 3) := dk_153 0 31 (dk_at dksX0_value_0 4 rfl rfl)
theorem dX0_value_7 : decode cX0_value 7 = .ok (.iload_n 1, 1) := dk_27 (dk_at dksX0_value_0 7 rfl rfl)
theorem dX0_value_8 : decode cX0_value 8 = .ok (.invokestatic 264, 3) := dk_184 1 8 (dk_at dksX0_value_0 8 rfl rfl)
theorem dX0_value_11 : decode cX0_value 11 = .ok (.ifCond .eq 24, 3) := dk_153 0 24 (dk_at dksX0_value_0 11 rfl rfl)
theorem dX0_value_14 : decode cX0_value 14 = .ok (.aload_n 0, 1) := dk_42 (dk_at dksX0_value_0 14 rfl rfl)
theorem dX0_value_15 : decode cX0_value 15 = .ok (.getfield 27, 3) := dk_180 0 27 (dk_at dksX0_value_0 15 rfl rfl)
theorem dX0_value_18 : decode cX0_value 18 = .ok (.getfield 241, 3) := dk_180 0 241 (dk_at dksX0_value_0 18 rfl rfl)
theorem dX0_value_21 : decode cX0_value 21 = .ok (.aload_n 0, 1) := dk_42 (dk_at dksX0_value_0 21 rfl rfl)
theorem dX0_value_22 : decode cX0_value 22 = .ok (.getfield 27, 3) := dk_180 0 27 (dk_at dksX0_value_1 0 rfl rfl)
theorem dX0_value_25 : decode cX0_value 25 = .ok (.getfield 237, 3) := dk_180 0 237 (dk_at dksX0_value_1 3 rfl rfl)
theorem dX0_value_28 : decode cX0_value 28 = .ok (.iload_n 1, 1) := dk_27 (dk_at dksX0_value_1 6 rfl rfl)
theorem dX0_value_29 : decode cX0_value 29 = .ok (.invokestatic 271, 3) := dk_184 1 15 (dk_at dksX0_value_1 7 rfl rfl)
theorem dX0_value_32 : decode cX0_value 32 = .ok (.goto 6, 3) := dk_167 0 6 (dk_at dksX0_value_1 10 rfl rfl)
theorem dX0_value_35 : decode cX0_value 35 = .ok (.ldc2_w 232, 3) := dk_20 0 232 (dk_at dksX0_value_1 13 rfl rfl)
theorem dX0_value_38 : decode cX0_value 38 = .ok (.lreturn, 1) := dk_173 (dk_at dksX0_value_1 16 rfl rfl)
abbrev cX0_price : ByteArray := prog_1_method_21_code
def yX0_price : MethodName := ⟨RX0, "price", "(II)J"⟩
def dkwX0_price_2 : List UInt8 := [184, 1, 15, 167, 0, 6, 20, 0, 232, 173]
abbrev dktX0_price_2 : List UInt8 := dkwX0_price_2 ++ []
def dkwX0_price_1 : List UInt8 := [153, 0, 28, 42, 180, 0, 27, 16, 10, 27, 96, 182, 1, 19, 42, 180, 0, 27, 180, 0, 237, 28]
abbrev dktX0_price_1 : List UInt8 := dkwX0_price_1 ++ dktX0_price_2
def dkwX0_price_0 : List UInt8 := [42, 180, 0, 121, 153, 0, 46, 42, 180, 0, 12, 27, 182, 0, 165, 153, 0, 35, 28, 184, 1, 8]
abbrev dktX0_price_0 : List UInt8 := dkwX0_price_0 ++ dktX0_price_1
theorem dksX0_price_0 : cX0_price.data.toList.drop 0 = dktX0_price_0 := by decide +kernel
theorem dksX0_price_1 : cX0_price.data.toList.drop 22 = dktX0_price_1 := dk_seg dksX0_price_0 22 rfl rfl
theorem dksX0_price_2 : cX0_price.data.toList.drop 44 = dktX0_price_2 := dk_seg dksX0_price_1 22 rfl rfl
theorem dX0_price_0 : decode cX0_price 0 = .ok (.aload_n 0, 1) := dk_42 (dk_at dksX0_price_0 0 rfl rfl)
theorem dX0_price_1 : decode cX0_price 1 = .ok (.getfield 121, 3) := dk_180 0 121 (dk_at dksX0_price_0 1 rfl rfl)
theorem dX0_price_4 : decode cX0_price 4 = .ok (.ifCond .eq 46, 3) := dk_153 0 46 (dk_at dksX0_price_0 4 rfl rfl)
theorem dX0_price_7 : decode cX0_price 7 = .ok (.aload_n 0, 1) := dk_42 (dk_at dksX0_price_0 7 rfl rfl)
theorem dX0_price_8 : decode cX0_price 8 = .ok (.getfield 12, 3) := dk_180 0 12 (dk_at dksX0_price_0 8 rfl rfl)
theorem dX0_price_11 : decode cX0_price 11 = .ok (.iload_n 1, 1) := dk_27 (dk_at dksX0_price_0 11 rfl rfl)
theorem dX0_price_12 : decode cX0_price 12 = .ok (.invokevirtual 165, 3) := dk_182 0 165 (dk_at dksX0_price_0 12 rfl rfl)
theorem dX0_price_15 : decode cX0_price 15 = .ok (.ifCond .eq 35, 3) := dk_153 0 35 (dk_at dksX0_price_0 15 rfl rfl)
theorem dX0_price_18 : decode cX0_price 18 = .ok (.iload_n 2, 1) := dk_28 (dk_at dksX0_price_0 18 rfl rfl)
theorem dX0_price_19 : decode cX0_price 19 = .ok (.invokestatic 264, 3) := dk_184 1 8 (dk_at dksX0_price_0 19 rfl rfl)
theorem dX0_price_22 : decode cX0_price 22 = .ok (.ifCond .eq 28, 3) := dk_153 0 28 (dk_at dksX0_price_1 0 rfl rfl)
theorem dX0_price_25 : decode cX0_price 25 = .ok (.aload_n 0, 1) := dk_42 (dk_at dksX0_price_1 3 rfl rfl)
theorem dX0_price_26 : decode cX0_price 26 = .ok (.getfield 27, 3) := dk_180 0 27 (dk_at dksX0_price_1 4 rfl rfl)
theorem dX0_price_29 : decode cX0_price 29 = .ok (.bipush 10, 2) := dk_16 10 (dk_at dksX0_price_1 7 rfl rfl)
theorem dX0_price_31 : decode cX0_price 31 = .ok (.iload_n 1, 1) := dk_27 (dk_at dksX0_price_1 9 rfl rfl)
theorem dX0_price_32 : decode cX0_price 32 = .ok (.iadd, 1) := dk_96 (dk_at dksX0_price_1 10 rfl rfl)
theorem dX0_price_33 : decode cX0_price 33 = .ok (.invokevirtual 275, 3) := dk_182 1 19 (dk_at dksX0_price_1 11 rfl rfl)
theorem dX0_price_36 : decode cX0_price 36 = .ok (.aload_n 0, 1) := dk_42 (dk_at dksX0_price_1 14 rfl rfl)
theorem dX0_price_37 : decode cX0_price 37 = .ok (.getfield 27, 3) := dk_180 0 27 (dk_at dksX0_price_1 15 rfl rfl)
theorem dX0_price_40 : decode cX0_price 40 = .ok (.getfield 237, 3) := dk_180 0 237 (dk_at dksX0_price_1 18 rfl rfl)
theorem dX0_price_43 : decode cX0_price 43 = .ok (.iload_n 2, 1) := dk_28 (dk_at dksX0_price_1 21 rfl rfl)
theorem dX0_price_44 : decode cX0_price 44 = .ok (.invokestatic 271, 3) := dk_184 1 15 (dk_at dksX0_price_2 0 rfl rfl)
theorem dX0_price_47 : decode cX0_price 47 = .ok (.goto 6, 3) := dk_167 0 6 (dk_at dksX0_price_2 3 rfl rfl)
theorem dX0_price_50 : decode cX0_price 50 = .ok (.ldc2_w 232, 3) := dk_20 0 232 (dk_at dksX0_price_2 6 rfl rfl)
theorem dX0_price_53 : decode cX0_price 53 = .ok (.lreturn, 1) := dk_173 (dk_at dksX0_price_2 9 rfl rfl)
abbrev cX0_cut : ByteArray := prog_1_method_23_code
def yX0_cut : MethodName := ⟨RX0, "cut", "(II)J"⟩
def dkwX0_cut_3 : List UInt8 := [47, 173]
abbrev dktX0_cut_3 : List UInt8 := dkwX0_cut_3 ++ []
def dkwX0_cut_2 : List UInt8 := [180, 1, 28, 27, 50, 180, 1, 32, 167, 0, 17, 42, 180, 0, 27, 180, 1, 28, 27, 50, 180, 1, 37, 28]
abbrev dktX0_cut_2 : List UInt8 := dkwX0_cut_2 ++ dktX0_cut_3
def dkwX0_cut_1 : List UInt8 := [154, 0, 7, 20, 0, 232, 173, 28, 42, 180, 0, 12, 180, 0, 131, 160, 0, 18, 42, 180, 0, 27]
abbrev dktX0_cut_1 : List UInt8 := dkwX0_cut_1 ++ dktX0_cut_2
def dkwX0_cut_0 : List UInt8 := [42, 27, 182, 1, 25, 153, 0, 20, 28, 133, 9, 42, 180, 0, 12, 180, 0, 131, 133, 184, 0, 127]
abbrev dktX0_cut_0 : List UInt8 := dkwX0_cut_0 ++ dktX0_cut_1
theorem dksX0_cut_0 : cX0_cut.data.toList.drop 0 = dktX0_cut_0 := by decide +kernel
theorem dksX0_cut_1 : cX0_cut.data.toList.drop 22 = dktX0_cut_1 := dk_seg dksX0_cut_0 22 rfl rfl
theorem dksX0_cut_2 : cX0_cut.data.toList.drop 44 = dktX0_cut_2 := dk_seg dksX0_cut_1 22 rfl rfl
theorem dksX0_cut_3 : cX0_cut.data.toList.drop 68 = dktX0_cut_3 := dk_seg dksX0_cut_2 24 rfl rfl
theorem dX0_cut_0 : decode cX0_cut 0 = .ok (.aload_n 0, 1) := dk_42 (dk_at dksX0_cut_0 0 rfl rfl)
theorem dX0_cut_1 : decode cX0_cut 1 = .ok (.iload_n 1, 1) := dk_27 (dk_at dksX0_cut_0 1 rfl rfl)
theorem dX0_cut_2 : decode cX0_cut 2 = .ok (.invokevirtual 281, 3) := dk_182 1 25 (dk_at dksX0_cut_0 2 rfl rfl)
theorem dX0_cut_5 : decode cX0_cut 5 = .ok (.ifCond .eq 20, 3) := dk_153 0 20 (dk_at dksX0_cut_0 5 rfl rfl)
theorem dX0_cut_8 : decode cX0_cut 8 = .ok (.iload_n 2, 1) := dk_28 (dk_at dksX0_cut_0 8 rfl rfl)
theorem dX0_cut_9 : decode cX0_cut 9 = .ok (.i2l, 1) := dk_133 (dk_at dksX0_cut_0 9 rfl rfl)
theorem dX0_cut_10 : decode cX0_cut 10 = .ok (.lconst 0, 1) := dk_9 (dk_at dksX0_cut_0 10 rfl rfl)
theorem dX0_cut_11 : decode cX0_cut 11 = .ok (.aload_n 0, 1) := dk_42 (dk_at dksX0_cut_0 11 rfl rfl)
theorem dX0_cut_12 : decode cX0_cut 12 = .ok (.getfield 12, 3) := dk_180 0 12 (dk_at dksX0_cut_0 12 rfl rfl)
theorem dX0_cut_15 : decode cX0_cut 15 = .ok (.getfield 131, 3) := dk_180 0 131 (dk_at dksX0_cut_0 15 rfl rfl)
theorem dX0_cut_18 : decode cX0_cut 18 = .ok (.i2l, 1) := dk_133 (dk_at dksX0_cut_0 18 rfl rfl)
theorem dX0_cut_19 : decode cX0_cut 19 = .ok (.invokestatic 127, 3) := dk_184 0 127 (dk_at dksX0_cut_0 19 rfl rfl)
theorem dX0_cut_22 : decode cX0_cut 22 = .ok (.ifCond .ne 7, 3) := dk_154 0 7 (dk_at dksX0_cut_1 0 rfl rfl)
theorem dX0_cut_25 : decode cX0_cut 25 = .ok (.ldc2_w 232, 3) := dk_20 0 232 (dk_at dksX0_cut_1 3 rfl rfl)
theorem dX0_cut_28 : decode cX0_cut 28 = .ok (.lreturn, 1) := dk_173 (dk_at dksX0_cut_1 6 rfl rfl)
theorem dX0_cut_29 : decode cX0_cut 29 = .ok (.iload_n 2, 1) := dk_28 (dk_at dksX0_cut_1 7 rfl rfl)
theorem dX0_cut_30 : decode cX0_cut 30 = .ok (.aload_n 0, 1) := dk_42 (dk_at dksX0_cut_1 8 rfl rfl)
theorem dX0_cut_31 : decode cX0_cut 31 = .ok (.getfield 12, 3) := dk_180 0 12 (dk_at dksX0_cut_1 9 rfl rfl)
theorem dX0_cut_34 : decode cX0_cut 34 = .ok (.getfield 131, 3) := dk_180 0 131 (dk_at dksX0_cut_1 12 rfl rfl)
theorem dX0_cut_37 : decode cX0_cut 37 = .ok (.if_icmp .ne 18, 3) := dk_160 0 18 (dk_at dksX0_cut_1 15 rfl rfl)
theorem dX0_cut_40 : decode cX0_cut 40 = .ok (.aload_n 0, 1) := dk_42 (dk_at dksX0_cut_1 18 rfl rfl)
theorem dX0_cut_41 : decode cX0_cut 41 = .ok (.getfield 27, 3) := dk_180 0 27 (dk_at dksX0_cut_1 19 rfl rfl)
theorem dX0_cut_44 : decode cX0_cut 44 = .ok (.getfield 284, 3) := dk_180 1 28 (dk_at dksX0_cut_2 0 rfl rfl)
theorem dX0_cut_47 : decode cX0_cut 47 = .ok (.iload_n 1, 1) := dk_27 (dk_at dksX0_cut_2 3 rfl rfl)
theorem dX0_cut_48 : decode cX0_cut 48 = .ok (.aaload, 1) := dk_50 (dk_at dksX0_cut_2 4 rfl rfl)
theorem dX0_cut_49 : decode cX0_cut 49 = .ok (.getfield 288, 3) := dk_180 1 32 (dk_at dksX0_cut_2 5 rfl rfl)
theorem dX0_cut_52 : decode cX0_cut 52 = .ok (.goto 17, 3) := dk_167 0 17 (dk_at dksX0_cut_2 8 rfl rfl)
theorem dX0_cut_55 : decode cX0_cut 55 = .ok (.aload_n 0, 1) := dk_42 (dk_at dksX0_cut_2 11 rfl rfl)
theorem dX0_cut_56 : decode cX0_cut 56 = .ok (.getfield 27, 3) := dk_180 0 27 (dk_at dksX0_cut_2 12 rfl rfl)
theorem dX0_cut_59 : decode cX0_cut 59 = .ok (.getfield 284, 3) := dk_180 1 28 (dk_at dksX0_cut_2 15 rfl rfl)
theorem dX0_cut_62 : decode cX0_cut 62 = .ok (.iload_n 1, 1) := dk_27 (dk_at dksX0_cut_2 18 rfl rfl)
theorem dX0_cut_63 : decode cX0_cut 63 = .ok (.aaload, 1) := dk_50 (dk_at dksX0_cut_2 19 rfl rfl)
theorem dX0_cut_64 : decode cX0_cut 64 = .ok (.getfield 293, 3) := dk_180 1 37 (dk_at dksX0_cut_2 20 rfl rfl)
theorem dX0_cut_67 : decode cX0_cut 67 = .ok (.iload_n 2, 1) := dk_28 (dk_at dksX0_cut_2 23 rfl rfl)
theorem dX0_cut_68 : decode cX0_cut 68 = .ok (.laload, 1) := dk_47 (dk_at dksX0_cut_3 0 rfl rfl)
theorem dX0_cut_69 : decode cX0_cut 69 = .ok (.lreturn, 1) := dk_173 (dk_at dksX0_cut_3 1 rfl rfl)
abbrev cX0_isCut : ByteArray := prog_1_method_22_code
def yX0_isCut : MethodName := ⟨RX0, "isCut", "(I)Z"⟩
def dkwX0_isCut_1 : List UInt8 := [153, 0, 7, 4, 167, 0, 4, 3, 172]
abbrev dktX0_isCut_1 : List UInt8 := dkwX0_isCut_1 ++ []
def dkwX0_isCut_0 : List UInt8 := [42, 180, 0, 121, 153, 0, 26, 27, 133, 9, 42, 180, 0, 27, 180, 1, 22, 4, 100, 133, 184, 0, 127]
abbrev dktX0_isCut_0 : List UInt8 := dkwX0_isCut_0 ++ dktX0_isCut_1
theorem dksX0_isCut_0 : cX0_isCut.data.toList.drop 0 = dktX0_isCut_0 := by decide +kernel
theorem dksX0_isCut_1 : cX0_isCut.data.toList.drop 23 = dktX0_isCut_1 := dk_seg dksX0_isCut_0 23 rfl rfl
theorem dX0_isCut_0 : decode cX0_isCut 0 = .ok (.aload_n 0, 1) := dk_42 (dk_at dksX0_isCut_0 0 rfl rfl)
theorem dX0_isCut_1 : decode cX0_isCut 1 = .ok (.getfield 121, 3) := dk_180 0 121 (dk_at dksX0_isCut_0 1 rfl rfl)
theorem dX0_isCut_4 : decode cX0_isCut 4 = .ok (.ifCond .eq 26, 3) := dk_153 0 26 (dk_at dksX0_isCut_0 4 rfl rfl)
theorem dX0_isCut_7 : decode cX0_isCut 7 = .ok (.iload_n 1, 1) := dk_27 (dk_at dksX0_isCut_0 7 rfl rfl)
theorem dX0_isCut_8 : decode cX0_isCut 8 = .ok (.i2l, 1) := dk_133 (dk_at dksX0_isCut_0 8 rfl rfl)
theorem dX0_isCut_9 : decode cX0_isCut 9 = .ok (.lconst 0, 1) := dk_9 (dk_at dksX0_isCut_0 9 rfl rfl)
theorem dX0_isCut_10 : decode cX0_isCut 10 = .ok (.aload_n 0, 1) := dk_42 (dk_at dksX0_isCut_0 10 rfl rfl)
theorem dX0_isCut_11 : decode cX0_isCut 11 = .ok (.getfield 27, 3) := dk_180 0 27 (dk_at dksX0_isCut_0 11 rfl rfl)
theorem dX0_isCut_14 : decode cX0_isCut 14 = .ok (.getfield 278, 3) := dk_180 1 22 (dk_at dksX0_isCut_0 14 rfl rfl)
theorem dX0_isCut_17 : decode cX0_isCut 17 = .ok (.iconst 1, 1) := dk_4 (dk_at dksX0_isCut_0 17 rfl rfl)
theorem dX0_isCut_18 : decode cX0_isCut 18 = .ok (.isub, 1) := dk_100 (dk_at dksX0_isCut_0 18 rfl rfl)
theorem dX0_isCut_19 : decode cX0_isCut 19 = .ok (.i2l, 1) := dk_133 (dk_at dksX0_isCut_0 19 rfl rfl)
theorem dX0_isCut_20 : decode cX0_isCut 20 = .ok (.invokestatic 127, 3) := dk_184 0 127 (dk_at dksX0_isCut_0 20 rfl rfl)
theorem dX0_isCut_23 : decode cX0_isCut 23 = .ok (.ifCond .eq 7, 3) := dk_153 0 7 (dk_at dksX0_isCut_1 0 rfl rfl)
theorem dX0_isCut_26 : decode cX0_isCut 26 = .ok (.iconst 1, 1) := dk_4 (dk_at dksX0_isCut_1 3 rfl rfl)
theorem dX0_isCut_27 : decode cX0_isCut 27 = .ok (.goto 4, 3) := dk_167 0 4 (dk_at dksX0_isCut_1 4 rfl rfl)
theorem dX0_isCut_30 : decode cX0_isCut 30 = .ok (.iconst 0, 1) := dk_3 (dk_at dksX0_isCut_1 7 rfl rfl)
theorem dX0_isCut_31 : decode cX0_isCut 31 = .ok (.ireturn, 1) := dk_172 (dk_at dksX0_isCut_1 8 rfl rfl)
abbrev cX0_weight : ByteArray := prog_1_method_24_code
def yX0_weight : MethodName := ⟨RX0, "weight", "(III)J"⟩
def dkwX0_weight_4 : List UInt8 := [16, 10, 100, 167, 0, 10, 16, 8, 28, 96, 16, 20, 100, 47, 25, 5, 180, 1, 45, 29, 184, 1, 15, 173]
abbrev dktX0_weight_4 : List UInt8 := dkwX0_weight_4 ++ []
def dkwX0_weight_3 : List UInt8 := [173, 42, 180, 0, 27, 180, 1, 28, 27, 50, 58, 5, 25, 5, 180, 1, 42, 21, 4, 153, 0, 10, 28]
abbrev dktX0_weight_3 : List UInt8 := dkwX0_weight_3 ++ dktX0_weight_4
def dkwX0_weight_2 : List UInt8 := [154, 0, 25, 28, 133, 20, 1, 40, 16, 20, 27, 96, 4, 100, 133, 184, 0, 127, 154, 0, 7, 20, 0, 232]
abbrev dktX0_weight_2 : List UInt8 := dkwX0_weight_2 ++ dktX0_weight_3
def dkwX0_weight_1 : List UInt8 := [16, 10, 100, 182, 0, 165, 153, 0, 13, 28, 16, 20, 162, 0, 7, 4, 167, 0, 4, 3, 54, 4, 21, 4]
abbrev dktX0_weight_1 : List UInt8 := dkwX0_weight_1 ++ dktX0_weight_2
def dkwX0_weight_0 : List UInt8 := [42, 27, 182, 1, 25, 153, 0, 10, 29, 184, 1, 8, 154, 0, 7, 20, 0, 232, 173, 42, 180, 0, 12, 28]
abbrev dktX0_weight_0 : List UInt8 := dkwX0_weight_0 ++ dktX0_weight_1
theorem dksX0_weight_0 : cX0_weight.data.toList.drop 0 = dktX0_weight_0 := by decide +kernel
theorem dksX0_weight_1 : cX0_weight.data.toList.drop 24 = dktX0_weight_1 := dk_seg dksX0_weight_0 24 rfl rfl
theorem dksX0_weight_2 : cX0_weight.data.toList.drop 48 = dktX0_weight_2 := dk_seg dksX0_weight_1 24 rfl rfl
theorem dksX0_weight_3 : cX0_weight.data.toList.drop 72 = dktX0_weight_3 := dk_seg dksX0_weight_2 24 rfl rfl
theorem dksX0_weight_4 : cX0_weight.data.toList.drop 95 = dktX0_weight_4 := dk_seg dksX0_weight_3 23 rfl rfl
theorem dX0_weight_0 : decode cX0_weight 0 = .ok (.aload_n 0, 1) := dk_42 (dk_at dksX0_weight_0 0 rfl rfl)
theorem dX0_weight_1 : decode cX0_weight 1 = .ok (.iload_n 1, 1) := dk_27 (dk_at dksX0_weight_0 1 rfl rfl)
theorem dX0_weight_2 : decode cX0_weight 2 = .ok (.invokevirtual 281, 3) := dk_182 1 25 (dk_at dksX0_weight_0 2 rfl rfl)
theorem dX0_weight_5 : decode cX0_weight 5 = .ok (.ifCond .eq 10, 3) := dk_153 0 10 (dk_at dksX0_weight_0 5 rfl rfl)
theorem dX0_weight_8 : decode cX0_weight 8 = .ok (.iload_n 3, 1) := dk_29 (dk_at dksX0_weight_0 8 rfl rfl)
theorem dX0_weight_9 : decode cX0_weight 9 = .ok (.invokestatic 264, 3) := dk_184 1 8 (dk_at dksX0_weight_0 9 rfl rfl)
theorem dX0_weight_12 : decode cX0_weight 12 = .ok (.ifCond .ne 7, 3) := dk_154 0 7 (dk_at dksX0_weight_0 12 rfl rfl)
theorem dX0_weight_15 : decode cX0_weight 15 = .ok (.ldc2_w 232, 3) := dk_20 0 232 (dk_at dksX0_weight_0 15 rfl rfl)
theorem dX0_weight_18 : decode cX0_weight 18 = .ok (.lreturn, 1) := dk_173 (dk_at dksX0_weight_0 18 rfl rfl)
theorem dX0_weight_19 : decode cX0_weight 19 = .ok (.aload_n 0, 1) := dk_42 (dk_at dksX0_weight_0 19 rfl rfl)
theorem dX0_weight_20 : decode cX0_weight 20 = .ok (.getfield 12, 3) := dk_180 0 12 (dk_at dksX0_weight_0 20 rfl rfl)
theorem dX0_weight_23 : decode cX0_weight 23 = .ok (.iload_n 2, 1) := dk_28 (dk_at dksX0_weight_0 23 rfl rfl)
theorem dX0_weight_24 : decode cX0_weight 24 = .ok (.bipush 10, 2) := dk_16 10 (dk_at dksX0_weight_1 0 rfl rfl)
theorem dX0_weight_26 : decode cX0_weight 26 = .ok (.isub, 1) := dk_100 (dk_at dksX0_weight_1 2 rfl rfl)
theorem dX0_weight_27 : decode cX0_weight 27 = .ok (.invokevirtual 165, 3) := dk_182 0 165 (dk_at dksX0_weight_1 3 rfl rfl)
theorem dX0_weight_30 : decode cX0_weight 30 = .ok (.ifCond .eq 13, 3) := dk_153 0 13 (dk_at dksX0_weight_1 6 rfl rfl)
theorem dX0_weight_33 : decode cX0_weight 33 = .ok (.iload_n 2, 1) := dk_28 (dk_at dksX0_weight_1 9 rfl rfl)
theorem dX0_weight_34 : decode cX0_weight 34 = .ok (.bipush 20, 2) := dk_16 20 (dk_at dksX0_weight_1 10 rfl rfl)
theorem dX0_weight_36 : decode cX0_weight 36 = .ok (.if_icmp .ge 7, 3) := dk_162 0 7 (dk_at dksX0_weight_1 12 rfl rfl)
theorem dX0_weight_39 : decode cX0_weight 39 = .ok (.iconst 1, 1) := dk_4 (dk_at dksX0_weight_1 15 rfl rfl)
theorem dX0_weight_40 : decode cX0_weight 40 = .ok (.goto 4, 3) := dk_167 0 4 (dk_at dksX0_weight_1 16 rfl rfl)
theorem dX0_weight_43 : decode cX0_weight 43 = .ok (.iconst 0, 1) := dk_3 (dk_at dksX0_weight_1 19 rfl rfl)
theorem dX0_weight_44 : decode cX0_weight 44 = .ok (.istore 4, 2) := dk_54 4 (dk_at dksX0_weight_1 20 rfl rfl)
theorem dX0_weight_46 : decode cX0_weight 46 = .ok (.iload 4, 2) := dk_21 4 (dk_at dksX0_weight_1 22 rfl rfl)
theorem dX0_weight_48 : decode cX0_weight 48 = .ok (.ifCond .ne 25, 3) := dk_154 0 25 (dk_at dksX0_weight_2 0 rfl rfl)
theorem dX0_weight_51 : decode cX0_weight 51 = .ok (.iload_n 2, 1) := dk_28 (dk_at dksX0_weight_2 3 rfl rfl)
theorem dX0_weight_52 : decode cX0_weight 52 = .ok (.i2l, 1) := dk_133 (dk_at dksX0_weight_2 4 rfl rfl)
theorem dX0_weight_53 : decode cX0_weight 53 = .ok (.ldc2_w 296, 3) := dk_20 1 40 (dk_at dksX0_weight_2 5 rfl rfl)
theorem dX0_weight_56 : decode cX0_weight 56 = .ok (.bipush 20, 2) := dk_16 20 (dk_at dksX0_weight_2 8 rfl rfl)
theorem dX0_weight_58 : decode cX0_weight 58 = .ok (.iload_n 1, 1) := dk_27 (dk_at dksX0_weight_2 10 rfl rfl)
theorem dX0_weight_59 : decode cX0_weight 59 = .ok (.iadd, 1) := dk_96 (dk_at dksX0_weight_2 11 rfl rfl)
theorem dX0_weight_60 : decode cX0_weight 60 = .ok (.iconst 1, 1) := dk_4 (dk_at dksX0_weight_2 12 rfl rfl)
theorem dX0_weight_61 : decode cX0_weight 61 = .ok (.isub, 1) := dk_100 (dk_at dksX0_weight_2 13 rfl rfl)
theorem dX0_weight_62 : decode cX0_weight 62 = .ok (.i2l, 1) := dk_133 (dk_at dksX0_weight_2 14 rfl rfl)
theorem dX0_weight_63 : decode cX0_weight 63 = .ok (.invokestatic 127, 3) := dk_184 0 127 (dk_at dksX0_weight_2 15 rfl rfl)
theorem dX0_weight_66 : decode cX0_weight 66 = .ok (.ifCond .ne 7, 3) := dk_154 0 7 (dk_at dksX0_weight_2 18 rfl rfl)
theorem dX0_weight_69 : decode cX0_weight 69 = .ok (.ldc2_w 232, 3) := dk_20 0 232 (dk_at dksX0_weight_2 21 rfl rfl)
theorem dX0_weight_72 : decode cX0_weight 72 = .ok (.lreturn, 1) := dk_173 (dk_at dksX0_weight_3 0 rfl rfl)
theorem dX0_weight_73 : decode cX0_weight 73 = .ok (.aload_n 0, 1) := dk_42 (dk_at dksX0_weight_3 1 rfl rfl)
theorem dX0_weight_74 : decode cX0_weight 74 = .ok (.getfield 27, 3) := dk_180 0 27 (dk_at dksX0_weight_3 2 rfl rfl)
theorem dX0_weight_77 : decode cX0_weight 77 = .ok (.getfield 284, 3) := dk_180 1 28 (dk_at dksX0_weight_3 5 rfl rfl)
theorem dX0_weight_80 : decode cX0_weight 80 = .ok (.iload_n 1, 1) := dk_27 (dk_at dksX0_weight_3 8 rfl rfl)
theorem dX0_weight_81 : decode cX0_weight 81 = .ok (.aaload, 1) := dk_50 (dk_at dksX0_weight_3 9 rfl rfl)
theorem dX0_weight_82 : decode cX0_weight 82 = .ok (.astore 5, 2) := dk_58 5 (dk_at dksX0_weight_3 10 rfl rfl)
theorem dX0_weight_84 : decode cX0_weight 84 = .ok (.aload 5, 2) := dk_25 5 (dk_at dksX0_weight_3 12 rfl rfl)
theorem dX0_weight_86 : decode cX0_weight 86 = .ok (.getfield 298, 3) := dk_180 1 42 (dk_at dksX0_weight_3 14 rfl rfl)
theorem dX0_weight_89 : decode cX0_weight 89 = .ok (.iload 4, 2) := dk_21 4 (dk_at dksX0_weight_3 17 rfl rfl)
theorem dX0_weight_91 : decode cX0_weight 91 = .ok (.ifCond .eq 10, 3) := dk_153 0 10 (dk_at dksX0_weight_3 19 rfl rfl)
theorem dX0_weight_94 : decode cX0_weight 94 = .ok (.iload_n 2, 1) := dk_28 (dk_at dksX0_weight_3 22 rfl rfl)
theorem dX0_weight_95 : decode cX0_weight 95 = .ok (.bipush 10, 2) := dk_16 10 (dk_at dksX0_weight_4 0 rfl rfl)
theorem dX0_weight_97 : decode cX0_weight 97 = .ok (.isub, 1) := dk_100 (dk_at dksX0_weight_4 2 rfl rfl)
theorem dX0_weight_98 : decode cX0_weight 98 = .ok (.goto 10, 3) := dk_167 0 10 (dk_at dksX0_weight_4 3 rfl rfl)
theorem dX0_weight_101 : decode cX0_weight 101 = .ok (.bipush 8, 2) := dk_16 8 (dk_at dksX0_weight_4 6 rfl rfl)
theorem dX0_weight_103 : decode cX0_weight 103 = .ok (.iload_n 2, 1) := dk_28 (dk_at dksX0_weight_4 8 rfl rfl)
theorem dX0_weight_104 : decode cX0_weight 104 = .ok (.iadd, 1) := dk_96 (dk_at dksX0_weight_4 9 rfl rfl)
theorem dX0_weight_105 : decode cX0_weight 105 = .ok (.bipush 20, 2) := dk_16 20 (dk_at dksX0_weight_4 10 rfl rfl)
theorem dX0_weight_107 : decode cX0_weight 107 = .ok (.isub, 1) := dk_100 (dk_at dksX0_weight_4 12 rfl rfl)
theorem dX0_weight_108 : decode cX0_weight 108 = .ok (.laload, 1) := dk_47 (dk_at dksX0_weight_4 13 rfl rfl)
theorem dX0_weight_109 : decode cX0_weight 109 = .ok (.aload 5, 2) := dk_25 5 (dk_at dksX0_weight_4 14 rfl rfl)
theorem dX0_weight_111 : decode cX0_weight 111 = .ok (.getfield 301, 3) := dk_180 1 45 (dk_at dksX0_weight_4 16 rfl rfl)
theorem dX0_weight_114 : decode cX0_weight 114 = .ok (.iload_n 3, 1) := dk_29 (dk_at dksX0_weight_4 19 rfl rfl)
theorem dX0_weight_115 : decode cX0_weight 115 = .ok (.invokestatic 271, 3) := dk_184 1 15 (dk_at dksX0_weight_4 20 rfl rfl)
theorem dX0_weight_118 : decode cX0_weight 118 = .ok (.lreturn, 1) := dk_173 (dk_at dksX0_weight_4 23 rfl rfl)
abbrev cX0_proved : ByteArray := prog_1_method_26_code
def yX0_proved : MethodName := ⟨RX0, "proved", "(I)I"⟩
def dkwX0_proved_3 : List UInt8 := [132, 3, 1, 167, 255, 205, 4, 172]
abbrev dktX0_proved_3 : List UInt8 := dkwX0_proved_3 ++ []
def dkwX0_proved_2 : List UInt8 := [160, 0, 10, 44, 180, 1, 32, 167, 0, 9, 44, 180, 1, 37, 29, 47, 148, 153, 0, 5, 3, 172]
abbrev dktX0_proved_2 : List UInt8 := dkwX0_proved_2 ++ dktX0_proved_3
def dkwX0_proved_1 : List UInt8 := [180, 0, 12, 180, 0, 131, 163, 0, 46, 42, 44, 27, 29, 182, 1, 54, 29, 42, 180, 0, 12, 180, 0, 131]
abbrev dktX0_proved_1 : List UInt8 := dkwX0_proved_1 ++ dktX0_proved_2
def dkwX0_proved_0 : List UInt8 := [42, 27, 182, 1, 25, 154, 0, 5, 2, 172, 42, 180, 0, 27, 180, 1, 28, 27, 50, 77, 3, 62, 29, 42]
abbrev dktX0_proved_0 : List UInt8 := dkwX0_proved_0 ++ dktX0_proved_1
theorem dksX0_proved_0 : cX0_proved.data.toList.drop 0 = dktX0_proved_0 := by decide +kernel
theorem dksX0_proved_1 : cX0_proved.data.toList.drop 24 = dktX0_proved_1 := dk_seg dksX0_proved_0 24 rfl rfl
theorem dksX0_proved_2 : cX0_proved.data.toList.drop 48 = dktX0_proved_2 := dk_seg dksX0_proved_1 24 rfl rfl
theorem dksX0_proved_3 : cX0_proved.data.toList.drop 70 = dktX0_proved_3 := dk_seg dksX0_proved_2 22 rfl rfl
theorem dX0_proved_0 : decode cX0_proved 0 = .ok (.aload_n 0, 1) := dk_42 (dk_at dksX0_proved_0 0 rfl rfl)
theorem dX0_proved_1 : decode cX0_proved 1 = .ok (.iload_n 1, 1) := dk_27 (dk_at dksX0_proved_0 1 rfl rfl)
theorem dX0_proved_2 : decode cX0_proved 2 = .ok (.invokevirtual 281, 3) := dk_182 1 25 (dk_at dksX0_proved_0 2 rfl rfl)
theorem dX0_proved_5 : decode cX0_proved 5 = .ok (.ifCond .ne 5, 3) := dk_154 0 5 (dk_at dksX0_proved_0 5 rfl rfl)
theorem dX0_proved_8 : decode cX0_proved 8 = .ok (.iconst (-1), 1) := dk_2 (dk_at dksX0_proved_0 8 rfl rfl)
theorem dX0_proved_9 : decode cX0_proved 9 = .ok (.ireturn, 1) := dk_172 (dk_at dksX0_proved_0 9 rfl rfl)
theorem dX0_proved_10 : decode cX0_proved 10 = .ok (.aload_n 0, 1) := dk_42 (dk_at dksX0_proved_0 10 rfl rfl)
theorem dX0_proved_11 : decode cX0_proved 11 = .ok (.getfield 27, 3) := dk_180 0 27 (dk_at dksX0_proved_0 11 rfl rfl)
theorem dX0_proved_14 : decode cX0_proved 14 = .ok (.getfield 284, 3) := dk_180 1 28 (dk_at dksX0_proved_0 14 rfl rfl)
theorem dX0_proved_17 : decode cX0_proved 17 = .ok (.iload_n 1, 1) := dk_27 (dk_at dksX0_proved_0 17 rfl rfl)
theorem dX0_proved_18 : decode cX0_proved 18 = .ok (.aaload, 1) := dk_50 (dk_at dksX0_proved_0 18 rfl rfl)
theorem dX0_proved_19 : decode cX0_proved 19 = .ok (.astore_n 2, 1) := dk_77 (dk_at dksX0_proved_0 19 rfl rfl)
theorem dX0_proved_20 : decode cX0_proved 20 = .ok (.iconst 0, 1) := dk_3 (dk_at dksX0_proved_0 20 rfl rfl)
theorem dX0_proved_21 : decode cX0_proved 21 = .ok (.istore_n 3, 1) := dk_62 (dk_at dksX0_proved_0 21 rfl rfl)
theorem dX0_proved_22 : decode cX0_proved 22 = .ok (.iload_n 3, 1) := dk_29 (dk_at dksX0_proved_0 22 rfl rfl)
theorem dX0_proved_23 : decode cX0_proved 23 = .ok (.aload_n 0, 1) := dk_42 (dk_at dksX0_proved_0 23 rfl rfl)
theorem dX0_proved_24 : decode cX0_proved 24 = .ok (.getfield 12, 3) := dk_180 0 12 (dk_at dksX0_proved_1 0 rfl rfl)
theorem dX0_proved_27 : decode cX0_proved 27 = .ok (.getfield 131, 3) := dk_180 0 131 (dk_at dksX0_proved_1 3 rfl rfl)
theorem dX0_proved_30 : decode cX0_proved 30 = .ok (.if_icmp .gt 46, 3) := dk_163 0 46 (dk_at dksX0_proved_1 6 rfl rfl)
theorem dX0_proved_33 : decode cX0_proved 33 = .ok (.aload_n 0, 1) := dk_42 (dk_at dksX0_proved_1 9 rfl rfl)
theorem dX0_proved_34 : decode cX0_proved 34 = .ok (.aload_n 2, 1) := dk_44 (dk_at dksX0_proved_1 10 rfl rfl)
theorem dX0_proved_35 : decode cX0_proved 35 = .ok (.iload_n 1, 1) := dk_27 (dk_at dksX0_proved_1 11 rfl rfl)
theorem dX0_proved_36 : decode cX0_proved 36 = .ok (.iload_n 3, 1) := dk_29 (dk_at dksX0_proved_1 12 rfl rfl)
theorem dX0_proved_37 : decode cX0_proved 37 = .ok (.invokevirtual 310, 3) := dk_182 1 54 (dk_at dksX0_proved_1 13 rfl rfl)
theorem dX0_proved_40 : decode cX0_proved 40 = .ok (.iload_n 3, 1) := dk_29 (dk_at dksX0_proved_1 16 rfl rfl)
theorem dX0_proved_41 : decode cX0_proved 41 = .ok (.aload_n 0, 1) := dk_42 (dk_at dksX0_proved_1 17 rfl rfl)
theorem dX0_proved_42 : decode cX0_proved 42 = .ok (.getfield 12, 3) := dk_180 0 12 (dk_at dksX0_proved_1 18 rfl rfl)
theorem dX0_proved_45 : decode cX0_proved 45 = .ok (.getfield 131, 3) := dk_180 0 131 (dk_at dksX0_proved_1 21 rfl rfl)
theorem dX0_proved_48 : decode cX0_proved 48 = .ok (.if_icmp .ne 10, 3) := dk_160 0 10 (dk_at dksX0_proved_2 0 rfl rfl)
theorem dX0_proved_51 : decode cX0_proved 51 = .ok (.aload_n 2, 1) := dk_44 (dk_at dksX0_proved_2 3 rfl rfl)
theorem dX0_proved_52 : decode cX0_proved 52 = .ok (.getfield 288, 3) := dk_180 1 32 (dk_at dksX0_proved_2 4 rfl rfl)
theorem dX0_proved_55 : decode cX0_proved 55 = .ok (.goto 9, 3) := dk_167 0 9 (dk_at dksX0_proved_2 7 rfl rfl)
theorem dX0_proved_58 : decode cX0_proved 58 = .ok (.aload_n 2, 1) := dk_44 (dk_at dksX0_proved_2 10 rfl rfl)
theorem dX0_proved_59 : decode cX0_proved 59 = .ok (.getfield 293, 3) := dk_180 1 37 (dk_at dksX0_proved_2 11 rfl rfl)
theorem dX0_proved_62 : decode cX0_proved 62 = .ok (.iload_n 3, 1) := dk_29 (dk_at dksX0_proved_2 14 rfl rfl)
theorem dX0_proved_63 : decode cX0_proved 63 = .ok (.laload, 1) := dk_47 (dk_at dksX0_proved_2 15 rfl rfl)
theorem dX0_proved_64 : decode cX0_proved 64 = .ok (.lcmp, 1) := dk_148 (dk_at dksX0_proved_2 16 rfl rfl)
theorem dX0_proved_65 : decode cX0_proved 65 = .ok (.ifCond .eq 5, 3) := dk_153 0 5 (dk_at dksX0_proved_2 17 rfl rfl)
theorem dX0_proved_68 : decode cX0_proved 68 = .ok (.iconst 0, 1) := dk_3 (dk_at dksX0_proved_2 20 rfl rfl)
theorem dX0_proved_69 : decode cX0_proved 69 = .ok (.ireturn, 1) := dk_172 (dk_at dksX0_proved_2 21 rfl rfl)
theorem dX0_proved_70 : decode cX0_proved 70 = .ok (.iinc 3 1, 3) := dk_132 3 1 (dk_at dksX0_proved_3 0 rfl rfl)
theorem dX0_proved_73 : decode cX0_proved 73 = .ok (.goto (-51), 3) := dk_167 255 205 (dk_at dksX0_proved_3 3 rfl rfl)
theorem dX0_proved_76 : decode cX0_proved 76 = .ok (.iconst 1, 1) := dk_4 (dk_at dksX0_proved_3 6 rfl rfl)
theorem dX0_proved_77 : decode cX0_proved 77 = .ok (.ireturn, 1) := dk_172 (dk_at dksX0_proved_3 7 rfl rfl)
abbrev cX0_byWeights : ByteArray := prog_1_method_25_code
def yX0_byWeights : MethodName := ⟨RX0, "byWeights", "(LWholePacks$Cut;II)J"⟩
def dkwX0_byWeights_6 : List UInt8 := [55, 4, 132, 6, 1, 167, 255, 189, 22, 4, 43, 180, 1, 45, 184, 1, 51, 173]
abbrev dktX0_byWeights_6 : List UInt8 := dkwX0_byWeights_6 ++ []
def dkwX0_byWeights_5 : List UInt8 := [50, 180, 1, 32, 167, 0, 18, 42, 180, 0, 27, 180, 1, 28, 21, 6, 50, 180, 1, 37, 29, 47, 105, 97]
abbrev dktX0_byWeights_5 : List UInt8 := dkwX0_byWeights_5 ++ dktX0_byWeights_6
def dkwX0_byWeights_4 : List UInt8 := [21, 6, 96, 47, 29, 42, 180, 0, 12, 180, 0, 131, 160, 0, 19, 42, 180, 0, 27, 180, 1, 28, 21, 6]
abbrev dktX0_byWeights_4 : List UInt8 := dkwX0_byWeights_4 ++ dktX0_byWeights_5
def dkwX0_byWeights_3 : List UInt8 := [132, 6, 1, 167, 255, 187, 3, 54, 6, 21, 6, 28, 162, 0, 67, 22, 4, 43, 180, 1, 42, 16, 8]
abbrev dktX0_byWeights_3 : List UInt8 := dkwX0_byWeights_3 ++ dktX0_byWeights_4
def dkwX0_byWeights_2 : List UInt8 := [182, 1, 46, 167, 0, 17, 42, 180, 0, 12, 180, 0, 172, 21, 6, 50, 29, 182, 1, 49, 105, 97, 55, 4]
abbrev dktX0_byWeights_2 : List UInt8 := dkwX0_byWeights_2 ++ dktX0_byWeights_3
def dkwX0_byWeights_1 : List UInt8 := [21, 6, 47, 29, 42, 180, 0, 12, 180, 0, 131, 160, 0, 19, 42, 180, 0, 12, 180, 0, 172, 21, 6, 50]
abbrev dktX0_byWeights_1 : List UInt8 := dkwX0_byWeights_1 ++ dktX0_byWeights_2
def dkwX0_byWeights_0 : List UInt8 := [9, 55, 4, 3, 54, 6, 21, 6, 42, 180, 0, 12, 180, 0, 158, 162, 0, 63, 22, 4, 43, 180, 1, 42]
abbrev dktX0_byWeights_0 : List UInt8 := dkwX0_byWeights_0 ++ dktX0_byWeights_1
theorem dksX0_byWeights_0 : cX0_byWeights.data.toList.drop 0 = dktX0_byWeights_0 := by decide +kernel
theorem dksX0_byWeights_1 : cX0_byWeights.data.toList.drop 24 = dktX0_byWeights_1 := dk_seg dksX0_byWeights_0 24 rfl rfl
theorem dksX0_byWeights_2 : cX0_byWeights.data.toList.drop 48 = dktX0_byWeights_2 := dk_seg dksX0_byWeights_1 24 rfl rfl
theorem dksX0_byWeights_3 : cX0_byWeights.data.toList.drop 72 = dktX0_byWeights_3 := dk_seg dksX0_byWeights_2 24 rfl rfl
theorem dksX0_byWeights_4 : cX0_byWeights.data.toList.drop 95 = dktX0_byWeights_4 := dk_seg dksX0_byWeights_3 23 rfl rfl
theorem dksX0_byWeights_5 : cX0_byWeights.data.toList.drop 119 = dktX0_byWeights_5 := dk_seg dksX0_byWeights_4 24 rfl rfl
theorem dksX0_byWeights_6 : cX0_byWeights.data.toList.drop 143 = dktX0_byWeights_6 := dk_seg dksX0_byWeights_5 24 rfl rfl
theorem dX0_byWeights_0 : decode cX0_byWeights 0 = .ok (.lconst 0, 1) := dk_9 (dk_at dksX0_byWeights_0 0 rfl rfl)
theorem dX0_byWeights_1 : decode cX0_byWeights 1 = .ok (.lstore 4, 2) := dk_55 4 (dk_at dksX0_byWeights_0 1 rfl rfl)
theorem dX0_byWeights_3 : decode cX0_byWeights 3 = .ok (.iconst 0, 1) := dk_3 (dk_at dksX0_byWeights_0 3 rfl rfl)
theorem dX0_byWeights_4 : decode cX0_byWeights 4 = .ok (.istore 6, 2) := dk_54 6 (dk_at dksX0_byWeights_0 4 rfl rfl)
theorem dX0_byWeights_6 : decode cX0_byWeights 6 = .ok (.iload 6, 2) := dk_21 6 (dk_at dksX0_byWeights_0 6 rfl rfl)
theorem dX0_byWeights_8 : decode cX0_byWeights 8 = .ok (.aload_n 0, 1) := dk_42 (dk_at dksX0_byWeights_0 8 rfl rfl)
theorem dX0_byWeights_9 : decode cX0_byWeights 9 = .ok (.getfield 12, 3) := dk_180 0 12 (dk_at dksX0_byWeights_0 9 rfl rfl)
theorem dX0_byWeights_12 : decode cX0_byWeights 12 = .ok (.getfield 158, 3) := dk_180 0 158 (dk_at dksX0_byWeights_0 12 rfl rfl)
theorem dX0_byWeights_15 : decode cX0_byWeights 15 = .ok (.if_icmp .ge 63, 3) := dk_162 0 63 (dk_at dksX0_byWeights_0 15 rfl rfl)
theorem dX0_byWeights_18 : decode cX0_byWeights 18 = .ok (.lload 4, 2) := dk_22 4 (dk_at dksX0_byWeights_0 18 rfl rfl)
theorem dX0_byWeights_20 : decode cX0_byWeights 20 = .ok (.aload_n 1, 1) := dk_43 (dk_at dksX0_byWeights_0 20 rfl rfl)
theorem dX0_byWeights_21 : decode cX0_byWeights 21 = .ok (.getfield 298, 3) := dk_180 1 42 (dk_at dksX0_byWeights_0 21 rfl rfl)
theorem dX0_byWeights_24 : decode cX0_byWeights 24 = .ok (.iload 6, 2) := dk_21 6 (dk_at dksX0_byWeights_1 0 rfl rfl)
theorem dX0_byWeights_26 : decode cX0_byWeights 26 = .ok (.laload, 1) := dk_47 (dk_at dksX0_byWeights_1 2 rfl rfl)
theorem dX0_byWeights_27 : decode cX0_byWeights 27 = .ok (.iload_n 3, 1) := dk_29 (dk_at dksX0_byWeights_1 3 rfl rfl)
theorem dX0_byWeights_28 : decode cX0_byWeights 28 = .ok (.aload_n 0, 1) := dk_42 (dk_at dksX0_byWeights_1 4 rfl rfl)
theorem dX0_byWeights_29 : decode cX0_byWeights 29 = .ok (.getfield 12, 3) := dk_180 0 12 (dk_at dksX0_byWeights_1 5 rfl rfl)
theorem dX0_byWeights_32 : decode cX0_byWeights 32 = .ok (.getfield 131, 3) := dk_180 0 131 (dk_at dksX0_byWeights_1 8 rfl rfl)
theorem dX0_byWeights_35 : decode cX0_byWeights 35 = .ok (.if_icmp .ne 19, 3) := dk_160 0 19 (dk_at dksX0_byWeights_1 11 rfl rfl)
theorem dX0_byWeights_38 : decode cX0_byWeights 38 = .ok (.aload_n 0, 1) := dk_42 (dk_at dksX0_byWeights_1 14 rfl rfl)
theorem dX0_byWeights_39 : decode cX0_byWeights 39 = .ok (.getfield 12, 3) := dk_180 0 12 (dk_at dksX0_byWeights_1 15 rfl rfl)
theorem dX0_byWeights_42 : decode cX0_byWeights 42 = .ok (.getfield 172, 3) := dk_180 0 172 (dk_at dksX0_byWeights_1 18 rfl rfl)
theorem dX0_byWeights_45 : decode cX0_byWeights 45 = .ok (.iload 6, 2) := dk_21 6 (dk_at dksX0_byWeights_1 21 rfl rfl)
theorem dX0_byWeights_47 : decode cX0_byWeights 47 = .ok (.aaload, 1) := dk_50 (dk_at dksX0_byWeights_1 23 rfl rfl)
theorem dX0_byWeights_48 : decode cX0_byWeights 48 = .ok (.invokevirtual 302, 3) := dk_182 1 46 (dk_at dksX0_byWeights_2 0 rfl rfl)
theorem dX0_byWeights_51 : decode cX0_byWeights 51 = .ok (.goto 17, 3) := dk_167 0 17 (dk_at dksX0_byWeights_2 3 rfl rfl)
theorem dX0_byWeights_54 : decode cX0_byWeights 54 = .ok (.aload_n 0, 1) := dk_42 (dk_at dksX0_byWeights_2 6 rfl rfl)
theorem dX0_byWeights_55 : decode cX0_byWeights 55 = .ok (.getfield 12, 3) := dk_180 0 12 (dk_at dksX0_byWeights_2 7 rfl rfl)
theorem dX0_byWeights_58 : decode cX0_byWeights 58 = .ok (.getfield 172, 3) := dk_180 0 172 (dk_at dksX0_byWeights_2 10 rfl rfl)
theorem dX0_byWeights_61 : decode cX0_byWeights 61 = .ok (.iload 6, 2) := dk_21 6 (dk_at dksX0_byWeights_2 13 rfl rfl)
theorem dX0_byWeights_63 : decode cX0_byWeights 63 = .ok (.aaload, 1) := dk_50 (dk_at dksX0_byWeights_2 15 rfl rfl)
theorem dX0_byWeights_64 : decode cX0_byWeights 64 = .ok (.iload_n 3, 1) := dk_29 (dk_at dksX0_byWeights_2 16 rfl rfl)
theorem dX0_byWeights_65 : decode cX0_byWeights 65 = .ok (.invokevirtual 305, 3) := dk_182 1 49 (dk_at dksX0_byWeights_2 17 rfl rfl)
theorem dX0_byWeights_68 : decode cX0_byWeights 68 = .ok (.lmul, 1) := dk_105 (dk_at dksX0_byWeights_2 20 rfl rfl)
theorem dX0_byWeights_69 : decode cX0_byWeights 69 = .ok (.ladd, 1) := dk_97 (dk_at dksX0_byWeights_2 21 rfl rfl)
theorem dX0_byWeights_70 : decode cX0_byWeights 70 = .ok (.lstore 4, 2) := dk_55 4 (dk_at dksX0_byWeights_2 22 rfl rfl)
theorem dX0_byWeights_72 : decode cX0_byWeights 72 = .ok (.iinc 6 1, 3) := dk_132 6 1 (dk_at dksX0_byWeights_3 0 rfl rfl)
theorem dX0_byWeights_75 : decode cX0_byWeights 75 = .ok (.goto (-69), 3) := dk_167 255 187 (dk_at dksX0_byWeights_3 3 rfl rfl)
theorem dX0_byWeights_78 : decode cX0_byWeights 78 = .ok (.iconst 0, 1) := dk_3 (dk_at dksX0_byWeights_3 6 rfl rfl)
theorem dX0_byWeights_79 : decode cX0_byWeights 79 = .ok (.istore 6, 2) := dk_54 6 (dk_at dksX0_byWeights_3 7 rfl rfl)
theorem dX0_byWeights_81 : decode cX0_byWeights 81 = .ok (.iload 6, 2) := dk_21 6 (dk_at dksX0_byWeights_3 9 rfl rfl)
theorem dX0_byWeights_83 : decode cX0_byWeights 83 = .ok (.iload_n 2, 1) := dk_28 (dk_at dksX0_byWeights_3 11 rfl rfl)
theorem dX0_byWeights_84 : decode cX0_byWeights 84 = .ok (.if_icmp .ge 67, 3) := dk_162 0 67 (dk_at dksX0_byWeights_3 12 rfl rfl)
theorem dX0_byWeights_87 : decode cX0_byWeights 87 = .ok (.lload 4, 2) := dk_22 4 (dk_at dksX0_byWeights_3 15 rfl rfl)
theorem dX0_byWeights_89 : decode cX0_byWeights 89 = .ok (.aload_n 1, 1) := dk_43 (dk_at dksX0_byWeights_3 17 rfl rfl)
theorem dX0_byWeights_90 : decode cX0_byWeights 90 = .ok (.getfield 298, 3) := dk_180 1 42 (dk_at dksX0_byWeights_3 18 rfl rfl)
theorem dX0_byWeights_93 : decode cX0_byWeights 93 = .ok (.bipush 8, 2) := dk_16 8 (dk_at dksX0_byWeights_3 21 rfl rfl)
theorem dX0_byWeights_95 : decode cX0_byWeights 95 = .ok (.iload 6, 2) := dk_21 6 (dk_at dksX0_byWeights_4 0 rfl rfl)
theorem dX0_byWeights_97 : decode cX0_byWeights 97 = .ok (.iadd, 1) := dk_96 (dk_at dksX0_byWeights_4 2 rfl rfl)
theorem dX0_byWeights_98 : decode cX0_byWeights 98 = .ok (.laload, 1) := dk_47 (dk_at dksX0_byWeights_4 3 rfl rfl)
theorem dX0_byWeights_99 : decode cX0_byWeights 99 = .ok (.iload_n 3, 1) := dk_29 (dk_at dksX0_byWeights_4 4 rfl rfl)
theorem dX0_byWeights_100 : decode cX0_byWeights 100 = .ok (.aload_n 0, 1) := dk_42 (dk_at dksX0_byWeights_4 5 rfl rfl)
theorem dX0_byWeights_101 : decode cX0_byWeights 101 = .ok (.getfield 12, 3) := dk_180 0 12 (dk_at dksX0_byWeights_4 6 rfl rfl)
theorem dX0_byWeights_104 : decode cX0_byWeights 104 = .ok (.getfield 131, 3) := dk_180 0 131 (dk_at dksX0_byWeights_4 9 rfl rfl)
theorem dX0_byWeights_107 : decode cX0_byWeights 107 = .ok (.if_icmp .ne 19, 3) := dk_160 0 19 (dk_at dksX0_byWeights_4 12 rfl rfl)
theorem dX0_byWeights_110 : decode cX0_byWeights 110 = .ok (.aload_n 0, 1) := dk_42 (dk_at dksX0_byWeights_4 15 rfl rfl)
theorem dX0_byWeights_111 : decode cX0_byWeights 111 = .ok (.getfield 27, 3) := dk_180 0 27 (dk_at dksX0_byWeights_4 16 rfl rfl)
theorem dX0_byWeights_114 : decode cX0_byWeights 114 = .ok (.getfield 284, 3) := dk_180 1 28 (dk_at dksX0_byWeights_4 19 rfl rfl)
theorem dX0_byWeights_117 : decode cX0_byWeights 117 = .ok (.iload 6, 2) := dk_21 6 (dk_at dksX0_byWeights_4 22 rfl rfl)
theorem dX0_byWeights_119 : decode cX0_byWeights 119 = .ok (.aaload, 1) := dk_50 (dk_at dksX0_byWeights_5 0 rfl rfl)
theorem dX0_byWeights_120 : decode cX0_byWeights 120 = .ok (.getfield 288, 3) := dk_180 1 32 (dk_at dksX0_byWeights_5 1 rfl rfl)
theorem dX0_byWeights_123 : decode cX0_byWeights 123 = .ok (.goto 18, 3) := dk_167 0 18 (dk_at dksX0_byWeights_5 4 rfl rfl)
theorem dX0_byWeights_126 : decode cX0_byWeights 126 = .ok (.aload_n 0, 1) := dk_42 (dk_at dksX0_byWeights_5 7 rfl rfl)
theorem dX0_byWeights_127 : decode cX0_byWeights 127 = .ok (.getfield 27, 3) := dk_180 0 27 (dk_at dksX0_byWeights_5 8 rfl rfl)
theorem dX0_byWeights_130 : decode cX0_byWeights 130 = .ok (.getfield 284, 3) := dk_180 1 28 (dk_at dksX0_byWeights_5 11 rfl rfl)
theorem dX0_byWeights_133 : decode cX0_byWeights 133 = .ok (.iload 6, 2) := dk_21 6 (dk_at dksX0_byWeights_5 14 rfl rfl)
theorem dX0_byWeights_135 : decode cX0_byWeights 135 = .ok (.aaload, 1) := dk_50 (dk_at dksX0_byWeights_5 16 rfl rfl)
theorem dX0_byWeights_136 : decode cX0_byWeights 136 = .ok (.getfield 293, 3) := dk_180 1 37 (dk_at dksX0_byWeights_5 17 rfl rfl)
theorem dX0_byWeights_139 : decode cX0_byWeights 139 = .ok (.iload_n 3, 1) := dk_29 (dk_at dksX0_byWeights_5 20 rfl rfl)
theorem dX0_byWeights_140 : decode cX0_byWeights 140 = .ok (.laload, 1) := dk_47 (dk_at dksX0_byWeights_5 21 rfl rfl)
theorem dX0_byWeights_141 : decode cX0_byWeights 141 = .ok (.lmul, 1) := dk_105 (dk_at dksX0_byWeights_5 22 rfl rfl)
theorem dX0_byWeights_142 : decode cX0_byWeights 142 = .ok (.ladd, 1) := dk_97 (dk_at dksX0_byWeights_5 23 rfl rfl)
theorem dX0_byWeights_143 : decode cX0_byWeights 143 = .ok (.lstore 4, 2) := dk_55 4 (dk_at dksX0_byWeights_6 0 rfl rfl)
theorem dX0_byWeights_145 : decode cX0_byWeights 145 = .ok (.iinc 6 1, 3) := dk_132 6 1 (dk_at dksX0_byWeights_6 2 rfl rfl)
theorem dX0_byWeights_148 : decode cX0_byWeights 148 = .ok (.goto (-67), 3) := dk_167 255 189 (dk_at dksX0_byWeights_6 5 rfl rfl)
theorem dX0_byWeights_151 : decode cX0_byWeights 151 = .ok (.lload 4, 2) := dk_22 4 (dk_at dksX0_byWeights_6 8 rfl rfl)
theorem dX0_byWeights_153 : decode cX0_byWeights 153 = .ok (.aload_n 1, 1) := dk_43 (dk_at dksX0_byWeights_6 10 rfl rfl)
theorem dX0_byWeights_154 : decode cX0_byWeights 154 = .ok (.getfield 301, 3) := dk_180 1 45 (dk_at dksX0_byWeights_6 11 rfl rfl)
theorem dX0_byWeights_157 : decode cX0_byWeights 157 = .ok (.invokestatic 307, 3) := dk_184 1 51 (dk_at dksX0_byWeights_6 14 rfl rfl)
theorem dX0_byWeights_160 : decode cX0_byWeights 160 = .ok (.lreturn, 1) := dk_173 (dk_at dksX0_byWeights_6 17 rfl rfl)
abbrev cX0_hand : ByteArray := prog_1_method_27_code
def yX0_hand : MethodName := ⟨RX0, "hand", "(II)I"⟩
def dkwX0_hand_2 : List UInt8 := [28, 79, 29, 172]
abbrev dktX0_hand_2 : List UInt8 := dkwX0_hand_2 ++ []
def dkwX0_hand_1 : List UInt8 := [154, 0, 6, 16, 254, 172, 42, 180, 0, 12, 180, 0, 184, 27, 46, 62, 42, 180, 0, 12, 180, 0, 184, 27]
abbrev dktX0_hand_1 : List UInt8 := dkwX0_hand_1 ++ dktX0_hand_2
def dkwX0_hand_0 : List UInt8 := [42, 180, 0, 12, 27, 182, 0, 165, 154, 0, 5, 2, 172, 28, 133, 9, 20, 0, 170, 184, 0, 127]
abbrev dktX0_hand_0 : List UInt8 := dkwX0_hand_0 ++ dktX0_hand_1
theorem dksX0_hand_0 : cX0_hand.data.toList.drop 0 = dktX0_hand_0 := by decide +kernel
theorem dksX0_hand_1 : cX0_hand.data.toList.drop 22 = dktX0_hand_1 := dk_seg dksX0_hand_0 22 rfl rfl
theorem dksX0_hand_2 : cX0_hand.data.toList.drop 46 = dktX0_hand_2 := dk_seg dksX0_hand_1 24 rfl rfl
theorem dX0_hand_0 : decode cX0_hand 0 = .ok (.aload_n 0, 1) := dk_42 (dk_at dksX0_hand_0 0 rfl rfl)
theorem dX0_hand_1 : decode cX0_hand 1 = .ok (.getfield 12, 3) := dk_180 0 12 (dk_at dksX0_hand_0 1 rfl rfl)
theorem dX0_hand_4 : decode cX0_hand 4 = .ok (.iload_n 1, 1) := dk_27 (dk_at dksX0_hand_0 4 rfl rfl)
theorem dX0_hand_5 : decode cX0_hand 5 = .ok (.invokevirtual 165, 3) := dk_182 0 165 (dk_at dksX0_hand_0 5 rfl rfl)
theorem dX0_hand_8 : decode cX0_hand 8 = .ok (.ifCond .ne 5, 3) := dk_154 0 5 (dk_at dksX0_hand_0 8 rfl rfl)
theorem dX0_hand_11 : decode cX0_hand 11 = .ok (.iconst (-1), 1) := dk_2 (dk_at dksX0_hand_0 11 rfl rfl)
theorem dX0_hand_12 : decode cX0_hand 12 = .ok (.ireturn, 1) := dk_172 (dk_at dksX0_hand_0 12 rfl rfl)
theorem dX0_hand_13 : decode cX0_hand 13 = .ok (.iload_n 2, 1) := dk_28 (dk_at dksX0_hand_0 13 rfl rfl)
theorem dX0_hand_14 : decode cX0_hand 14 = .ok (.i2l, 1) := dk_133 (dk_at dksX0_hand_0 14 rfl rfl)
theorem dX0_hand_15 : decode cX0_hand 15 = .ok (.lconst 0, 1) := dk_9 (dk_at dksX0_hand_0 15 rfl rfl)
theorem dX0_hand_16 : decode cX0_hand 16 = .ok (.ldc2_w 170, 3) := dk_20 0 170 (dk_at dksX0_hand_0 16 rfl rfl)
theorem dX0_hand_19 : decode cX0_hand 19 = .ok (.invokestatic 127, 3) := dk_184 0 127 (dk_at dksX0_hand_0 19 rfl rfl)
theorem dX0_hand_22 : decode cX0_hand 22 = .ok (.ifCond .ne 6, 3) := dk_154 0 6 (dk_at dksX0_hand_1 0 rfl rfl)
theorem dX0_hand_25 : decode cX0_hand 25 = .ok (.bipush (-2), 2) := dk_16 254 (dk_at dksX0_hand_1 3 rfl rfl)
theorem dX0_hand_27 : decode cX0_hand 27 = .ok (.ireturn, 1) := dk_172 (dk_at dksX0_hand_1 5 rfl rfl)
theorem dX0_hand_28 : decode cX0_hand 28 = .ok (.aload_n 0, 1) := dk_42 (dk_at dksX0_hand_1 6 rfl rfl)
theorem dX0_hand_29 : decode cX0_hand 29 = .ok (.getfield 12, 3) := dk_180 0 12 (dk_at dksX0_hand_1 7 rfl rfl)
theorem dX0_hand_32 : decode cX0_hand 32 = .ok (.getfield 184, 3) := dk_180 0 184 (dk_at dksX0_hand_1 10 rfl rfl)
theorem dX0_hand_35 : decode cX0_hand 35 = .ok (.iload_n 1, 1) := dk_27 (dk_at dksX0_hand_1 13 rfl rfl)
theorem dX0_hand_36 : decode cX0_hand 36 = .ok (.iaload, 1) := dk_46 (dk_at dksX0_hand_1 14 rfl rfl)
theorem dX0_hand_37 : decode cX0_hand 37 = .ok (.istore_n 3, 1) := dk_62 (dk_at dksX0_hand_1 15 rfl rfl)
theorem dX0_hand_38 : decode cX0_hand 38 = .ok (.aload_n 0, 1) := dk_42 (dk_at dksX0_hand_1 16 rfl rfl)
theorem dX0_hand_39 : decode cX0_hand 39 = .ok (.getfield 12, 3) := dk_180 0 12 (dk_at dksX0_hand_1 17 rfl rfl)
theorem dX0_hand_42 : decode cX0_hand 42 = .ok (.getfield 184, 3) := dk_180 0 184 (dk_at dksX0_hand_1 20 rfl rfl)
theorem dX0_hand_45 : decode cX0_hand 45 = .ok (.iload_n 1, 1) := dk_27 (dk_at dksX0_hand_1 23 rfl rfl)
theorem dX0_hand_46 : decode cX0_hand 46 = .ok (.iload_n 2, 1) := dk_28 (dk_at dksX0_hand_2 0 rfl rfl)
theorem dX0_hand_47 : decode cX0_hand 47 = .ok (.iastore, 1) := dk_79 (dk_at dksX0_hand_2 1 rfl rfl)
theorem dX0_hand_48 : decode cX0_hand 48 = .ok (.iload_n 3, 1) := dk_29 (dk_at dksX0_hand_2 2 rfl rfl)
theorem dX0_hand_49 : decode cX0_hand 49 = .ok (.ireturn, 1) := dk_172 (dk_at dksX0_hand_2 3 rfl rfl)
abbrev cX0_by : ByteArray := prog_1_method_28_code
def yX0_by : MethodName := ⟨RX0, "by", "(I)I"⟩
def dkwX0_by_1 : List UInt8 := [180, 0, 12, 27, 181, 1, 60, 28, 172]
abbrev dktX0_by_1 : List UInt8 := dkwX0_by_1 ++ []
def dkwX0_by_0 : List UInt8 := [27, 133, 10, 20, 1, 58, 184, 0, 127, 154, 0, 6, 16, 254, 172, 42, 180, 0, 12, 180, 1, 60, 61, 42]
abbrev dktX0_by_0 : List UInt8 := dkwX0_by_0 ++ dktX0_by_1
theorem dksX0_by_0 : cX0_by.data.toList.drop 0 = dktX0_by_0 := by decide +kernel
theorem dksX0_by_1 : cX0_by.data.toList.drop 24 = dktX0_by_1 := dk_seg dksX0_by_0 24 rfl rfl
theorem dX0_by_0 : decode cX0_by 0 = .ok (.iload_n 1, 1) := dk_27 (dk_at dksX0_by_0 0 rfl rfl)
theorem dX0_by_1 : decode cX0_by 1 = .ok (.i2l, 1) := dk_133 (dk_at dksX0_by_0 1 rfl rfl)
theorem dX0_by_2 : decode cX0_by 2 = .ok (.lconst 1, 1) := dk_10 (dk_at dksX0_by_0 2 rfl rfl)
theorem dX0_by_3 : decode cX0_by 3 = .ok (.ldc2_w 314, 3) := dk_20 1 58 (dk_at dksX0_by_0 3 rfl rfl)
theorem dX0_by_6 : decode cX0_by 6 = .ok (.invokestatic 127, 3) := dk_184 0 127 (dk_at dksX0_by_0 6 rfl rfl)
theorem dX0_by_9 : decode cX0_by 9 = .ok (.ifCond .ne 6, 3) := dk_154 0 6 (dk_at dksX0_by_0 9 rfl rfl)
theorem dX0_by_12 : decode cX0_by 12 = .ok (.bipush (-2), 2) := dk_16 254 (dk_at dksX0_by_0 12 rfl rfl)
theorem dX0_by_14 : decode cX0_by 14 = .ok (.ireturn, 1) := dk_172 (dk_at dksX0_by_0 14 rfl rfl)
theorem dX0_by_15 : decode cX0_by 15 = .ok (.aload_n 0, 1) := dk_42 (dk_at dksX0_by_0 15 rfl rfl)
theorem dX0_by_16 : decode cX0_by 16 = .ok (.getfield 12, 3) := dk_180 0 12 (dk_at dksX0_by_0 16 rfl rfl)
theorem dX0_by_19 : decode cX0_by 19 = .ok (.getfield 316, 3) := dk_180 1 60 (dk_at dksX0_by_0 19 rfl rfl)
theorem dX0_by_22 : decode cX0_by 22 = .ok (.istore_n 2, 1) := dk_61 (dk_at dksX0_by_0 22 rfl rfl)
theorem dX0_by_23 : decode cX0_by 23 = .ok (.aload_n 0, 1) := dk_42 (dk_at dksX0_by_0 23 rfl rfl)
theorem dX0_by_24 : decode cX0_by 24 = .ok (.getfield 12, 3) := dk_180 0 12 (dk_at dksX0_by_1 0 rfl rfl)
theorem dX0_by_27 : decode cX0_by 27 = .ok (.iload_n 1, 1) := dk_27 (dk_at dksX0_by_1 3 rfl rfl)
theorem dX0_by_28 : decode cX0_by 28 = .ok (.putfield 316, 3) := dk_181 1 60 (dk_at dksX0_by_1 4 rfl rfl)
theorem dX0_by_31 : decode cX0_by 31 = .ok (.iload_n 2, 1) := dk_28 (dk_at dksX0_by_1 7 rfl rfl)
theorem dX0_by_32 : decode cX0_by 32 = .ok (.ireturn, 1) := dk_172 (dk_at dksX0_by_1 8 rfl rfl)
abbrev cX0_points : ByteArray := prog_1_method_29_code
def yX0_points : MethodName := ⟨RX0, "points", "(I)J"⟩
def dkwX0_points_1 : List UInt8 := [182, 1, 63, 167, 0, 6, 20, 0, 232, 173]
abbrev dktX0_points_1 : List UInt8 := dkwX0_points_1 ++ []
def dkwX0_points_0 : List UInt8 := [27, 133, 9, 42, 180, 0, 12, 180, 0, 131, 133, 184, 0, 127, 153, 0, 14, 42, 180, 0, 12, 27]
abbrev dktX0_points_0 : List UInt8 := dkwX0_points_0 ++ dktX0_points_1
theorem dksX0_points_0 : cX0_points.data.toList.drop 0 = dktX0_points_0 := by decide +kernel
theorem dksX0_points_1 : cX0_points.data.toList.drop 22 = dktX0_points_1 := dk_seg dksX0_points_0 22 rfl rfl
theorem dX0_points_0 : decode cX0_points 0 = .ok (.iload_n 1, 1) := dk_27 (dk_at dksX0_points_0 0 rfl rfl)
theorem dX0_points_1 : decode cX0_points 1 = .ok (.i2l, 1) := dk_133 (dk_at dksX0_points_0 1 rfl rfl)
theorem dX0_points_2 : decode cX0_points 2 = .ok (.lconst 0, 1) := dk_9 (dk_at dksX0_points_0 2 rfl rfl)
theorem dX0_points_3 : decode cX0_points 3 = .ok (.aload_n 0, 1) := dk_42 (dk_at dksX0_points_0 3 rfl rfl)
theorem dX0_points_4 : decode cX0_points 4 = .ok (.getfield 12, 3) := dk_180 0 12 (dk_at dksX0_points_0 4 rfl rfl)
theorem dX0_points_7 : decode cX0_points 7 = .ok (.getfield 131, 3) := dk_180 0 131 (dk_at dksX0_points_0 7 rfl rfl)
theorem dX0_points_10 : decode cX0_points 10 = .ok (.i2l, 1) := dk_133 (dk_at dksX0_points_0 10 rfl rfl)
theorem dX0_points_11 : decode cX0_points 11 = .ok (.invokestatic 127, 3) := dk_184 0 127 (dk_at dksX0_points_0 11 rfl rfl)
theorem dX0_points_14 : decode cX0_points 14 = .ok (.ifCond .eq 14, 3) := dk_153 0 14 (dk_at dksX0_points_0 14 rfl rfl)
theorem dX0_points_17 : decode cX0_points 17 = .ok (.aload_n 0, 1) := dk_42 (dk_at dksX0_points_0 17 rfl rfl)
theorem dX0_points_18 : decode cX0_points 18 = .ok (.getfield 12, 3) := dk_180 0 12 (dk_at dksX0_points_0 18 rfl rfl)
theorem dX0_points_21 : decode cX0_points 21 = .ok (.iload_n 1, 1) := dk_27 (dk_at dksX0_points_0 21 rfl rfl)
theorem dX0_points_22 : decode cX0_points 22 = .ok (.invokevirtual 319, 3) := dk_182 1 63 (dk_at dksX0_points_1 0 rfl rfl)
theorem dX0_points_25 : decode cX0_points 25 = .ok (.goto 6, 3) := dk_167 0 6 (dk_at dksX0_points_1 3 rfl rfl)
theorem dX0_points_28 : decode cX0_points 28 = .ok (.ldc2_w 232, 3) := dk_20 0 232 (dk_at dksX0_points_1 6 rfl rfl)
theorem dX0_points_31 : decode cX0_points 31 = .ok (.lreturn, 1) := dk_173 (dk_at dksX0_points_1 9 rfl rfl)
abbrev cX0_bites : ByteArray := prog_1_method_30_code
def yX0_bites : MethodName := ⟨RX0, "bites", "()I"⟩
def dkwX0_bites_3 : List UInt8 := [180, 0, 27, 180, 0, 237, 105, 148, 158, 0, 7, 4, 167, 0, 4, 3, 172]
abbrev dktX0_bites_3 : List UInt8 := dkwX0_bites_3 ++ []
def dkwX0_bites_2 : List UInt8 := [132, 3, 1, 167, 255, 222, 31, 42, 180, 0, 12, 42, 180, 0, 12, 180, 0, 131, 182, 1, 63, 42]
abbrev dktX0_bites_2 : List UInt8 := dkwX0_bites_2 ++ dktX0_bites_3
def dkwX0_bites_1 : List UInt8 := [162, 0, 29, 31, 42, 180, 0, 12, 29, 182, 1, 63, 42, 180, 0, 27, 29, 182, 1, 11, 105, 97, 64]
abbrev dktX0_bites_1 : List UInt8 := dkwX0_bites_1 ++ dktX0_bites_2
def dkwX0_bites_0 : List UInt8 := [42, 180, 0, 121, 154, 0, 6, 16, 253, 172, 9, 64, 3, 62, 29, 42, 180, 0, 12, 180, 0, 131]
abbrev dktX0_bites_0 : List UInt8 := dkwX0_bites_0 ++ dktX0_bites_1
theorem dksX0_bites_0 : cX0_bites.data.toList.drop 0 = dktX0_bites_0 := by decide +kernel
theorem dksX0_bites_1 : cX0_bites.data.toList.drop 22 = dktX0_bites_1 := dk_seg dksX0_bites_0 22 rfl rfl
theorem dksX0_bites_2 : cX0_bites.data.toList.drop 45 = dktX0_bites_2 := dk_seg dksX0_bites_1 23 rfl rfl
theorem dksX0_bites_3 : cX0_bites.data.toList.drop 67 = dktX0_bites_3 := dk_seg dksX0_bites_2 22 rfl rfl
theorem dX0_bites_0 : decode cX0_bites 0 = .ok (.aload_n 0, 1) := dk_42 (dk_at dksX0_bites_0 0 rfl rfl)
theorem dX0_bites_1 : decode cX0_bites 1 = .ok (.getfield 121, 3) := dk_180 0 121 (dk_at dksX0_bites_0 1 rfl rfl)
theorem dX0_bites_4 : decode cX0_bites 4 = .ok (.ifCond .ne 6, 3) := dk_154 0 6 (dk_at dksX0_bites_0 4 rfl rfl)
theorem dX0_bites_7 : decode cX0_bites 7 = .ok (.bipush (-3), 2) := dk_16 253 (dk_at dksX0_bites_0 7 rfl rfl)
theorem dX0_bites_9 : decode cX0_bites 9 = .ok (.ireturn, 1) := dk_172 (dk_at dksX0_bites_0 9 rfl rfl)
theorem dX0_bites_10 : decode cX0_bites 10 = .ok (.lconst 0, 1) := dk_9 (dk_at dksX0_bites_0 10 rfl rfl)
theorem dX0_bites_11 : decode cX0_bites 11 = .ok (.lstore_n 1, 1) := dk_64 (dk_at dksX0_bites_0 11 rfl rfl)
theorem dX0_bites_12 : decode cX0_bites 12 = .ok (.iconst 0, 1) := dk_3 (dk_at dksX0_bites_0 12 rfl rfl)
theorem dX0_bites_13 : decode cX0_bites 13 = .ok (.istore_n 3, 1) := dk_62 (dk_at dksX0_bites_0 13 rfl rfl)
theorem dX0_bites_14 : decode cX0_bites 14 = .ok (.iload_n 3, 1) := dk_29 (dk_at dksX0_bites_0 14 rfl rfl)
theorem dX0_bites_15 : decode cX0_bites 15 = .ok (.aload_n 0, 1) := dk_42 (dk_at dksX0_bites_0 15 rfl rfl)
theorem dX0_bites_16 : decode cX0_bites 16 = .ok (.getfield 12, 3) := dk_180 0 12 (dk_at dksX0_bites_0 16 rfl rfl)
theorem dX0_bites_19 : decode cX0_bites 19 = .ok (.getfield 131, 3) := dk_180 0 131 (dk_at dksX0_bites_0 19 rfl rfl)
theorem dX0_bites_22 : decode cX0_bites 22 = .ok (.if_icmp .ge 29, 3) := dk_162 0 29 (dk_at dksX0_bites_1 0 rfl rfl)
theorem dX0_bites_25 : decode cX0_bites 25 = .ok (.lload_n 1, 1) := dk_31 (dk_at dksX0_bites_1 3 rfl rfl)
theorem dX0_bites_26 : decode cX0_bites 26 = .ok (.aload_n 0, 1) := dk_42 (dk_at dksX0_bites_1 4 rfl rfl)
theorem dX0_bites_27 : decode cX0_bites 27 = .ok (.getfield 12, 3) := dk_180 0 12 (dk_at dksX0_bites_1 5 rfl rfl)
theorem dX0_bites_30 : decode cX0_bites 30 = .ok (.iload_n 3, 1) := dk_29 (dk_at dksX0_bites_1 8 rfl rfl)
theorem dX0_bites_31 : decode cX0_bites 31 = .ok (.invokevirtual 319, 3) := dk_182 1 63 (dk_at dksX0_bites_1 9 rfl rfl)
theorem dX0_bites_34 : decode cX0_bites 34 = .ok (.aload_n 0, 1) := dk_42 (dk_at dksX0_bites_1 12 rfl rfl)
theorem dX0_bites_35 : decode cX0_bites 35 = .ok (.getfield 27, 3) := dk_180 0 27 (dk_at dksX0_bites_1 13 rfl rfl)
theorem dX0_bites_38 : decode cX0_bites 38 = .ok (.iload_n 3, 1) := dk_29 (dk_at dksX0_bites_1 16 rfl rfl)
theorem dX0_bites_39 : decode cX0_bites 39 = .ok (.invokevirtual 267, 3) := dk_182 1 11 (dk_at dksX0_bites_1 17 rfl rfl)
theorem dX0_bites_42 : decode cX0_bites 42 = .ok (.lmul, 1) := dk_105 (dk_at dksX0_bites_1 20 rfl rfl)
theorem dX0_bites_43 : decode cX0_bites 43 = .ok (.ladd, 1) := dk_97 (dk_at dksX0_bites_1 21 rfl rfl)
theorem dX0_bites_44 : decode cX0_bites 44 = .ok (.lstore_n 1, 1) := dk_64 (dk_at dksX0_bites_1 22 rfl rfl)
theorem dX0_bites_45 : decode cX0_bites 45 = .ok (.iinc 3 1, 3) := dk_132 3 1 (dk_at dksX0_bites_2 0 rfl rfl)
theorem dX0_bites_48 : decode cX0_bites 48 = .ok (.goto (-34), 3) := dk_167 255 222 (dk_at dksX0_bites_2 3 rfl rfl)
theorem dX0_bites_51 : decode cX0_bites 51 = .ok (.lload_n 1, 1) := dk_31 (dk_at dksX0_bites_2 6 rfl rfl)
theorem dX0_bites_52 : decode cX0_bites 52 = .ok (.aload_n 0, 1) := dk_42 (dk_at dksX0_bites_2 7 rfl rfl)
theorem dX0_bites_53 : decode cX0_bites 53 = .ok (.getfield 12, 3) := dk_180 0 12 (dk_at dksX0_bites_2 8 rfl rfl)
theorem dX0_bites_56 : decode cX0_bites 56 = .ok (.aload_n 0, 1) := dk_42 (dk_at dksX0_bites_2 11 rfl rfl)
theorem dX0_bites_57 : decode cX0_bites 57 = .ok (.getfield 12, 3) := dk_180 0 12 (dk_at dksX0_bites_2 12 rfl rfl)
theorem dX0_bites_60 : decode cX0_bites 60 = .ok (.getfield 131, 3) := dk_180 0 131 (dk_at dksX0_bites_2 15 rfl rfl)
theorem dX0_bites_63 : decode cX0_bites 63 = .ok (.invokevirtual 319, 3) := dk_182 1 63 (dk_at dksX0_bites_2 18 rfl rfl)
theorem dX0_bites_66 : decode cX0_bites 66 = .ok (.aload_n 0, 1) := dk_42 (dk_at dksX0_bites_2 21 rfl rfl)
theorem dX0_bites_67 : decode cX0_bites 67 = .ok (.getfield 27, 3) := dk_180 0 27 (dk_at dksX0_bites_3 0 rfl rfl)
theorem dX0_bites_70 : decode cX0_bites 70 = .ok (.getfield 237, 3) := dk_180 0 237 (dk_at dksX0_bites_3 3 rfl rfl)
theorem dX0_bites_73 : decode cX0_bites 73 = .ok (.lmul, 1) := dk_105 (dk_at dksX0_bites_3 6 rfl rfl)
theorem dX0_bites_74 : decode cX0_bites 74 = .ok (.lcmp, 1) := dk_148 (dk_at dksX0_bites_3 7 rfl rfl)
theorem dX0_bites_75 : decode cX0_bites 75 = .ok (.ifCond .le 7, 3) := dk_158 0 7 (dk_at dksX0_bites_3 8 rfl rfl)
theorem dX0_bites_78 : decode cX0_bites 78 = .ok (.iconst 1, 1) := dk_4 (dk_at dksX0_bites_3 11 rfl rfl)
theorem dX0_bites_79 : decode cX0_bites 79 = .ok (.goto 4, 3) := dk_167 0 4 (dk_at dksX0_bites_3 12 rfl rfl)
theorem dX0_bites_82 : decode cX0_bites 82 = .ok (.iconst 0, 1) := dk_3 (dk_at dksX0_bites_3 15 rfl rfl)
theorem dX0_bites_83 : decode cX0_bites 83 = .ok (.ireturn, 1) := dk_172 (dk_at dksX0_bites_3 16 rfl rfl)
abbrev cX0_box : ByteArray := prog_1_method_31_code
def yX0_box : MethodName := ⟨RX0, "box", "(I)I"⟩
def dkwX0_box_1 : List UInt8 := [180, 0, 12, 27, 181, 1, 68, 28, 172]
abbrev dktX0_box_1 : List UInt8 := dkwX0_box_1 ++ []
def dkwX0_box_0 : List UInt8 := [27, 133, 9, 20, 1, 66, 184, 0, 127, 154, 0, 6, 16, 254, 172, 42, 180, 0, 12, 180, 1, 68, 61, 42]
abbrev dktX0_box_0 : List UInt8 := dkwX0_box_0 ++ dktX0_box_1
theorem dksX0_box_0 : cX0_box.data.toList.drop 0 = dktX0_box_0 := by decide +kernel
theorem dksX0_box_1 : cX0_box.data.toList.drop 24 = dktX0_box_1 := dk_seg dksX0_box_0 24 rfl rfl
theorem dX0_box_0 : decode cX0_box 0 = .ok (.iload_n 1, 1) := dk_27 (dk_at dksX0_box_0 0 rfl rfl)
theorem dX0_box_1 : decode cX0_box 1 = .ok (.i2l, 1) := dk_133 (dk_at dksX0_box_0 1 rfl rfl)
theorem dX0_box_2 : decode cX0_box 2 = .ok (.lconst 0, 1) := dk_9 (dk_at dksX0_box_0 2 rfl rfl)
theorem dX0_box_3 : decode cX0_box 3 = .ok (.ldc2_w 322, 3) := dk_20 1 66 (dk_at dksX0_box_0 3 rfl rfl)
theorem dX0_box_6 : decode cX0_box 6 = .ok (.invokestatic 127, 3) := dk_184 0 127 (dk_at dksX0_box_0 6 rfl rfl)
theorem dX0_box_9 : decode cX0_box 9 = .ok (.ifCond .ne 6, 3) := dk_154 0 6 (dk_at dksX0_box_0 9 rfl rfl)
theorem dX0_box_12 : decode cX0_box 12 = .ok (.bipush (-2), 2) := dk_16 254 (dk_at dksX0_box_0 12 rfl rfl)
theorem dX0_box_14 : decode cX0_box 14 = .ok (.ireturn, 1) := dk_172 (dk_at dksX0_box_0 14 rfl rfl)
theorem dX0_box_15 : decode cX0_box 15 = .ok (.aload_n 0, 1) := dk_42 (dk_at dksX0_box_0 15 rfl rfl)
theorem dX0_box_16 : decode cX0_box 16 = .ok (.getfield 12, 3) := dk_180 0 12 (dk_at dksX0_box_0 16 rfl rfl)
theorem dX0_box_19 : decode cX0_box 19 = .ok (.getfield 324, 3) := dk_180 1 68 (dk_at dksX0_box_0 19 rfl rfl)
theorem dX0_box_22 : decode cX0_box 22 = .ok (.istore_n 2, 1) := dk_61 (dk_at dksX0_box_0 22 rfl rfl)
theorem dX0_box_23 : decode cX0_box 23 = .ok (.aload_n 0, 1) := dk_42 (dk_at dksX0_box_0 23 rfl rfl)
theorem dX0_box_24 : decode cX0_box 24 = .ok (.getfield 12, 3) := dk_180 0 12 (dk_at dksX0_box_1 0 rfl rfl)
theorem dX0_box_27 : decode cX0_box 27 = .ok (.iload_n 1, 1) := dk_27 (dk_at dksX0_box_1 3 rfl rfl)
theorem dX0_box_28 : decode cX0_box 28 = .ok (.putfield 324, 3) := dk_181 1 68 (dk_at dksX0_box_1 4 rfl rfl)
theorem dX0_box_31 : decode cX0_box 31 = .ok (.iload_n 2, 1) := dk_28 (dk_at dksX0_box_1 7 rfl rfl)
theorem dX0_box_32 : decode cX0_box 32 = .ok (.ireturn, 1) := dk_172 (dk_at dksX0_box_1 8 rfl rfl)
abbrev cX0_nth : ByteArray := prog_1_method_39_code
def yX0_nth : MethodName := ⟨RX0, "nth", "(I)I"⟩
def dkwX0_nth_2 : List UInt8 := [167, 0, 16, 42, 180, 0, 78, 182, 1, 109, 192, 0, 64, 180, 1, 130, 172]
abbrev dktX0_nth_2 : List UInt8 := dkwX0_nth_2 ++ []
def dkwX0_nth_1 : List UInt8 := [27, 186, 1, 123, 0, 0, 182, 1, 126, 42, 180, 0, 78, 182, 1, 97, 27, 163, 0, 8, 16, 251]
abbrev dktX0_nth_1 : List UInt8 := dkwX0_nth_1 ++ dktX0_nth_2
def dkwX0_nth_0 : List UInt8 := [27, 133, 9, 20, 1, 120, 184, 0, 127, 154, 0, 6, 16, 254, 172, 42, 180, 0, 78, 182, 1, 122, 42, 42]
abbrev dktX0_nth_0 : List UInt8 := dkwX0_nth_0 ++ dktX0_nth_1
theorem dksX0_nth_0 : cX0_nth.data.toList.drop 0 = dktX0_nth_0 := by decide +kernel
theorem dksX0_nth_1 : cX0_nth.data.toList.drop 24 = dktX0_nth_1 := dk_seg dksX0_nth_0 24 rfl rfl
theorem dksX0_nth_2 : cX0_nth.data.toList.drop 46 = dktX0_nth_2 := dk_seg dksX0_nth_1 22 rfl rfl
theorem dX0_nth_0 : decode cX0_nth 0 = .ok (.iload_n 1, 1) := dk_27 (dk_at dksX0_nth_0 0 rfl rfl)
theorem dX0_nth_1 : decode cX0_nth 1 = .ok (.i2l, 1) := dk_133 (dk_at dksX0_nth_0 1 rfl rfl)
theorem dX0_nth_2 : decode cX0_nth 2 = .ok (.lconst 0, 1) := dk_9 (dk_at dksX0_nth_0 2 rfl rfl)
theorem dX0_nth_3 : decode cX0_nth 3 = .ok (.ldc2_w 376, 3) := dk_20 1 120 (dk_at dksX0_nth_0 3 rfl rfl)
theorem dX0_nth_6 : decode cX0_nth 6 = .ok (.invokestatic 127, 3) := dk_184 0 127 (dk_at dksX0_nth_0 6 rfl rfl)
theorem dX0_nth_9 : decode cX0_nth 9 = .ok (.ifCond .ne 6, 3) := dk_154 0 6 (dk_at dksX0_nth_0 9 rfl rfl)
theorem dX0_nth_12 : decode cX0_nth 12 = .ok (.bipush (-2), 2) := dk_16 254 (dk_at dksX0_nth_0 12 rfl rfl)
theorem dX0_nth_14 : decode cX0_nth 14 = .ok (.ireturn, 1) := dk_172 (dk_at dksX0_nth_0 14 rfl rfl)
theorem dX0_nth_15 : decode cX0_nth 15 = .ok (.aload_n 0, 1) := dk_42 (dk_at dksX0_nth_0 15 rfl rfl)
theorem dX0_nth_16 : decode cX0_nth 16 = .ok (.getfield 78, 3) := dk_180 0 78 (dk_at dksX0_nth_0 16 rfl rfl)
theorem dX0_nth_19 : decode cX0_nth 19 = .ok (.invokevirtual 378, 3) := dk_182 1 122 (dk_at dksX0_nth_0 19 rfl rfl)
theorem dX0_nth_22 : decode cX0_nth 22 = .ok (.aload_n 0, 1) := dk_42 (dk_at dksX0_nth_0 22 rfl rfl)
theorem dX0_nth_23 : decode cX0_nth 23 = .ok (.aload_n 0, 1) := dk_42 (dk_at dksX0_nth_0 23 rfl rfl)
theorem dX0_nth_24 : decode cX0_nth 24 = .ok (.iload_n 1, 1) := dk_27 (dk_at dksX0_nth_1 0 rfl rfl)
theorem dX0_nth_25 : decode cX0_nth 25 = .ok (.invokedynamic 379, 5) := by decide +kernel
theorem dX0_nth_30 : decode cX0_nth 30 = .ok (.invokevirtual 382, 3) := dk_182 1 126 (dk_at dksX0_nth_1 6 rfl rfl)
theorem dX0_nth_33 : decode cX0_nth 33 = .ok (.aload_n 0, 1) := dk_42 (dk_at dksX0_nth_1 9 rfl rfl)
theorem dX0_nth_34 : decode cX0_nth 34 = .ok (.getfield 78, 3) := dk_180 0 78 (dk_at dksX0_nth_1 10 rfl rfl)
theorem dX0_nth_37 : decode cX0_nth 37 = .ok (.invokevirtual 353, 3) := dk_182 1 97 (dk_at dksX0_nth_1 13 rfl rfl)
theorem dX0_nth_40 : decode cX0_nth 40 = .ok (.iload_n 1, 1) := dk_27 (dk_at dksX0_nth_1 16 rfl rfl)
theorem dX0_nth_41 : decode cX0_nth 41 = .ok (.if_icmp .gt 8, 3) := dk_163 0 8 (dk_at dksX0_nth_1 17 rfl rfl)
theorem dX0_nth_44 : decode cX0_nth 44 = .ok (.bipush (-5), 2) := dk_16 251 (dk_at dksX0_nth_1 20 rfl rfl)
theorem dX0_nth_46 : decode cX0_nth 46 = .ok (.goto 16, 3) := dk_167 0 16 (dk_at dksX0_nth_2 0 rfl rfl)
theorem dX0_nth_49 : decode cX0_nth 49 = .ok (.aload_n 0, 1) := dk_42 (dk_at dksX0_nth_2 3 rfl rfl)
theorem dX0_nth_50 : decode cX0_nth 50 = .ok (.getfield 78, 3) := dk_180 0 78 (dk_at dksX0_nth_2 4 rfl rfl)
theorem dX0_nth_53 : decode cX0_nth 53 = .ok (.invokevirtual 365, 3) := dk_182 1 109 (dk_at dksX0_nth_2 7 rfl rfl)
theorem dX0_nth_56 : decode cX0_nth 56 = .ok (.checkcast 64, 3) := dk_192 0 64 (dk_at dksX0_nth_2 10 rfl rfl)
theorem dX0_nth_59 : decode cX0_nth 59 = .ok (.getfield 386, 3) := dk_180 1 130 (dk_at dksX0_nth_2 13 rfl rfl)
theorem dX0_nth_62 : decode cX0_nth 62 = .ok (.ireturn, 1) := dk_172 (dk_at dksX0_nth_2 16 rfl rfl)
abbrev cX0_lambda_nth_3 : ByteArray := prog_1_method_81_code
def yX0_lambda_nth_3 : MethodName := ⟨RX0, "lambda$nth$3", "(IIII)Z"⟩
def dkwX0_lambda_nth_3_0 : List UInt8 := [21, 4, 157, 0, 15, 42, 27, 4, 96, 28, 29, 182, 2, 99, 153, 0, 7, 4, 167, 0, 4, 3, 172]
abbrev dktX0_lambda_nth_3_0 : List UInt8 := dkwX0_lambda_nth_3_0 ++ []
theorem dksX0_lambda_nth_3_0 : cX0_lambda_nth_3.data.toList.drop 0 = dktX0_lambda_nth_3_0 := by decide +kernel
theorem dX0_lambda_nth_3_0 : decode cX0_lambda_nth_3 0 = .ok (.iload 4, 2) := dk_21 4 (dk_at dksX0_lambda_nth_3_0 0 rfl rfl)
theorem dX0_lambda_nth_3_2 : decode cX0_lambda_nth_3 2 = .ok (.ifCond .gt 15, 3) := dk_157 0 15 (dk_at dksX0_lambda_nth_3_0 2 rfl rfl)
theorem dX0_lambda_nth_3_5 : decode cX0_lambda_nth_3 5 = .ok (.aload_n 0, 1) := dk_42 (dk_at dksX0_lambda_nth_3_0 5 rfl rfl)
theorem dX0_lambda_nth_3_6 : decode cX0_lambda_nth_3 6 = .ok (.iload_n 1, 1) := dk_27 (dk_at dksX0_lambda_nth_3_0 6 rfl rfl)
theorem dX0_lambda_nth_3_7 : decode cX0_lambda_nth_3 7 = .ok (.iconst 1, 1) := dk_4 (dk_at dksX0_lambda_nth_3_0 7 rfl rfl)
theorem dX0_lambda_nth_3_8 : decode cX0_lambda_nth_3 8 = .ok (.iadd, 1) := dk_96 (dk_at dksX0_lambda_nth_3_0 8 rfl rfl)
theorem dX0_lambda_nth_3_9 : decode cX0_lambda_nth_3 9 = .ok (.iload_n 2, 1) := dk_28 (dk_at dksX0_lambda_nth_3_0 9 rfl rfl)
theorem dX0_lambda_nth_3_10 : decode cX0_lambda_nth_3 10 = .ok (.iload_n 3, 1) := dk_29 (dk_at dksX0_lambda_nth_3_0 10 rfl rfl)
theorem dX0_lambda_nth_3_11 : decode cX0_lambda_nth_3 11 = .ok (.invokevirtual 611, 3) := dk_182 2 99 (dk_at dksX0_lambda_nth_3_0 11 rfl rfl)
theorem dX0_lambda_nth_3_14 : decode cX0_lambda_nth_3 14 = .ok (.ifCond .eq 7, 3) := dk_153 0 7 (dk_at dksX0_lambda_nth_3_0 14 rfl rfl)
theorem dX0_lambda_nth_3_17 : decode cX0_lambda_nth_3 17 = .ok (.iconst 1, 1) := dk_4 (dk_at dksX0_lambda_nth_3_0 17 rfl rfl)
theorem dX0_lambda_nth_3_18 : decode cX0_lambda_nth_3 18 = .ok (.goto 4, 3) := dk_167 0 4 (dk_at dksX0_lambda_nth_3_0 18 rfl rfl)
theorem dX0_lambda_nth_3_21 : decode cX0_lambda_nth_3 21 = .ok (.iconst 0, 1) := dk_3 (dk_at dksX0_lambda_nth_3_0 21 rfl rfl)
theorem dX0_lambda_nth_3_22 : decode cX0_lambda_nth_3 22 = .ok (.ireturn, 1) := dk_172 (dk_at dksX0_lambda_nth_3_0 22 rfl rfl)
abbrev cX0_keeps : ByteArray := prog_1_method_38_code
def yX0_keeps : MethodName := ⟨RX0, "keeps", "(III)Z"⟩
def dkwX0_keeps_3 : List UInt8 := [192, 0, 64, 58, 4, 25, 4, 29, 28, 182, 1, 101, 42, 180, 0, 78, 25, 4, 182, 1, 105, 87, 4, 172]
abbrev dktX0_keeps_3 : List UInt8 := dkwX0_keeps_3 ++ []
def dkwX0_keeps_2 : List UInt8 := [180, 0, 78, 182, 1, 109, 192, 0, 64, 29, 28, 182, 1, 113, 153, 0, 32, 42, 180, 0, 78, 182, 1, 117]
abbrev dktX0_keeps_2 : List UInt8 := dkwX0_keeps_2 ++ dktX0_keeps_3
def dkwX0_keeps_1 : List UInt8 := [58, 4, 25, 4, 29, 28, 182, 1, 101, 42, 180, 0, 78, 25, 4, 182, 1, 105, 87, 4, 172, 42]
abbrev dktX0_keeps_1 : List UInt8 := dkwX0_keeps_1 ++ dktX0_keeps_2
def dkwX0_keeps_0 : List UInt8 := [42, 180, 0, 78, 182, 1, 97, 27, 162, 0, 36, 42, 180, 0, 66, 42, 180, 0, 78, 182, 1, 97, 50]
abbrev dktX0_keeps_0 : List UInt8 := dkwX0_keeps_0 ++ dktX0_keeps_1
theorem dksX0_keeps_0 : cX0_keeps.data.toList.drop 0 = dktX0_keeps_0 := by decide +kernel
theorem dksX0_keeps_1 : cX0_keeps.data.toList.drop 23 = dktX0_keeps_1 := dk_seg dksX0_keeps_0 23 rfl rfl
theorem dksX0_keeps_2 : cX0_keeps.data.toList.drop 45 = dktX0_keeps_2 := dk_seg dksX0_keeps_1 22 rfl rfl
theorem dksX0_keeps_3 : cX0_keeps.data.toList.drop 69 = dktX0_keeps_3 := dk_seg dksX0_keeps_2 24 rfl rfl
theorem dX0_keeps_0 : decode cX0_keeps 0 = .ok (.aload_n 0, 1) := dk_42 (dk_at dksX0_keeps_0 0 rfl rfl)
theorem dX0_keeps_1 : decode cX0_keeps 1 = .ok (.getfield 78, 3) := dk_180 0 78 (dk_at dksX0_keeps_0 1 rfl rfl)
theorem dX0_keeps_4 : decode cX0_keeps 4 = .ok (.invokevirtual 353, 3) := dk_182 1 97 (dk_at dksX0_keeps_0 4 rfl rfl)
theorem dX0_keeps_7 : decode cX0_keeps 7 = .ok (.iload_n 1, 1) := dk_27 (dk_at dksX0_keeps_0 7 rfl rfl)
theorem dX0_keeps_8 : decode cX0_keeps 8 = .ok (.if_icmp .ge 36, 3) := dk_162 0 36 (dk_at dksX0_keeps_0 8 rfl rfl)
theorem dX0_keeps_11 : decode cX0_keeps 11 = .ok (.aload_n 0, 1) := dk_42 (dk_at dksX0_keeps_0 11 rfl rfl)
theorem dX0_keeps_12 : decode cX0_keeps 12 = .ok (.getfield 66, 3) := dk_180 0 66 (dk_at dksX0_keeps_0 12 rfl rfl)
theorem dX0_keeps_15 : decode cX0_keeps 15 = .ok (.aload_n 0, 1) := dk_42 (dk_at dksX0_keeps_0 15 rfl rfl)
theorem dX0_keeps_16 : decode cX0_keeps 16 = .ok (.getfield 78, 3) := dk_180 0 78 (dk_at dksX0_keeps_0 16 rfl rfl)
theorem dX0_keeps_19 : decode cX0_keeps 19 = .ok (.invokevirtual 353, 3) := dk_182 1 97 (dk_at dksX0_keeps_0 19 rfl rfl)
theorem dX0_keeps_22 : decode cX0_keeps 22 = .ok (.aaload, 1) := dk_50 (dk_at dksX0_keeps_0 22 rfl rfl)
theorem dX0_keeps_23 : decode cX0_keeps 23 = .ok (.astore 4, 2) := dk_58 4 (dk_at dksX0_keeps_1 0 rfl rfl)
theorem dX0_keeps_25 : decode cX0_keeps 25 = .ok (.aload 4, 2) := dk_25 4 (dk_at dksX0_keeps_1 2 rfl rfl)
theorem dX0_keeps_27 : decode cX0_keeps 27 = .ok (.iload_n 3, 1) := dk_29 (dk_at dksX0_keeps_1 4 rfl rfl)
theorem dX0_keeps_28 : decode cX0_keeps 28 = .ok (.iload_n 2, 1) := dk_28 (dk_at dksX0_keeps_1 5 rfl rfl)
theorem dX0_keeps_29 : decode cX0_keeps 29 = .ok (.invokevirtual 357, 3) := dk_182 1 101 (dk_at dksX0_keeps_1 6 rfl rfl)
theorem dX0_keeps_32 : decode cX0_keeps 32 = .ok (.aload_n 0, 1) := dk_42 (dk_at dksX0_keeps_1 9 rfl rfl)
theorem dX0_keeps_33 : decode cX0_keeps 33 = .ok (.getfield 78, 3) := dk_180 0 78 (dk_at dksX0_keeps_1 10 rfl rfl)
theorem dX0_keeps_36 : decode cX0_keeps 36 = .ok (.aload 4, 2) := dk_25 4 (dk_at dksX0_keeps_1 13 rfl rfl)
theorem dX0_keeps_38 : decode cX0_keeps 38 = .ok (.invokevirtual 361, 3) := dk_182 1 105 (dk_at dksX0_keeps_1 15 rfl rfl)
theorem dX0_keeps_41 : decode cX0_keeps 41 = .ok (.pop, 1) := dk_87 (dk_at dksX0_keeps_1 18 rfl rfl)
theorem dX0_keeps_42 : decode cX0_keeps 42 = .ok (.iconst 1, 1) := dk_4 (dk_at dksX0_keeps_1 19 rfl rfl)
theorem dX0_keeps_43 : decode cX0_keeps 43 = .ok (.ireturn, 1) := dk_172 (dk_at dksX0_keeps_1 20 rfl rfl)
theorem dX0_keeps_44 : decode cX0_keeps 44 = .ok (.aload_n 0, 1) := dk_42 (dk_at dksX0_keeps_1 21 rfl rfl)
theorem dX0_keeps_45 : decode cX0_keeps 45 = .ok (.getfield 78, 3) := dk_180 0 78 (dk_at dksX0_keeps_2 0 rfl rfl)
theorem dX0_keeps_48 : decode cX0_keeps 48 = .ok (.invokevirtual 365, 3) := dk_182 1 109 (dk_at dksX0_keeps_2 3 rfl rfl)
theorem dX0_keeps_51 : decode cX0_keeps 51 = .ok (.checkcast 64, 3) := dk_192 0 64 (dk_at dksX0_keeps_2 6 rfl rfl)
theorem dX0_keeps_54 : decode cX0_keeps 54 = .ok (.iload_n 3, 1) := dk_29 (dk_at dksX0_keeps_2 9 rfl rfl)
theorem dX0_keeps_55 : decode cX0_keeps 55 = .ok (.iload_n 2, 1) := dk_28 (dk_at dksX0_keeps_2 10 rfl rfl)
theorem dX0_keeps_56 : decode cX0_keeps 56 = .ok (.invokevirtual 369, 3) := dk_182 1 113 (dk_at dksX0_keeps_2 11 rfl rfl)
theorem dX0_keeps_59 : decode cX0_keeps 59 = .ok (.ifCond .eq 32, 3) := dk_153 0 32 (dk_at dksX0_keeps_2 14 rfl rfl)
theorem dX0_keeps_62 : decode cX0_keeps 62 = .ok (.aload_n 0, 1) := dk_42 (dk_at dksX0_keeps_2 17 rfl rfl)
theorem dX0_keeps_63 : decode cX0_keeps 63 = .ok (.getfield 78, 3) := dk_180 0 78 (dk_at dksX0_keeps_2 18 rfl rfl)
theorem dX0_keeps_66 : decode cX0_keeps 66 = .ok (.invokevirtual 373, 3) := dk_182 1 117 (dk_at dksX0_keeps_2 21 rfl rfl)
theorem dX0_keeps_69 : decode cX0_keeps 69 = .ok (.checkcast 64, 3) := dk_192 0 64 (dk_at dksX0_keeps_3 0 rfl rfl)
theorem dX0_keeps_72 : decode cX0_keeps 72 = .ok (.astore 4, 2) := dk_58 4 (dk_at dksX0_keeps_3 3 rfl rfl)
theorem dX0_keeps_74 : decode cX0_keeps 74 = .ok (.aload 4, 2) := dk_25 4 (dk_at dksX0_keeps_3 5 rfl rfl)
theorem dX0_keeps_76 : decode cX0_keeps 76 = .ok (.iload_n 3, 1) := dk_29 (dk_at dksX0_keeps_3 7 rfl rfl)
theorem dX0_keeps_77 : decode cX0_keeps 77 = .ok (.iload_n 2, 1) := dk_28 (dk_at dksX0_keeps_3 8 rfl rfl)
theorem dX0_keeps_78 : decode cX0_keeps 78 = .ok (.invokevirtual 357, 3) := dk_182 1 101 (dk_at dksX0_keeps_3 9 rfl rfl)
theorem dX0_keeps_81 : decode cX0_keeps 81 = .ok (.aload_n 0, 1) := dk_42 (dk_at dksX0_keeps_3 12 rfl rfl)
theorem dX0_keeps_82 : decode cX0_keeps 82 = .ok (.getfield 78, 3) := dk_180 0 78 (dk_at dksX0_keeps_3 13 rfl rfl)
theorem dX0_keeps_85 : decode cX0_keeps 85 = .ok (.aload 4, 2) := dk_25 4 (dk_at dksX0_keeps_3 16 rfl rfl)
theorem dX0_keeps_87 : decode cX0_keeps 87 = .ok (.invokevirtual 361, 3) := dk_182 1 105 (dk_at dksX0_keeps_3 18 rfl rfl)
theorem dX0_keeps_90 : decode cX0_keeps 90 = .ok (.pop, 1) := dk_87 (dk_at dksX0_keeps_3 21 rfl rfl)
theorem dX0_keeps_91 : decode cX0_keeps 91 = .ok (.iconst 1, 1) := dk_4 (dk_at dksX0_keeps_3 22 rfl rfl)
theorem dX0_keeps_92 : decode cX0_keeps 92 = .ok (.ireturn, 1) := dk_172 (dk_at dksX0_keeps_3 23 rfl rfl)
abbrev cX0_goesThrough : ByteArray := prog_1_method_37_code
def yX0_goesThrough : MethodName := ⟨RX0, "goesThrough", "(LWholePacks$Look;)V"⟩
def dkwX0_goesThrough_3 : List UInt8 := [182, 1, 77, 185, 1, 81, 4, 0, 61, 167, 255, 214, 177]
abbrev dktX0_goesThrough_3 : List UInt8 := dkwX0_goesThrough_3 ++ []
def dkwX0_goesThrough_2 : List UInt8 := [43, 42, 42, 180, 0, 60, 182, 1, 91, 42, 42, 180, 0, 60, 182, 1, 94, 42, 42, 180, 0, 60]
abbrev dktX0_goesThrough_2 : List UInt8 := dkwX0_goesThrough_2 ++ dktX0_goesThrough_3
def dkwX0_goesThrough_1 : List UInt8 := [42, 180, 0, 60, 182, 1, 77, 185, 1, 81, 4, 0, 61, 28, 153, 0, 44, 42, 182, 1, 87, 153, 0, 37]
abbrev dktX0_goesThrough_1 : List UInt8 := dkwX0_goesThrough_1 ++ dktX0_goesThrough_2
def dkwX0_goesThrough_0 : List UInt8 := [3, 61, 28, 8, 162, 0, 16, 42, 180, 0, 60, 28, 3, 79, 132, 2, 1, 167, 255, 241, 43, 3, 3, 42]
abbrev dktX0_goesThrough_0 : List UInt8 := dkwX0_goesThrough_0 ++ dktX0_goesThrough_1
theorem dksX0_goesThrough_0 : cX0_goesThrough.data.toList.drop 0 = dktX0_goesThrough_0 := by decide +kernel
theorem dksX0_goesThrough_1 : cX0_goesThrough.data.toList.drop 24 = dktX0_goesThrough_1 := dk_seg dksX0_goesThrough_0 24 rfl rfl
theorem dksX0_goesThrough_2 : cX0_goesThrough.data.toList.drop 48 = dktX0_goesThrough_2 := dk_seg dksX0_goesThrough_1 24 rfl rfl
theorem dksX0_goesThrough_3 : cX0_goesThrough.data.toList.drop 70 = dktX0_goesThrough_3 := dk_seg dksX0_goesThrough_2 22 rfl rfl
theorem dX0_goesThrough_0 : decode cX0_goesThrough 0 = .ok (.iconst 0, 1) := dk_3 (dk_at dksX0_goesThrough_0 0 rfl rfl)
theorem dX0_goesThrough_1 : decode cX0_goesThrough 1 = .ok (.istore_n 2, 1) := dk_61 (dk_at dksX0_goesThrough_0 1 rfl rfl)
theorem dX0_goesThrough_2 : decode cX0_goesThrough 2 = .ok (.iload_n 2, 1) := dk_28 (dk_at dksX0_goesThrough_0 2 rfl rfl)
theorem dX0_goesThrough_3 : decode cX0_goesThrough 3 = .ok (.iconst 5, 1) := dk_8 (dk_at dksX0_goesThrough_0 3 rfl rfl)
theorem dX0_goesThrough_4 : decode cX0_goesThrough 4 = .ok (.if_icmp .ge 16, 3) := dk_162 0 16 (dk_at dksX0_goesThrough_0 4 rfl rfl)
theorem dX0_goesThrough_7 : decode cX0_goesThrough 7 = .ok (.aload_n 0, 1) := dk_42 (dk_at dksX0_goesThrough_0 7 rfl rfl)
theorem dX0_goesThrough_8 : decode cX0_goesThrough 8 = .ok (.getfield 60, 3) := dk_180 0 60 (dk_at dksX0_goesThrough_0 8 rfl rfl)
theorem dX0_goesThrough_11 : decode cX0_goesThrough 11 = .ok (.iload_n 2, 1) := dk_28 (dk_at dksX0_goesThrough_0 11 rfl rfl)
theorem dX0_goesThrough_12 : decode cX0_goesThrough 12 = .ok (.iconst 0, 1) := dk_3 (dk_at dksX0_goesThrough_0 12 rfl rfl)
theorem dX0_goesThrough_13 : decode cX0_goesThrough 13 = .ok (.iastore, 1) := dk_79 (dk_at dksX0_goesThrough_0 13 rfl rfl)
theorem dX0_goesThrough_14 : decode cX0_goesThrough 14 = .ok (.iinc 2 1, 3) := dk_132 2 1 (dk_at dksX0_goesThrough_0 14 rfl rfl)
theorem dX0_goesThrough_17 : decode cX0_goesThrough 17 = .ok (.goto (-15), 3) := dk_167 255 241 (dk_at dksX0_goesThrough_0 17 rfl rfl)
theorem dX0_goesThrough_20 : decode cX0_goesThrough 20 = .ok (.aload_n 1, 1) := dk_43 (dk_at dksX0_goesThrough_0 20 rfl rfl)
theorem dX0_goesThrough_21 : decode cX0_goesThrough 21 = .ok (.iconst 0, 1) := dk_3 (dk_at dksX0_goesThrough_0 21 rfl rfl)
theorem dX0_goesThrough_22 : decode cX0_goesThrough 22 = .ok (.iconst 0, 1) := dk_3 (dk_at dksX0_goesThrough_0 22 rfl rfl)
theorem dX0_goesThrough_23 : decode cX0_goesThrough 23 = .ok (.aload_n 0, 1) := dk_42 (dk_at dksX0_goesThrough_0 23 rfl rfl)
theorem dX0_goesThrough_24 : decode cX0_goesThrough 24 = .ok (.aload_n 0, 1) := dk_42 (dk_at dksX0_goesThrough_1 0 rfl rfl)
theorem dX0_goesThrough_25 : decode cX0_goesThrough 25 = .ok (.getfield 60, 3) := dk_180 0 60 (dk_at dksX0_goesThrough_1 1 rfl rfl)
theorem dX0_goesThrough_28 : decode cX0_goesThrough 28 = .ok (.invokevirtual 333, 3) := dk_182 1 77 (dk_at dksX0_goesThrough_1 4 rfl rfl)
theorem dX0_goesThrough_31 : decode cX0_goesThrough 31 = .ok (.invokeinterface 337 4, 5) := by decide +kernel
theorem dX0_goesThrough_36 : decode cX0_goesThrough 36 = .ok (.istore_n 2, 1) := dk_61 (dk_at dksX0_goesThrough_1 12 rfl rfl)
theorem dX0_goesThrough_37 : decode cX0_goesThrough 37 = .ok (.iload_n 2, 1) := dk_28 (dk_at dksX0_goesThrough_1 13 rfl rfl)
theorem dX0_goesThrough_38 : decode cX0_goesThrough 38 = .ok (.ifCond .eq 44, 3) := dk_153 0 44 (dk_at dksX0_goesThrough_1 14 rfl rfl)
theorem dX0_goesThrough_41 : decode cX0_goesThrough 41 = .ok (.aload_n 0, 1) := dk_42 (dk_at dksX0_goesThrough_1 17 rfl rfl)
theorem dX0_goesThrough_42 : decode cX0_goesThrough 42 = .ok (.invokevirtual 343, 3) := dk_182 1 87 (dk_at dksX0_goesThrough_1 18 rfl rfl)
theorem dX0_goesThrough_45 : decode cX0_goesThrough 45 = .ok (.ifCond .eq 37, 3) := dk_153 0 37 (dk_at dksX0_goesThrough_1 21 rfl rfl)
theorem dX0_goesThrough_48 : decode cX0_goesThrough 48 = .ok (.aload_n 1, 1) := dk_43 (dk_at dksX0_goesThrough_2 0 rfl rfl)
theorem dX0_goesThrough_49 : decode cX0_goesThrough 49 = .ok (.aload_n 0, 1) := dk_42 (dk_at dksX0_goesThrough_2 1 rfl rfl)
theorem dX0_goesThrough_50 : decode cX0_goesThrough 50 = .ok (.aload_n 0, 1) := dk_42 (dk_at dksX0_goesThrough_2 2 rfl rfl)
theorem dX0_goesThrough_51 : decode cX0_goesThrough 51 = .ok (.getfield 60, 3) := dk_180 0 60 (dk_at dksX0_goesThrough_2 3 rfl rfl)
theorem dX0_goesThrough_54 : decode cX0_goesThrough 54 = .ok (.invokevirtual 347, 3) := dk_182 1 91 (dk_at dksX0_goesThrough_2 6 rfl rfl)
theorem dX0_goesThrough_57 : decode cX0_goesThrough 57 = .ok (.aload_n 0, 1) := dk_42 (dk_at dksX0_goesThrough_2 9 rfl rfl)
theorem dX0_goesThrough_58 : decode cX0_goesThrough 58 = .ok (.aload_n 0, 1) := dk_42 (dk_at dksX0_goesThrough_2 10 rfl rfl)
theorem dX0_goesThrough_59 : decode cX0_goesThrough 59 = .ok (.getfield 60, 3) := dk_180 0 60 (dk_at dksX0_goesThrough_2 11 rfl rfl)
theorem dX0_goesThrough_62 : decode cX0_goesThrough 62 = .ok (.invokevirtual 350, 3) := dk_182 1 94 (dk_at dksX0_goesThrough_2 14 rfl rfl)
theorem dX0_goesThrough_65 : decode cX0_goesThrough 65 = .ok (.aload_n 0, 1) := dk_42 (dk_at dksX0_goesThrough_2 17 rfl rfl)
theorem dX0_goesThrough_66 : decode cX0_goesThrough 66 = .ok (.aload_n 0, 1) := dk_42 (dk_at dksX0_goesThrough_2 18 rfl rfl)
theorem dX0_goesThrough_67 : decode cX0_goesThrough 67 = .ok (.getfield 60, 3) := dk_180 0 60 (dk_at dksX0_goesThrough_2 19 rfl rfl)
theorem dX0_goesThrough_70 : decode cX0_goesThrough 70 = .ok (.invokevirtual 333, 3) := dk_182 1 77 (dk_at dksX0_goesThrough_3 0 rfl rfl)
theorem dX0_goesThrough_73 : decode cX0_goesThrough 73 = .ok (.invokeinterface 337 4, 5) := by decide +kernel
theorem dX0_goesThrough_78 : decode cX0_goesThrough 78 = .ok (.istore_n 2, 1) := dk_61 (dk_at dksX0_goesThrough_3 8 rfl rfl)
theorem dX0_goesThrough_79 : decode cX0_goesThrough 79 = .ok (.goto (-42), 3) := dk_167 255 214 (dk_at dksX0_goesThrough_3 9 rfl rfl)
theorem dX0_goesThrough_82 : decode cX0_goesThrough 82 = .ok (.return_, 1) := dk_177 (dk_at dksX0_goesThrough_3 12 rfl rfl)
abbrev cX0_brokenBy : ByteArray := prog_1_method_34_code
def yX0_brokenBy : MethodName := ⟨RX0, "brokenBy", "([I)I"⟩
def dkwX0_brokenBy_1 : List UInt8 := [29, 50, 43, 182, 1, 73, 153, 0, 7, 4, 167, 0, 4, 3, 96, 61, 132, 3, 1, 167, 255, 217, 28, 172]
abbrev dktX0_brokenBy_1 : List UInt8 := dkwX0_brokenBy_1 ++ []
def dkwX0_brokenBy_0 : List UInt8 := [3, 61, 3, 62, 29, 42, 180, 0, 12, 180, 0, 158, 162, 0, 34, 28, 42, 42, 180, 0, 12, 180, 0, 172]
abbrev dktX0_brokenBy_0 : List UInt8 := dkwX0_brokenBy_0 ++ dktX0_brokenBy_1
theorem dksX0_brokenBy_0 : cX0_brokenBy.data.toList.drop 0 = dktX0_brokenBy_0 := by decide +kernel
theorem dksX0_brokenBy_1 : cX0_brokenBy.data.toList.drop 24 = dktX0_brokenBy_1 := dk_seg dksX0_brokenBy_0 24 rfl rfl
theorem dX0_brokenBy_0 : decode cX0_brokenBy 0 = .ok (.iconst 0, 1) := dk_3 (dk_at dksX0_brokenBy_0 0 rfl rfl)
theorem dX0_brokenBy_1 : decode cX0_brokenBy 1 = .ok (.istore_n 2, 1) := dk_61 (dk_at dksX0_brokenBy_0 1 rfl rfl)
theorem dX0_brokenBy_2 : decode cX0_brokenBy 2 = .ok (.iconst 0, 1) := dk_3 (dk_at dksX0_brokenBy_0 2 rfl rfl)
theorem dX0_brokenBy_3 : decode cX0_brokenBy 3 = .ok (.istore_n 3, 1) := dk_62 (dk_at dksX0_brokenBy_0 3 rfl rfl)
theorem dX0_brokenBy_4 : decode cX0_brokenBy 4 = .ok (.iload_n 3, 1) := dk_29 (dk_at dksX0_brokenBy_0 4 rfl rfl)
theorem dX0_brokenBy_5 : decode cX0_brokenBy 5 = .ok (.aload_n 0, 1) := dk_42 (dk_at dksX0_brokenBy_0 5 rfl rfl)
theorem dX0_brokenBy_6 : decode cX0_brokenBy 6 = .ok (.getfield 12, 3) := dk_180 0 12 (dk_at dksX0_brokenBy_0 6 rfl rfl)
theorem dX0_brokenBy_9 : decode cX0_brokenBy 9 = .ok (.getfield 158, 3) := dk_180 0 158 (dk_at dksX0_brokenBy_0 9 rfl rfl)
theorem dX0_brokenBy_12 : decode cX0_brokenBy 12 = .ok (.if_icmp .ge 34, 3) := dk_162 0 34 (dk_at dksX0_brokenBy_0 12 rfl rfl)
theorem dX0_brokenBy_15 : decode cX0_brokenBy 15 = .ok (.iload_n 2, 1) := dk_28 (dk_at dksX0_brokenBy_0 15 rfl rfl)
theorem dX0_brokenBy_16 : decode cX0_brokenBy 16 = .ok (.aload_n 0, 1) := dk_42 (dk_at dksX0_brokenBy_0 16 rfl rfl)
theorem dX0_brokenBy_17 : decode cX0_brokenBy 17 = .ok (.aload_n 0, 1) := dk_42 (dk_at dksX0_brokenBy_0 17 rfl rfl)
theorem dX0_brokenBy_18 : decode cX0_brokenBy 18 = .ok (.getfield 12, 3) := dk_180 0 12 (dk_at dksX0_brokenBy_0 18 rfl rfl)
theorem dX0_brokenBy_21 : decode cX0_brokenBy 21 = .ok (.getfield 172, 3) := dk_180 0 172 (dk_at dksX0_brokenBy_0 21 rfl rfl)
theorem dX0_brokenBy_24 : decode cX0_brokenBy 24 = .ok (.iload_n 3, 1) := dk_29 (dk_at dksX0_brokenBy_1 0 rfl rfl)
theorem dX0_brokenBy_25 : decode cX0_brokenBy 25 = .ok (.aaload, 1) := dk_50 (dk_at dksX0_brokenBy_1 1 rfl rfl)
theorem dX0_brokenBy_26 : decode cX0_brokenBy 26 = .ok (.aload_n 1, 1) := dk_43 (dk_at dksX0_brokenBy_1 2 rfl rfl)
theorem dX0_brokenBy_27 : decode cX0_brokenBy 27 = .ok (.invokevirtual 329, 3) := dk_182 1 73 (dk_at dksX0_brokenBy_1 3 rfl rfl)
theorem dX0_brokenBy_30 : decode cX0_brokenBy 30 = .ok (.ifCond .eq 7, 3) := dk_153 0 7 (dk_at dksX0_brokenBy_1 6 rfl rfl)
theorem dX0_brokenBy_33 : decode cX0_brokenBy 33 = .ok (.iconst 1, 1) := dk_4 (dk_at dksX0_brokenBy_1 9 rfl rfl)
theorem dX0_brokenBy_34 : decode cX0_brokenBy 34 = .ok (.goto 4, 3) := dk_167 0 4 (dk_at dksX0_brokenBy_1 10 rfl rfl)
theorem dX0_brokenBy_37 : decode cX0_brokenBy 37 = .ok (.iconst 0, 1) := dk_3 (dk_at dksX0_brokenBy_1 13 rfl rfl)
theorem dX0_brokenBy_38 : decode cX0_brokenBy 38 = .ok (.iadd, 1) := dk_96 (dk_at dksX0_brokenBy_1 14 rfl rfl)
theorem dX0_brokenBy_39 : decode cX0_brokenBy 39 = .ok (.istore_n 2, 1) := dk_61 (dk_at dksX0_brokenBy_1 15 rfl rfl)
theorem dX0_brokenBy_40 : decode cX0_brokenBy 40 = .ok (.iinc 3 1, 3) := dk_132 3 1 (dk_at dksX0_brokenBy_1 16 rfl rfl)
theorem dX0_brokenBy_43 : decode cX0_brokenBy 43 = .ok (.goto (-39), 3) := dk_167 255 217 (dk_at dksX0_brokenBy_1 19 rfl rfl)
theorem dX0_brokenBy_46 : decode cX0_brokenBy 46 = .ok (.iload_n 2, 1) := dk_28 (dk_at dksX0_brokenBy_1 22 rfl rfl)
theorem dX0_brokenBy_47 : decode cX0_brokenBy 47 = .ok (.ireturn, 1) := dk_172 (dk_at dksX0_brokenBy_1 23 rfl rfl)
abbrev cX0_isBroken : ByteArray := prog_1_method_33_code
def yX0_isBroken : MethodName := ⟨RX0, "isBroken", "(LWholePacks$Rule;[I)Z"⟩
def dkwX0_isBroken_2 : List UInt8 := [33, 43, 180, 0, 181, 133, 185, 1, 71, 5, 0, 9, 148, 156, 0, 7, 4, 167, 0, 4, 3, 172]
abbrev dktX0_isBroken_2 : List UInt8 := dkwX0_isBroken_2 ++ []
def dkwX0_isBroken_1 : List UInt8 := [46, 44, 21, 5, 46, 104, 133, 97, 66, 132, 5, 1, 167, 255, 225, 42, 180, 0, 46, 43, 180, 0, 215, 50]
abbrev dktX0_isBroken_1 : List UInt8 := dkwX0_isBroken_1 ++ dktX0_isBroken_2
def dkwX0_isBroken_0 : List UInt8 := [9, 66, 3, 54, 5, 21, 5, 42, 180, 0, 12, 180, 0, 131, 162, 0, 25, 33, 43, 180, 0, 176, 21, 5]
abbrev dktX0_isBroken_0 : List UInt8 := dkwX0_isBroken_0 ++ dktX0_isBroken_1
theorem dksX0_isBroken_0 : cX0_isBroken.data.toList.drop 0 = dktX0_isBroken_0 := by decide +kernel
theorem dksX0_isBroken_1 : cX0_isBroken.data.toList.drop 24 = dktX0_isBroken_1 := dk_seg dksX0_isBroken_0 24 rfl rfl
theorem dksX0_isBroken_2 : cX0_isBroken.data.toList.drop 48 = dktX0_isBroken_2 := dk_seg dksX0_isBroken_1 24 rfl rfl
theorem dX0_isBroken_0 : decode cX0_isBroken 0 = .ok (.lconst 0, 1) := dk_9 (dk_at dksX0_isBroken_0 0 rfl rfl)
theorem dX0_isBroken_1 : decode cX0_isBroken 1 = .ok (.lstore_n 3, 1) := dk_66 (dk_at dksX0_isBroken_0 1 rfl rfl)
theorem dX0_isBroken_2 : decode cX0_isBroken 2 = .ok (.iconst 0, 1) := dk_3 (dk_at dksX0_isBroken_0 2 rfl rfl)
theorem dX0_isBroken_3 : decode cX0_isBroken 3 = .ok (.istore 5, 2) := dk_54 5 (dk_at dksX0_isBroken_0 3 rfl rfl)
theorem dX0_isBroken_5 : decode cX0_isBroken 5 = .ok (.iload 5, 2) := dk_21 5 (dk_at dksX0_isBroken_0 5 rfl rfl)
theorem dX0_isBroken_7 : decode cX0_isBroken 7 = .ok (.aload_n 0, 1) := dk_42 (dk_at dksX0_isBroken_0 7 rfl rfl)
theorem dX0_isBroken_8 : decode cX0_isBroken 8 = .ok (.getfield 12, 3) := dk_180 0 12 (dk_at dksX0_isBroken_0 8 rfl rfl)
theorem dX0_isBroken_11 : decode cX0_isBroken 11 = .ok (.getfield 131, 3) := dk_180 0 131 (dk_at dksX0_isBroken_0 11 rfl rfl)
theorem dX0_isBroken_14 : decode cX0_isBroken 14 = .ok (.if_icmp .ge 25, 3) := dk_162 0 25 (dk_at dksX0_isBroken_0 14 rfl rfl)
theorem dX0_isBroken_17 : decode cX0_isBroken 17 = .ok (.lload_n 3, 1) := dk_33 (dk_at dksX0_isBroken_0 17 rfl rfl)
theorem dX0_isBroken_18 : decode cX0_isBroken 18 = .ok (.aload_n 1, 1) := dk_43 (dk_at dksX0_isBroken_0 18 rfl rfl)
theorem dX0_isBroken_19 : decode cX0_isBroken 19 = .ok (.getfield 176, 3) := dk_180 0 176 (dk_at dksX0_isBroken_0 19 rfl rfl)
theorem dX0_isBroken_22 : decode cX0_isBroken 22 = .ok (.iload 5, 2) := dk_21 5 (dk_at dksX0_isBroken_0 22 rfl rfl)
theorem dX0_isBroken_24 : decode cX0_isBroken 24 = .ok (.iaload, 1) := dk_46 (dk_at dksX0_isBroken_1 0 rfl rfl)
theorem dX0_isBroken_25 : decode cX0_isBroken 25 = .ok (.aload_n 2, 1) := dk_44 (dk_at dksX0_isBroken_1 1 rfl rfl)
theorem dX0_isBroken_26 : decode cX0_isBroken 26 = .ok (.iload 5, 2) := dk_21 5 (dk_at dksX0_isBroken_1 2 rfl rfl)
theorem dX0_isBroken_28 : decode cX0_isBroken 28 = .ok (.iaload, 1) := dk_46 (dk_at dksX0_isBroken_1 4 rfl rfl)
theorem dX0_isBroken_29 : decode cX0_isBroken 29 = .ok (.imul, 1) := dk_104 (dk_at dksX0_isBroken_1 5 rfl rfl)
theorem dX0_isBroken_30 : decode cX0_isBroken 30 = .ok (.i2l, 1) := dk_133 (dk_at dksX0_isBroken_1 6 rfl rfl)
theorem dX0_isBroken_31 : decode cX0_isBroken 31 = .ok (.ladd, 1) := dk_97 (dk_at dksX0_isBroken_1 7 rfl rfl)
theorem dX0_isBroken_32 : decode cX0_isBroken 32 = .ok (.lstore_n 3, 1) := dk_66 (dk_at dksX0_isBroken_1 8 rfl rfl)
theorem dX0_isBroken_33 : decode cX0_isBroken 33 = .ok (.iinc 5 1, 3) := dk_132 5 1 (dk_at dksX0_isBroken_1 9 rfl rfl)
theorem dX0_isBroken_36 : decode cX0_isBroken 36 = .ok (.goto (-31), 3) := dk_167 255 225 (dk_at dksX0_isBroken_1 12 rfl rfl)
theorem dX0_isBroken_39 : decode cX0_isBroken 39 = .ok (.aload_n 0, 1) := dk_42 (dk_at dksX0_isBroken_1 15 rfl rfl)
theorem dX0_isBroken_40 : decode cX0_isBroken 40 = .ok (.getfield 46, 3) := dk_180 0 46 (dk_at dksX0_isBroken_1 16 rfl rfl)
theorem dX0_isBroken_43 : decode cX0_isBroken 43 = .ok (.aload_n 1, 1) := dk_43 (dk_at dksX0_isBroken_1 19 rfl rfl)
theorem dX0_isBroken_44 : decode cX0_isBroken 44 = .ok (.getfield 215, 3) := dk_180 0 215 (dk_at dksX0_isBroken_1 20 rfl rfl)
theorem dX0_isBroken_47 : decode cX0_isBroken 47 = .ok (.aaload, 1) := dk_50 (dk_at dksX0_isBroken_1 23 rfl rfl)
theorem dX0_isBroken_48 : decode cX0_isBroken 48 = .ok (.lload_n 3, 1) := dk_33 (dk_at dksX0_isBroken_2 0 rfl rfl)
theorem dX0_isBroken_49 : decode cX0_isBroken 49 = .ok (.aload_n 1, 1) := dk_43 (dk_at dksX0_isBroken_2 1 rfl rfl)
theorem dX0_isBroken_50 : decode cX0_isBroken 50 = .ok (.getfield 181, 3) := dk_180 0 181 (dk_at dksX0_isBroken_2 2 rfl rfl)
theorem dX0_isBroken_53 : decode cX0_isBroken 53 = .ok (.i2l, 1) := dk_133 (dk_at dksX0_isBroken_2 5 rfl rfl)
theorem dX0_isBroken_54 : decode cX0_isBroken 54 = .ok (.invokeinterface 327 5, 5) := by decide +kernel
theorem dX0_isBroken_59 : decode cX0_isBroken 59 = .ok (.lconst 0, 1) := dk_9 (dk_at dksX0_isBroken_2 11 rfl rfl)
theorem dX0_isBroken_60 : decode cX0_isBroken 60 = .ok (.lcmp, 1) := dk_148 (dk_at dksX0_isBroken_2 12 rfl rfl)
theorem dX0_isBroken_61 : decode cX0_isBroken 61 = .ok (.ifCond .ge 7, 3) := dk_156 0 7 (dk_at dksX0_isBroken_2 13 rfl rfl)
theorem dX0_isBroken_64 : decode cX0_isBroken 64 = .ok (.iconst 1, 1) := dk_4 (dk_at dksX0_isBroken_2 16 rfl rfl)
theorem dX0_isBroken_65 : decode cX0_isBroken 65 = .ok (.goto 4, 3) := dk_167 0 4 (dk_at dksX0_isBroken_2 17 rfl rfl)
theorem dX0_isBroken_68 : decode cX0_isBroken 68 = .ok (.iconst 0, 1) := dk_3 (dk_at dksX0_isBroken_2 20 rfl rfl)
theorem dX0_isBroken_69 : decode cX0_isBroken 69 = .ok (.ireturn, 1) := dk_172 (dk_at dksX0_isBroken_2 21 rfl rfl)
abbrev cX0_nextMix : ByteArray := prog_1_method_36_code
def yX0_nextMix : MethodName := ⟨RX0, "nextMix", "()Z"⟩
def dkwX0_nextMix_2 : List UInt8 := [172, 42, 180, 0, 60, 27, 92, 46, 4, 96, 79, 4, 172]
abbrev dktX0_nextMix_2 : List UInt8 := dkwX0_nextMix_2 ++ []
def dkwX0_nextMix_1 : List UInt8 := [180, 1, 68, 160, 0, 16, 42, 180, 0, 60, 27, 3, 79, 132, 1, 255, 167, 255, 226, 27, 156, 0, 5, 3]
abbrev dktX0_nextMix_1 : List UInt8 := dkwX0_nextMix_1 ++ dktX0_nextMix_2
def dkwX0_nextMix_0 : List UInt8 := [42, 180, 0, 12, 180, 0, 131, 4, 100, 60, 27, 155, 0, 32, 42, 180, 0, 60, 27, 46, 42, 180, 0, 12]
abbrev dktX0_nextMix_0 : List UInt8 := dkwX0_nextMix_0 ++ dktX0_nextMix_1
theorem dksX0_nextMix_0 : cX0_nextMix.data.toList.drop 0 = dktX0_nextMix_0 := by decide +kernel
theorem dksX0_nextMix_1 : cX0_nextMix.data.toList.drop 24 = dktX0_nextMix_1 := dk_seg dksX0_nextMix_0 24 rfl rfl
theorem dksX0_nextMix_2 : cX0_nextMix.data.toList.drop 48 = dktX0_nextMix_2 := dk_seg dksX0_nextMix_1 24 rfl rfl
theorem dX0_nextMix_0 : decode cX0_nextMix 0 = .ok (.aload_n 0, 1) := dk_42 (dk_at dksX0_nextMix_0 0 rfl rfl)
theorem dX0_nextMix_1 : decode cX0_nextMix 1 = .ok (.getfield 12, 3) := dk_180 0 12 (dk_at dksX0_nextMix_0 1 rfl rfl)
theorem dX0_nextMix_4 : decode cX0_nextMix 4 = .ok (.getfield 131, 3) := dk_180 0 131 (dk_at dksX0_nextMix_0 4 rfl rfl)
theorem dX0_nextMix_7 : decode cX0_nextMix 7 = .ok (.iconst 1, 1) := dk_4 (dk_at dksX0_nextMix_0 7 rfl rfl)
theorem dX0_nextMix_8 : decode cX0_nextMix 8 = .ok (.isub, 1) := dk_100 (dk_at dksX0_nextMix_0 8 rfl rfl)
theorem dX0_nextMix_9 : decode cX0_nextMix 9 = .ok (.istore_n 1, 1) := dk_60 (dk_at dksX0_nextMix_0 9 rfl rfl)
theorem dX0_nextMix_10 : decode cX0_nextMix 10 = .ok (.iload_n 1, 1) := dk_27 (dk_at dksX0_nextMix_0 10 rfl rfl)
theorem dX0_nextMix_11 : decode cX0_nextMix 11 = .ok (.ifCond .lt 32, 3) := dk_155 0 32 (dk_at dksX0_nextMix_0 11 rfl rfl)
theorem dX0_nextMix_14 : decode cX0_nextMix 14 = .ok (.aload_n 0, 1) := dk_42 (dk_at dksX0_nextMix_0 14 rfl rfl)
theorem dX0_nextMix_15 : decode cX0_nextMix 15 = .ok (.getfield 60, 3) := dk_180 0 60 (dk_at dksX0_nextMix_0 15 rfl rfl)
theorem dX0_nextMix_18 : decode cX0_nextMix 18 = .ok (.iload_n 1, 1) := dk_27 (dk_at dksX0_nextMix_0 18 rfl rfl)
theorem dX0_nextMix_19 : decode cX0_nextMix 19 = .ok (.iaload, 1) := dk_46 (dk_at dksX0_nextMix_0 19 rfl rfl)
theorem dX0_nextMix_20 : decode cX0_nextMix 20 = .ok (.aload_n 0, 1) := dk_42 (dk_at dksX0_nextMix_0 20 rfl rfl)
theorem dX0_nextMix_21 : decode cX0_nextMix 21 = .ok (.getfield 12, 3) := dk_180 0 12 (dk_at dksX0_nextMix_0 21 rfl rfl)
theorem dX0_nextMix_24 : decode cX0_nextMix 24 = .ok (.getfield 324, 3) := dk_180 1 68 (dk_at dksX0_nextMix_1 0 rfl rfl)
theorem dX0_nextMix_27 : decode cX0_nextMix 27 = .ok (.if_icmp .ne 16, 3) := dk_160 0 16 (dk_at dksX0_nextMix_1 3 rfl rfl)
theorem dX0_nextMix_30 : decode cX0_nextMix 30 = .ok (.aload_n 0, 1) := dk_42 (dk_at dksX0_nextMix_1 6 rfl rfl)
theorem dX0_nextMix_31 : decode cX0_nextMix 31 = .ok (.getfield 60, 3) := dk_180 0 60 (dk_at dksX0_nextMix_1 7 rfl rfl)
theorem dX0_nextMix_34 : decode cX0_nextMix 34 = .ok (.iload_n 1, 1) := dk_27 (dk_at dksX0_nextMix_1 10 rfl rfl)
theorem dX0_nextMix_35 : decode cX0_nextMix 35 = .ok (.iconst 0, 1) := dk_3 (dk_at dksX0_nextMix_1 11 rfl rfl)
theorem dX0_nextMix_36 : decode cX0_nextMix 36 = .ok (.iastore, 1) := dk_79 (dk_at dksX0_nextMix_1 12 rfl rfl)
theorem dX0_nextMix_37 : decode cX0_nextMix 37 = .ok (.iinc 1 (-1), 3) := dk_132 1 255 (dk_at dksX0_nextMix_1 13 rfl rfl)
theorem dX0_nextMix_40 : decode cX0_nextMix 40 = .ok (.goto (-30), 3) := dk_167 255 226 (dk_at dksX0_nextMix_1 16 rfl rfl)
theorem dX0_nextMix_43 : decode cX0_nextMix 43 = .ok (.iload_n 1, 1) := dk_27 (dk_at dksX0_nextMix_1 19 rfl rfl)
theorem dX0_nextMix_44 : decode cX0_nextMix 44 = .ok (.ifCond .ge 5, 3) := dk_156 0 5 (dk_at dksX0_nextMix_1 20 rfl rfl)
theorem dX0_nextMix_47 : decode cX0_nextMix 47 = .ok (.iconst 0, 1) := dk_3 (dk_at dksX0_nextMix_1 23 rfl rfl)
theorem dX0_nextMix_48 : decode cX0_nextMix 48 = .ok (.ireturn, 1) := dk_172 (dk_at dksX0_nextMix_2 0 rfl rfl)
theorem dX0_nextMix_49 : decode cX0_nextMix 49 = .ok (.aload_n 0, 1) := dk_42 (dk_at dksX0_nextMix_2 1 rfl rfl)
theorem dX0_nextMix_50 : decode cX0_nextMix 50 = .ok (.getfield 60, 3) := dk_180 0 60 (dk_at dksX0_nextMix_2 2 rfl rfl)
theorem dX0_nextMix_53 : decode cX0_nextMix 53 = .ok (.iload_n 1, 1) := dk_27 (dk_at dksX0_nextMix_2 5 rfl rfl)
theorem dX0_nextMix_54 : decode cX0_nextMix 54 = .ok (.dup2, 1) := dk_92 (dk_at dksX0_nextMix_2 6 rfl rfl)
theorem dX0_nextMix_55 : decode cX0_nextMix 55 = .ok (.iaload, 1) := dk_46 (dk_at dksX0_nextMix_2 7 rfl rfl)
theorem dX0_nextMix_56 : decode cX0_nextMix 56 = .ok (.iconst 1, 1) := dk_4 (dk_at dksX0_nextMix_2 8 rfl rfl)
theorem dX0_nextMix_57 : decode cX0_nextMix 57 = .ok (.iadd, 1) := dk_96 (dk_at dksX0_nextMix_2 9 rfl rfl)
theorem dX0_nextMix_58 : decode cX0_nextMix 58 = .ok (.iastore, 1) := dk_79 (dk_at dksX0_nextMix_2 10 rfl rfl)
theorem dX0_nextMix_59 : decode cX0_nextMix 59 = .ok (.iconst 1, 1) := dk_4 (dk_at dksX0_nextMix_2 11 rfl rfl)
theorem dX0_nextMix_60 : decode cX0_nextMix 60 = .ok (.ireturn, 1) := dk_172 (dk_at dksX0_nextMix_2 12 rfl rfl)
abbrev cX0_codeOf : ByteArray := prog_1_method_35_code
def yX0_codeOf : MethodName := ⟨RX0, "codeOf", "([I)I"⟩
def dkwX0_codeOf_1 : List UInt8 := [132, 3, 1, 167, 255, 233, 28, 172]
abbrev dktX0_codeOf_1 : List UInt8 := dkwX0_codeOf_1 ++ []
def dkwX0_codeOf_0 : List UInt8 := [3, 61, 3, 62, 29, 42, 180, 0, 12, 180, 0, 131, 162, 0, 18, 16, 10, 28, 104, 43, 29, 46, 96, 61]
abbrev dktX0_codeOf_0 : List UInt8 := dkwX0_codeOf_0 ++ dktX0_codeOf_1
theorem dksX0_codeOf_0 : cX0_codeOf.data.toList.drop 0 = dktX0_codeOf_0 := by decide +kernel
theorem dksX0_codeOf_1 : cX0_codeOf.data.toList.drop 24 = dktX0_codeOf_1 := dk_seg dksX0_codeOf_0 24 rfl rfl
theorem dX0_codeOf_0 : decode cX0_codeOf 0 = .ok (.iconst 0, 1) := dk_3 (dk_at dksX0_codeOf_0 0 rfl rfl)
theorem dX0_codeOf_1 : decode cX0_codeOf 1 = .ok (.istore_n 2, 1) := dk_61 (dk_at dksX0_codeOf_0 1 rfl rfl)
theorem dX0_codeOf_2 : decode cX0_codeOf 2 = .ok (.iconst 0, 1) := dk_3 (dk_at dksX0_codeOf_0 2 rfl rfl)
theorem dX0_codeOf_3 : decode cX0_codeOf 3 = .ok (.istore_n 3, 1) := dk_62 (dk_at dksX0_codeOf_0 3 rfl rfl)
theorem dX0_codeOf_4 : decode cX0_codeOf 4 = .ok (.iload_n 3, 1) := dk_29 (dk_at dksX0_codeOf_0 4 rfl rfl)
theorem dX0_codeOf_5 : decode cX0_codeOf 5 = .ok (.aload_n 0, 1) := dk_42 (dk_at dksX0_codeOf_0 5 rfl rfl)
theorem dX0_codeOf_6 : decode cX0_codeOf 6 = .ok (.getfield 12, 3) := dk_180 0 12 (dk_at dksX0_codeOf_0 6 rfl rfl)
theorem dX0_codeOf_9 : decode cX0_codeOf 9 = .ok (.getfield 131, 3) := dk_180 0 131 (dk_at dksX0_codeOf_0 9 rfl rfl)
theorem dX0_codeOf_12 : decode cX0_codeOf 12 = .ok (.if_icmp .ge 18, 3) := dk_162 0 18 (dk_at dksX0_codeOf_0 12 rfl rfl)
theorem dX0_codeOf_15 : decode cX0_codeOf 15 = .ok (.bipush 10, 2) := dk_16 10 (dk_at dksX0_codeOf_0 15 rfl rfl)
theorem dX0_codeOf_17 : decode cX0_codeOf 17 = .ok (.iload_n 2, 1) := dk_28 (dk_at dksX0_codeOf_0 17 rfl rfl)
theorem dX0_codeOf_18 : decode cX0_codeOf 18 = .ok (.imul, 1) := dk_104 (dk_at dksX0_codeOf_0 18 rfl rfl)
theorem dX0_codeOf_19 : decode cX0_codeOf 19 = .ok (.aload_n 1, 1) := dk_43 (dk_at dksX0_codeOf_0 19 rfl rfl)
theorem dX0_codeOf_20 : decode cX0_codeOf 20 = .ok (.iload_n 3, 1) := dk_29 (dk_at dksX0_codeOf_0 20 rfl rfl)
theorem dX0_codeOf_21 : decode cX0_codeOf 21 = .ok (.iaload, 1) := dk_46 (dk_at dksX0_codeOf_0 21 rfl rfl)
theorem dX0_codeOf_22 : decode cX0_codeOf 22 = .ok (.iadd, 1) := dk_96 (dk_at dksX0_codeOf_0 22 rfl rfl)
theorem dX0_codeOf_23 : decode cX0_codeOf 23 = .ok (.istore_n 2, 1) := dk_61 (dk_at dksX0_codeOf_0 23 rfl rfl)
theorem dX0_codeOf_24 : decode cX0_codeOf 24 = .ok (.iinc 3 1, 3) := dk_132 3 1 (dk_at dksX0_codeOf_1 0 rfl rfl)
theorem dX0_codeOf_27 : decode cX0_codeOf 27 = .ok (.goto (-23), 3) := dk_167 255 233 (dk_at dksX0_codeOf_1 3 rfl rfl)
theorem dX0_codeOf_30 : decode cX0_codeOf 30 = .ok (.iload_n 2, 1) := dk_28 (dk_at dksX0_codeOf_1 6 rfl rfl)
theorem dX0_codeOf_31 : decode cX0_codeOf 31 = .ok (.ireturn, 1) := dk_172 (dk_at dksX0_codeOf_1 7 rfl rfl)
abbrev cX0_costOf : ByteArray := prog_1_method_32_code
def yX0_costOf : MethodName := ⟨RX0, "costOf", "([I)I"⟩
def dkwX0_costOf_1 : List UInt8 := [46, 43, 29, 46, 104, 96, 61, 132, 3, 1, 167, 255, 226, 28, 172]
abbrev dktX0_costOf_1 : List UInt8 := dkwX0_costOf_1 ++ []
def dkwX0_costOf_0 : List UInt8 := [3, 61, 3, 62, 29, 42, 180, 0, 12, 180, 0, 131, 162, 0, 25, 28, 42, 180, 0, 12, 180, 0, 151, 29]
abbrev dktX0_costOf_0 : List UInt8 := dkwX0_costOf_0 ++ dktX0_costOf_1
theorem dksX0_costOf_0 : cX0_costOf.data.toList.drop 0 = dktX0_costOf_0 := by decide +kernel
theorem dksX0_costOf_1 : cX0_costOf.data.toList.drop 24 = dktX0_costOf_1 := dk_seg dksX0_costOf_0 24 rfl rfl
theorem dX0_costOf_0 : decode cX0_costOf 0 = .ok (.iconst 0, 1) := dk_3 (dk_at dksX0_costOf_0 0 rfl rfl)
theorem dX0_costOf_1 : decode cX0_costOf 1 = .ok (.istore_n 2, 1) := dk_61 (dk_at dksX0_costOf_0 1 rfl rfl)
theorem dX0_costOf_2 : decode cX0_costOf 2 = .ok (.iconst 0, 1) := dk_3 (dk_at dksX0_costOf_0 2 rfl rfl)
theorem dX0_costOf_3 : decode cX0_costOf 3 = .ok (.istore_n 3, 1) := dk_62 (dk_at dksX0_costOf_0 3 rfl rfl)
theorem dX0_costOf_4 : decode cX0_costOf 4 = .ok (.iload_n 3, 1) := dk_29 (dk_at dksX0_costOf_0 4 rfl rfl)
theorem dX0_costOf_5 : decode cX0_costOf 5 = .ok (.aload_n 0, 1) := dk_42 (dk_at dksX0_costOf_0 5 rfl rfl)
theorem dX0_costOf_6 : decode cX0_costOf 6 = .ok (.getfield 12, 3) := dk_180 0 12 (dk_at dksX0_costOf_0 6 rfl rfl)
theorem dX0_costOf_9 : decode cX0_costOf 9 = .ok (.getfield 131, 3) := dk_180 0 131 (dk_at dksX0_costOf_0 9 rfl rfl)
theorem dX0_costOf_12 : decode cX0_costOf 12 = .ok (.if_icmp .ge 25, 3) := dk_162 0 25 (dk_at dksX0_costOf_0 12 rfl rfl)
theorem dX0_costOf_15 : decode cX0_costOf 15 = .ok (.iload_n 2, 1) := dk_28 (dk_at dksX0_costOf_0 15 rfl rfl)
theorem dX0_costOf_16 : decode cX0_costOf 16 = .ok (.aload_n 0, 1) := dk_42 (dk_at dksX0_costOf_0 16 rfl rfl)
theorem dX0_costOf_17 : decode cX0_costOf 17 = .ok (.getfield 12, 3) := dk_180 0 12 (dk_at dksX0_costOf_0 17 rfl rfl)
theorem dX0_costOf_20 : decode cX0_costOf 20 = .ok (.getfield 151, 3) := dk_180 0 151 (dk_at dksX0_costOf_0 20 rfl rfl)
theorem dX0_costOf_23 : decode cX0_costOf 23 = .ok (.iload_n 3, 1) := dk_29 (dk_at dksX0_costOf_0 23 rfl rfl)
theorem dX0_costOf_24 : decode cX0_costOf 24 = .ok (.iaload, 1) := dk_46 (dk_at dksX0_costOf_1 0 rfl rfl)
theorem dX0_costOf_25 : decode cX0_costOf 25 = .ok (.aload_n 1, 1) := dk_43 (dk_at dksX0_costOf_1 1 rfl rfl)
theorem dX0_costOf_26 : decode cX0_costOf 26 = .ok (.iload_n 3, 1) := dk_29 (dk_at dksX0_costOf_1 2 rfl rfl)
theorem dX0_costOf_27 : decode cX0_costOf 27 = .ok (.iaload, 1) := dk_46 (dk_at dksX0_costOf_1 3 rfl rfl)
theorem dX0_costOf_28 : decode cX0_costOf 28 = .ok (.imul, 1) := dk_104 (dk_at dksX0_costOf_1 4 rfl rfl)
theorem dX0_costOf_29 : decode cX0_costOf 29 = .ok (.iadd, 1) := dk_96 (dk_at dksX0_costOf_1 5 rfl rfl)
theorem dX0_costOf_30 : decode cX0_costOf 30 = .ok (.istore_n 2, 1) := dk_61 (dk_at dksX0_costOf_1 6 rfl rfl)
theorem dX0_costOf_31 : decode cX0_costOf 31 = .ok (.iinc 3 1, 3) := dk_132 3 1 (dk_at dksX0_costOf_1 7 rfl rfl)
theorem dX0_costOf_34 : decode cX0_costOf 34 = .ok (.goto (-30), 3) := dk_167 255 226 (dk_at dksX0_costOf_1 10 rfl rfl)
theorem dX0_costOf_37 : decode cX0_costOf 37 = .ok (.iload_n 2, 1) := dk_28 (dk_at dksX0_costOf_1 13 rfl rfl)
theorem dX0_costOf_38 : decode cX0_costOf 38 = .ok (.ireturn, 1) := dk_172 (dk_at dksX0_costOf_1 14 rfl rfl)
abbrev cX0_many : ByteArray := prog_1_method_41_code
def yX0_many : MethodName := ⟨RX0, "many", "(I)I"⟩
def dkwX0_many_1 : List UInt8 := [186, 1, 136, 0, 0, 182, 1, 126, 42, 180, 1, 133, 172]
abbrev dktX0_many_1 : List UInt8 := dkwX0_many_1 ++ []
def dkwX0_many_0 : List UInt8 := [27, 133, 9, 10, 184, 0, 127, 154, 0, 5, 2, 172, 42, 3, 181, 1, 133, 42, 42, 27]
abbrev dktX0_many_0 : List UInt8 := dkwX0_many_0 ++ dktX0_many_1
theorem dksX0_many_0 : cX0_many.data.toList.drop 0 = dktX0_many_0 := by decide +kernel
theorem dksX0_many_1 : cX0_many.data.toList.drop 20 = dktX0_many_1 := dk_seg dksX0_many_0 20 rfl rfl
theorem dX0_many_0 : decode cX0_many 0 = .ok (.iload_n 1, 1) := dk_27 (dk_at dksX0_many_0 0 rfl rfl)
theorem dX0_many_1 : decode cX0_many 1 = .ok (.i2l, 1) := dk_133 (dk_at dksX0_many_0 1 rfl rfl)
theorem dX0_many_2 : decode cX0_many 2 = .ok (.lconst 0, 1) := dk_9 (dk_at dksX0_many_0 2 rfl rfl)
theorem dX0_many_3 : decode cX0_many 3 = .ok (.lconst 1, 1) := dk_10 (dk_at dksX0_many_0 3 rfl rfl)
theorem dX0_many_4 : decode cX0_many 4 = .ok (.invokestatic 127, 3) := dk_184 0 127 (dk_at dksX0_many_0 4 rfl rfl)
theorem dX0_many_7 : decode cX0_many 7 = .ok (.ifCond .ne 5, 3) := dk_154 0 5 (dk_at dksX0_many_0 7 rfl rfl)
theorem dX0_many_10 : decode cX0_many 10 = .ok (.iconst (-1), 1) := dk_2 (dk_at dksX0_many_0 10 rfl rfl)
theorem dX0_many_11 : decode cX0_many 11 = .ok (.ireturn, 1) := dk_172 (dk_at dksX0_many_0 11 rfl rfl)
theorem dX0_many_12 : decode cX0_many 12 = .ok (.aload_n 0, 1) := dk_42 (dk_at dksX0_many_0 12 rfl rfl)
theorem dX0_many_13 : decode cX0_many 13 = .ok (.iconst 0, 1) := dk_3 (dk_at dksX0_many_0 13 rfl rfl)
theorem dX0_many_14 : decode cX0_many 14 = .ok (.putfield 389, 3) := dk_181 1 133 (dk_at dksX0_many_0 14 rfl rfl)
theorem dX0_many_17 : decode cX0_many 17 = .ok (.aload_n 0, 1) := dk_42 (dk_at dksX0_many_0 17 rfl rfl)
theorem dX0_many_18 : decode cX0_many 18 = .ok (.aload_n 0, 1) := dk_42 (dk_at dksX0_many_0 18 rfl rfl)
theorem dX0_many_19 : decode cX0_many 19 = .ok (.iload_n 1, 1) := dk_27 (dk_at dksX0_many_0 19 rfl rfl)
theorem dX0_many_20 : decode cX0_many 20 = .ok (.invokedynamic 392, 5) := by decide +kernel
theorem dX0_many_25 : decode cX0_many 25 = .ok (.invokevirtual 382, 3) := dk_182 1 126 (dk_at dksX0_many_1 5 rfl rfl)
theorem dX0_many_28 : decode cX0_many 28 = .ok (.aload_n 0, 1) := dk_42 (dk_at dksX0_many_1 8 rfl rfl)
theorem dX0_many_29 : decode cX0_many 29 = .ok (.getfield 389, 3) := dk_180 1 133 (dk_at dksX0_many_1 9 rfl rfl)
theorem dX0_many_32 : decode cX0_many 32 = .ok (.ireturn, 1) := dk_172 (dk_at dksX0_many_1 12 rfl rfl)
abbrev cX0_lambda_many_4 : ByteArray := prog_1_method_80_code
def yX0_lambda_many_4 : MethodName := ⟨RX0, "lambda$many$4", "(IIII)Z"⟩
def dkwX0_lambda_many_4_0 : List UInt8 := [42, 21, 4, 27, 182, 2, 96, 172]
abbrev dktX0_lambda_many_4_0 : List UInt8 := dkwX0_lambda_many_4_0 ++ []
theorem dksX0_lambda_many_4_0 : cX0_lambda_many_4.data.toList.drop 0 = dktX0_lambda_many_4_0 := by decide +kernel
theorem dX0_lambda_many_4_0 : decode cX0_lambda_many_4 0 = .ok (.aload_n 0, 1) := dk_42 (dk_at dksX0_lambda_many_4_0 0 rfl rfl)
theorem dX0_lambda_many_4_1 : decode cX0_lambda_many_4 1 = .ok (.iload 4, 2) := dk_21 4 (dk_at dksX0_lambda_many_4_0 1 rfl rfl)
theorem dX0_lambda_many_4_3 : decode cX0_lambda_many_4 3 = .ok (.iload_n 1, 1) := dk_27 (dk_at dksX0_lambda_many_4_0 3 rfl rfl)
theorem dX0_lambda_many_4_4 : decode cX0_lambda_many_4 4 = .ok (.invokevirtual 608, 3) := dk_182 2 96 (dk_at dksX0_lambda_many_4_0 4 rfl rfl)
theorem dX0_lambda_many_4_7 : decode cX0_lambda_many_4 7 = .ok (.ireturn, 1) := dk_172 (dk_at dksX0_lambda_many_4_0 7 rfl rfl)
abbrev cX0_counts : ByteArray := prog_1_method_40_code
def yX0_counts : MethodName := ⟨RX0, "counts", "(II)Z"⟩
def dkwX0_counts_0 : List UInt8 := [42, 89, 180, 1, 133, 27, 28, 160, 0, 7, 4, 167, 0, 4, 3, 96, 181, 1, 133, 4, 172]
abbrev dktX0_counts_0 : List UInt8 := dkwX0_counts_0 ++ []
theorem dksX0_counts_0 : cX0_counts.data.toList.drop 0 = dktX0_counts_0 := by decide +kernel
theorem dX0_counts_0 : decode cX0_counts 0 = .ok (.aload_n 0, 1) := dk_42 (dk_at dksX0_counts_0 0 rfl rfl)
theorem dX0_counts_1 : decode cX0_counts 1 = .ok (.dup, 1) := dk_89 (dk_at dksX0_counts_0 1 rfl rfl)
theorem dX0_counts_2 : decode cX0_counts 2 = .ok (.getfield 389, 3) := dk_180 1 133 (dk_at dksX0_counts_0 2 rfl rfl)
theorem dX0_counts_5 : decode cX0_counts 5 = .ok (.iload_n 1, 1) := dk_27 (dk_at dksX0_counts_0 5 rfl rfl)
theorem dX0_counts_6 : decode cX0_counts 6 = .ok (.iload_n 2, 1) := dk_28 (dk_at dksX0_counts_0 6 rfl rfl)
theorem dX0_counts_7 : decode cX0_counts 7 = .ok (.if_icmp .ne 7, 3) := dk_160 0 7 (dk_at dksX0_counts_0 7 rfl rfl)
theorem dX0_counts_10 : decode cX0_counts 10 = .ok (.iconst 1, 1) := dk_4 (dk_at dksX0_counts_0 10 rfl rfl)
theorem dX0_counts_11 : decode cX0_counts 11 = .ok (.goto 4, 3) := dk_167 0 4 (dk_at dksX0_counts_0 11 rfl rfl)
theorem dX0_counts_14 : decode cX0_counts 14 = .ok (.iconst 0, 1) := dk_3 (dk_at dksX0_counts_0 14 rfl rfl)
theorem dX0_counts_15 : decode cX0_counts 15 = .ok (.iadd, 1) := dk_96 (dk_at dksX0_counts_0 15 rfl rfl)
theorem dX0_counts_16 : decode cX0_counts 16 = .ok (.putfield 389, 3) := dk_181 1 133 (dk_at dksX0_counts_0 16 rfl rfl)
theorem dX0_counts_19 : decode cX0_counts 19 = .ok (.iconst 1, 1) := dk_4 (dk_at dksX0_counts_0 19 rfl rfl)
theorem dX0_counts_20 : decode cX0_counts 20 = .ok (.ireturn, 1) := dk_172 (dk_at dksX0_counts_0 20 rfl rfl)
abbrev cX0_breaks : ByteArray := prog_1_method_43_code
def yX0_breaks : MethodName := ⟨RX0, "breaks", "(I)I"⟩
def dkwX0_breaks_2 : List UInt8 := [132, 2, 1, 167, 255, 220, 16, 251, 172]
abbrev dktX0_breaks_2 : List UInt8 := dkwX0_breaks_2 ++ []
def dkwX0_breaks_1 : List UInt8 := [42, 42, 180, 0, 12, 180, 0, 172, 28, 50, 42, 180, 0, 82, 182, 1, 73, 153, 0, 5, 28, 172]
abbrev dktX0_breaks_1 : List UInt8 := dkwX0_breaks_1 ++ dktX0_breaks_2
def dkwX0_breaks_0 : List UInt8 := [42, 27, 182, 1, 137, 154, 0, 6, 16, 254, 172, 3, 61, 28, 42, 180, 0, 12, 180, 0, 158, 162, 0, 31]
abbrev dktX0_breaks_0 : List UInt8 := dkwX0_breaks_0 ++ dktX0_breaks_1
theorem dksX0_breaks_0 : cX0_breaks.data.toList.drop 0 = dktX0_breaks_0 := by decide +kernel
theorem dksX0_breaks_1 : cX0_breaks.data.toList.drop 24 = dktX0_breaks_1 := dk_seg dksX0_breaks_0 24 rfl rfl
theorem dksX0_breaks_2 : cX0_breaks.data.toList.drop 46 = dktX0_breaks_2 := dk_seg dksX0_breaks_1 22 rfl rfl
theorem dX0_breaks_0 : decode cX0_breaks 0 = .ok (.aload_n 0, 1) := dk_42 (dk_at dksX0_breaks_0 0 rfl rfl)
theorem dX0_breaks_1 : decode cX0_breaks 1 = .ok (.iload_n 1, 1) := dk_27 (dk_at dksX0_breaks_0 1 rfl rfl)
theorem dX0_breaks_2 : decode cX0_breaks 2 = .ok (.invokevirtual 393, 3) := dk_182 1 137 (dk_at dksX0_breaks_0 2 rfl rfl)
theorem dX0_breaks_5 : decode cX0_breaks 5 = .ok (.ifCond .ne 6, 3) := dk_154 0 6 (dk_at dksX0_breaks_0 5 rfl rfl)
theorem dX0_breaks_8 : decode cX0_breaks 8 = .ok (.bipush (-2), 2) := dk_16 254 (dk_at dksX0_breaks_0 8 rfl rfl)
theorem dX0_breaks_10 : decode cX0_breaks 10 = .ok (.ireturn, 1) := dk_172 (dk_at dksX0_breaks_0 10 rfl rfl)
theorem dX0_breaks_11 : decode cX0_breaks 11 = .ok (.iconst 0, 1) := dk_3 (dk_at dksX0_breaks_0 11 rfl rfl)
theorem dX0_breaks_12 : decode cX0_breaks 12 = .ok (.istore_n 2, 1) := dk_61 (dk_at dksX0_breaks_0 12 rfl rfl)
theorem dX0_breaks_13 : decode cX0_breaks 13 = .ok (.iload_n 2, 1) := dk_28 (dk_at dksX0_breaks_0 13 rfl rfl)
theorem dX0_breaks_14 : decode cX0_breaks 14 = .ok (.aload_n 0, 1) := dk_42 (dk_at dksX0_breaks_0 14 rfl rfl)
theorem dX0_breaks_15 : decode cX0_breaks 15 = .ok (.getfield 12, 3) := dk_180 0 12 (dk_at dksX0_breaks_0 15 rfl rfl)
theorem dX0_breaks_18 : decode cX0_breaks 18 = .ok (.getfield 158, 3) := dk_180 0 158 (dk_at dksX0_breaks_0 18 rfl rfl)
theorem dX0_breaks_21 : decode cX0_breaks 21 = .ok (.if_icmp .ge 31, 3) := dk_162 0 31 (dk_at dksX0_breaks_0 21 rfl rfl)
theorem dX0_breaks_24 : decode cX0_breaks 24 = .ok (.aload_n 0, 1) := dk_42 (dk_at dksX0_breaks_1 0 rfl rfl)
theorem dX0_breaks_25 : decode cX0_breaks 25 = .ok (.aload_n 0, 1) := dk_42 (dk_at dksX0_breaks_1 1 rfl rfl)
theorem dX0_breaks_26 : decode cX0_breaks 26 = .ok (.getfield 12, 3) := dk_180 0 12 (dk_at dksX0_breaks_1 2 rfl rfl)
theorem dX0_breaks_29 : decode cX0_breaks 29 = .ok (.getfield 172, 3) := dk_180 0 172 (dk_at dksX0_breaks_1 5 rfl rfl)
theorem dX0_breaks_32 : decode cX0_breaks 32 = .ok (.iload_n 2, 1) := dk_28 (dk_at dksX0_breaks_1 8 rfl rfl)
theorem dX0_breaks_33 : decode cX0_breaks 33 = .ok (.aaload, 1) := dk_50 (dk_at dksX0_breaks_1 9 rfl rfl)
theorem dX0_breaks_34 : decode cX0_breaks 34 = .ok (.aload_n 0, 1) := dk_42 (dk_at dksX0_breaks_1 10 rfl rfl)
theorem dX0_breaks_35 : decode cX0_breaks 35 = .ok (.getfield 82, 3) := dk_180 0 82 (dk_at dksX0_breaks_1 11 rfl rfl)
theorem dX0_breaks_38 : decode cX0_breaks 38 = .ok (.invokevirtual 329, 3) := dk_182 1 73 (dk_at dksX0_breaks_1 14 rfl rfl)
theorem dX0_breaks_41 : decode cX0_breaks 41 = .ok (.ifCond .eq 5, 3) := dk_153 0 5 (dk_at dksX0_breaks_1 17 rfl rfl)
theorem dX0_breaks_44 : decode cX0_breaks 44 = .ok (.iload_n 2, 1) := dk_28 (dk_at dksX0_breaks_1 20 rfl rfl)
theorem dX0_breaks_45 : decode cX0_breaks 45 = .ok (.ireturn, 1) := dk_172 (dk_at dksX0_breaks_1 21 rfl rfl)
theorem dX0_breaks_46 : decode cX0_breaks 46 = .ok (.iinc 2 1, 3) := dk_132 2 1 (dk_at dksX0_breaks_2 0 rfl rfl)
theorem dX0_breaks_49 : decode cX0_breaks 49 = .ok (.goto (-36), 3) := dk_167 255 220 (dk_at dksX0_breaks_2 3 rfl rfl)
theorem dX0_breaks_52 : decode cX0_breaks 52 = .ok (.bipush (-5), 2) := dk_16 251 (dk_at dksX0_breaks_2 6 rfl rfl)
theorem dX0_breaks_54 : decode cX0_breaks 54 = .ok (.ireturn, 1) := dk_172 (dk_at dksX0_breaks_2 8 rfl rfl)
abbrev cX0_reads : ByteArray := prog_1_method_42_code
def yX0_reads : MethodName := ⟨RX0, "reads", "(I)Z"⟩
def dkwX0_reads_3 : List UInt8 := [16, 10, 108, 62, 132, 4, 255, 167, 255, 232, 4, 172]
abbrev dktX0_reads_3 : List UInt8 := dkwX0_reads_3 ++ []
def dkwX0_reads_2 : List UInt8 := [180, 0, 131, 4, 100, 54, 4, 21, 4, 155, 0, 25, 42, 180, 0, 82, 21, 4, 29, 16, 10, 112, 79, 29]
abbrev dktX0_reads_2 : List UInt8 := dkwX0_reads_2 ++ dktX0_reads_3
def dkwX0_reads_1 : List UInt8 := [167, 255, 237, 27, 133, 9, 28, 4, 100, 133, 184, 0, 127, 154, 0, 5, 3, 172, 27, 62, 42, 180, 0, 12]
abbrev dktX0_reads_1 : List UInt8 := dkwX0_reads_1 ++ dktX0_reads_2
def dkwX0_reads_0 : List UInt8 := [4, 61, 3, 62, 29, 42, 180, 0, 12, 180, 0, 131, 162, 0, 14, 28, 16, 10, 104, 61, 132, 3, 1]
abbrev dktX0_reads_0 : List UInt8 := dkwX0_reads_0 ++ dktX0_reads_1
theorem dksX0_reads_0 : cX0_reads.data.toList.drop 0 = dktX0_reads_0 := by decide +kernel
theorem dksX0_reads_1 : cX0_reads.data.toList.drop 23 = dktX0_reads_1 := dk_seg dksX0_reads_0 23 rfl rfl
theorem dksX0_reads_2 : cX0_reads.data.toList.drop 47 = dktX0_reads_2 := dk_seg dksX0_reads_1 24 rfl rfl
theorem dksX0_reads_3 : cX0_reads.data.toList.drop 71 = dktX0_reads_3 := dk_seg dksX0_reads_2 24 rfl rfl
theorem dX0_reads_0 : decode cX0_reads 0 = .ok (.iconst 1, 1) := dk_4 (dk_at dksX0_reads_0 0 rfl rfl)
theorem dX0_reads_1 : decode cX0_reads 1 = .ok (.istore_n 2, 1) := dk_61 (dk_at dksX0_reads_0 1 rfl rfl)
theorem dX0_reads_2 : decode cX0_reads 2 = .ok (.iconst 0, 1) := dk_3 (dk_at dksX0_reads_0 2 rfl rfl)
theorem dX0_reads_3 : decode cX0_reads 3 = .ok (.istore_n 3, 1) := dk_62 (dk_at dksX0_reads_0 3 rfl rfl)
theorem dX0_reads_4 : decode cX0_reads 4 = .ok (.iload_n 3, 1) := dk_29 (dk_at dksX0_reads_0 4 rfl rfl)
theorem dX0_reads_5 : decode cX0_reads 5 = .ok (.aload_n 0, 1) := dk_42 (dk_at dksX0_reads_0 5 rfl rfl)
theorem dX0_reads_6 : decode cX0_reads 6 = .ok (.getfield 12, 3) := dk_180 0 12 (dk_at dksX0_reads_0 6 rfl rfl)
theorem dX0_reads_9 : decode cX0_reads 9 = .ok (.getfield 131, 3) := dk_180 0 131 (dk_at dksX0_reads_0 9 rfl rfl)
theorem dX0_reads_12 : decode cX0_reads 12 = .ok (.if_icmp .ge 14, 3) := dk_162 0 14 (dk_at dksX0_reads_0 12 rfl rfl)
theorem dX0_reads_15 : decode cX0_reads 15 = .ok (.iload_n 2, 1) := dk_28 (dk_at dksX0_reads_0 15 rfl rfl)
theorem dX0_reads_16 : decode cX0_reads 16 = .ok (.bipush 10, 2) := dk_16 10 (dk_at dksX0_reads_0 16 rfl rfl)
theorem dX0_reads_18 : decode cX0_reads 18 = .ok (.imul, 1) := dk_104 (dk_at dksX0_reads_0 18 rfl rfl)
theorem dX0_reads_19 : decode cX0_reads 19 = .ok (.istore_n 2, 1) := dk_61 (dk_at dksX0_reads_0 19 rfl rfl)
theorem dX0_reads_20 : decode cX0_reads 20 = .ok (.iinc 3 1, 3) := dk_132 3 1 (dk_at dksX0_reads_0 20 rfl rfl)
theorem dX0_reads_23 : decode cX0_reads 23 = .ok (.goto (-19), 3) := dk_167 255 237 (dk_at dksX0_reads_1 0 rfl rfl)
theorem dX0_reads_26 : decode cX0_reads 26 = .ok (.iload_n 1, 1) := dk_27 (dk_at dksX0_reads_1 3 rfl rfl)
theorem dX0_reads_27 : decode cX0_reads 27 = .ok (.i2l, 1) := dk_133 (dk_at dksX0_reads_1 4 rfl rfl)
theorem dX0_reads_28 : decode cX0_reads 28 = .ok (.lconst 0, 1) := dk_9 (dk_at dksX0_reads_1 5 rfl rfl)
theorem dX0_reads_29 : decode cX0_reads 29 = .ok (.iload_n 2, 1) := dk_28 (dk_at dksX0_reads_1 6 rfl rfl)
theorem dX0_reads_30 : decode cX0_reads 30 = .ok (.iconst 1, 1) := dk_4 (dk_at dksX0_reads_1 7 rfl rfl)
theorem dX0_reads_31 : decode cX0_reads 31 = .ok (.isub, 1) := dk_100 (dk_at dksX0_reads_1 8 rfl rfl)
theorem dX0_reads_32 : decode cX0_reads 32 = .ok (.i2l, 1) := dk_133 (dk_at dksX0_reads_1 9 rfl rfl)
theorem dX0_reads_33 : decode cX0_reads 33 = .ok (.invokestatic 127, 3) := dk_184 0 127 (dk_at dksX0_reads_1 10 rfl rfl)
theorem dX0_reads_36 : decode cX0_reads 36 = .ok (.ifCond .ne 5, 3) := dk_154 0 5 (dk_at dksX0_reads_1 13 rfl rfl)
theorem dX0_reads_39 : decode cX0_reads 39 = .ok (.iconst 0, 1) := dk_3 (dk_at dksX0_reads_1 16 rfl rfl)
theorem dX0_reads_40 : decode cX0_reads 40 = .ok (.ireturn, 1) := dk_172 (dk_at dksX0_reads_1 17 rfl rfl)
theorem dX0_reads_41 : decode cX0_reads 41 = .ok (.iload_n 1, 1) := dk_27 (dk_at dksX0_reads_1 18 rfl rfl)
theorem dX0_reads_42 : decode cX0_reads 42 = .ok (.istore_n 3, 1) := dk_62 (dk_at dksX0_reads_1 19 rfl rfl)
theorem dX0_reads_43 : decode cX0_reads 43 = .ok (.aload_n 0, 1) := dk_42 (dk_at dksX0_reads_1 20 rfl rfl)
theorem dX0_reads_44 : decode cX0_reads 44 = .ok (.getfield 12, 3) := dk_180 0 12 (dk_at dksX0_reads_1 21 rfl rfl)
theorem dX0_reads_47 : decode cX0_reads 47 = .ok (.getfield 131, 3) := dk_180 0 131 (dk_at dksX0_reads_2 0 rfl rfl)
theorem dX0_reads_50 : decode cX0_reads 50 = .ok (.iconst 1, 1) := dk_4 (dk_at dksX0_reads_2 3 rfl rfl)
theorem dX0_reads_51 : decode cX0_reads 51 = .ok (.isub, 1) := dk_100 (dk_at dksX0_reads_2 4 rfl rfl)
theorem dX0_reads_52 : decode cX0_reads 52 = .ok (.istore 4, 2) := dk_54 4 (dk_at dksX0_reads_2 5 rfl rfl)
theorem dX0_reads_54 : decode cX0_reads 54 = .ok (.iload 4, 2) := dk_21 4 (dk_at dksX0_reads_2 7 rfl rfl)
theorem dX0_reads_56 : decode cX0_reads 56 = .ok (.ifCond .lt 25, 3) := dk_155 0 25 (dk_at dksX0_reads_2 9 rfl rfl)
theorem dX0_reads_59 : decode cX0_reads 59 = .ok (.aload_n 0, 1) := dk_42 (dk_at dksX0_reads_2 12 rfl rfl)
theorem dX0_reads_60 : decode cX0_reads 60 = .ok (.getfield 82, 3) := dk_180 0 82 (dk_at dksX0_reads_2 13 rfl rfl)
theorem dX0_reads_63 : decode cX0_reads 63 = .ok (.iload 4, 2) := dk_21 4 (dk_at dksX0_reads_2 16 rfl rfl)
theorem dX0_reads_65 : decode cX0_reads 65 = .ok (.iload_n 3, 1) := dk_29 (dk_at dksX0_reads_2 18 rfl rfl)
theorem dX0_reads_66 : decode cX0_reads 66 = .ok (.bipush 10, 2) := dk_16 10 (dk_at dksX0_reads_2 19 rfl rfl)
theorem dX0_reads_68 : decode cX0_reads 68 = .ok (.irem, 1) := dk_112 (dk_at dksX0_reads_2 21 rfl rfl)
theorem dX0_reads_69 : decode cX0_reads 69 = .ok (.iastore, 1) := dk_79 (dk_at dksX0_reads_2 22 rfl rfl)
theorem dX0_reads_70 : decode cX0_reads 70 = .ok (.iload_n 3, 1) := dk_29 (dk_at dksX0_reads_2 23 rfl rfl)
theorem dX0_reads_71 : decode cX0_reads 71 = .ok (.bipush 10, 2) := dk_16 10 (dk_at dksX0_reads_3 0 rfl rfl)
theorem dX0_reads_73 : decode cX0_reads 73 = .ok (.idiv, 1) := dk_108 (dk_at dksX0_reads_3 2 rfl rfl)
theorem dX0_reads_74 : decode cX0_reads 74 = .ok (.istore_n 3, 1) := dk_62 (dk_at dksX0_reads_3 3 rfl rfl)
theorem dX0_reads_75 : decode cX0_reads 75 = .ok (.iinc 4 (-1), 3) := dk_132 4 255 (dk_at dksX0_reads_3 4 rfl rfl)
theorem dX0_reads_78 : decode cX0_reads 78 = .ok (.goto (-24), 3) := dk_167 255 232 (dk_at dksX0_reads_3 7 rfl rfl)
theorem dX0_reads_81 : decode cX0_reads 81 = .ok (.iconst 1, 1) := dk_4 (dk_at dksX0_reads_3 10 rfl rfl)
theorem dX0_reads_82 : decode cX0_reads 82 = .ok (.ireturn, 1) := dk_172 (dk_at dksX0_reads_3 11 rfl rfl)
abbrev cX0_lost : ByteArray := prog_1_method_46_code
def yX0_lost : MethodName := ⟨RX0, "lost", "(I)I"⟩
def dkwX0_lost_1 : List UInt8 := [186, 1, 142, 0, 0, 182, 1, 126, 42, 180, 1, 133, 172]
abbrev dktX0_lost_1 : List UInt8 := dkwX0_lost_1 ++ []
def dkwX0_lost_0 : List UInt8 := [27, 2, 159, 0, 13, 42, 27, 182, 1, 25, 154, 0, 5, 2, 172, 42, 16, 251, 181, 1, 133, 42, 42, 27]
abbrev dktX0_lost_0 : List UInt8 := dkwX0_lost_0 ++ dktX0_lost_1
theorem dksX0_lost_0 : cX0_lost.data.toList.drop 0 = dktX0_lost_0 := by decide +kernel
theorem dksX0_lost_1 : cX0_lost.data.toList.drop 24 = dktX0_lost_1 := dk_seg dksX0_lost_0 24 rfl rfl
theorem dX0_lost_0 : decode cX0_lost 0 = .ok (.iload_n 1, 1) := dk_27 (dk_at dksX0_lost_0 0 rfl rfl)
theorem dX0_lost_1 : decode cX0_lost 1 = .ok (.iconst (-1), 1) := dk_2 (dk_at dksX0_lost_0 1 rfl rfl)
theorem dX0_lost_2 : decode cX0_lost 2 = .ok (.if_icmp .eq 13, 3) := dk_159 0 13 (dk_at dksX0_lost_0 2 rfl rfl)
theorem dX0_lost_5 : decode cX0_lost 5 = .ok (.aload_n 0, 1) := dk_42 (dk_at dksX0_lost_0 5 rfl rfl)
theorem dX0_lost_6 : decode cX0_lost 6 = .ok (.iload_n 1, 1) := dk_27 (dk_at dksX0_lost_0 6 rfl rfl)
theorem dX0_lost_7 : decode cX0_lost 7 = .ok (.invokevirtual 281, 3) := dk_182 1 25 (dk_at dksX0_lost_0 7 rfl rfl)
theorem dX0_lost_10 : decode cX0_lost 10 = .ok (.ifCond .ne 5, 3) := dk_154 0 5 (dk_at dksX0_lost_0 10 rfl rfl)
theorem dX0_lost_13 : decode cX0_lost 13 = .ok (.iconst (-1), 1) := dk_2 (dk_at dksX0_lost_0 13 rfl rfl)
theorem dX0_lost_14 : decode cX0_lost 14 = .ok (.ireturn, 1) := dk_172 (dk_at dksX0_lost_0 14 rfl rfl)
theorem dX0_lost_15 : decode cX0_lost 15 = .ok (.aload_n 0, 1) := dk_42 (dk_at dksX0_lost_0 15 rfl rfl)
theorem dX0_lost_16 : decode cX0_lost 16 = .ok (.bipush (-5), 2) := dk_16 251 (dk_at dksX0_lost_0 16 rfl rfl)
theorem dX0_lost_18 : decode cX0_lost 18 = .ok (.putfield 389, 3) := dk_181 1 133 (dk_at dksX0_lost_0 18 rfl rfl)
theorem dX0_lost_21 : decode cX0_lost 21 = .ok (.aload_n 0, 1) := dk_42 (dk_at dksX0_lost_0 21 rfl rfl)
theorem dX0_lost_22 : decode cX0_lost 22 = .ok (.aload_n 0, 1) := dk_42 (dk_at dksX0_lost_0 22 rfl rfl)
theorem dX0_lost_23 : decode cX0_lost 23 = .ok (.iload_n 1, 1) := dk_27 (dk_at dksX0_lost_0 23 rfl rfl)
theorem dX0_lost_24 : decode cX0_lost 24 = .ok (.invokedynamic 398, 5) := by decide +kernel
theorem dX0_lost_29 : decode cX0_lost 29 = .ok (.invokevirtual 382, 3) := dk_182 1 126 (dk_at dksX0_lost_1 5 rfl rfl)
theorem dX0_lost_32 : decode cX0_lost 32 = .ok (.aload_n 0, 1) := dk_42 (dk_at dksX0_lost_1 8 rfl rfl)
theorem dX0_lost_33 : decode cX0_lost 33 = .ok (.getfield 389, 3) := dk_180 1 133 (dk_at dksX0_lost_1 9 rfl rfl)
theorem dX0_lost_36 : decode cX0_lost 36 = .ok (.ireturn, 1) := dk_172 (dk_at dksX0_lost_1 12 rfl rfl)
abbrev cX0_lambda_lost_5 : ByteArray := prog_1_method_79_code
def yX0_lambda_lost_5 : MethodName := ⟨RX0, "lambda$lost$5", "(IIII)Z"⟩
def dkwX0_lambda_lost_5_0 : List UInt8 := [21, 4, 157, 0, 12, 42, 27, 28, 182, 2, 93, 153, 0, 7, 4, 167, 0, 4, 3, 172]
abbrev dktX0_lambda_lost_5_0 : List UInt8 := dkwX0_lambda_lost_5_0 ++ []
theorem dksX0_lambda_lost_5_0 : cX0_lambda_lost_5.data.toList.drop 0 = dktX0_lambda_lost_5_0 := by decide +kernel
theorem dX0_lambda_lost_5_0 : decode cX0_lambda_lost_5 0 = .ok (.iload 4, 2) := dk_21 4 (dk_at dksX0_lambda_lost_5_0 0 rfl rfl)
theorem dX0_lambda_lost_5_2 : decode cX0_lambda_lost_5 2 = .ok (.ifCond .gt 12, 3) := dk_157 0 12 (dk_at dksX0_lambda_lost_5_0 2 rfl rfl)
theorem dX0_lambda_lost_5_5 : decode cX0_lambda_lost_5 5 = .ok (.aload_n 0, 1) := dk_42 (dk_at dksX0_lambda_lost_5_0 5 rfl rfl)
theorem dX0_lambda_lost_5_6 : decode cX0_lambda_lost_5 6 = .ok (.iload_n 1, 1) := dk_27 (dk_at dksX0_lambda_lost_5_0 6 rfl rfl)
theorem dX0_lambda_lost_5_7 : decode cX0_lambda_lost_5 7 = .ok (.iload_n 2, 1) := dk_28 (dk_at dksX0_lambda_lost_5_0 7 rfl rfl)
theorem dX0_lambda_lost_5_8 : decode cX0_lambda_lost_5 8 = .ok (.invokevirtual 605, 3) := dk_182 2 93 (dk_at dksX0_lambda_lost_5_0 8 rfl rfl)
theorem dX0_lambda_lost_5_11 : decode cX0_lambda_lost_5 11 = .ok (.ifCond .eq 7, 3) := dk_153 0 7 (dk_at dksX0_lambda_lost_5_0 11 rfl rfl)
theorem dX0_lambda_lost_5_14 : decode cX0_lambda_lost_5 14 = .ok (.iconst 1, 1) := dk_4 (dk_at dksX0_lambda_lost_5_0 14 rfl rfl)
theorem dX0_lambda_lost_5_15 : decode cX0_lambda_lost_5 15 = .ok (.goto 4, 3) := dk_167 0 4 (dk_at dksX0_lambda_lost_5_0 15 rfl rfl)
theorem dX0_lambda_lost_5_18 : decode cX0_lambda_lost_5 18 = .ok (.iconst 0, 1) := dk_3 (dk_at dksX0_lambda_lost_5_0 18 rfl rfl)
theorem dX0_lambda_lost_5_19 : decode cX0_lambda_lost_5 19 = .ok (.ireturn, 1) := dk_172 (dk_at dksX0_lambda_lost_5_0 19 rfl rfl)
abbrev cX0_isKept : ByteArray := prog_1_method_45_code
def yX0_isKept : MethodName := ⟨RX0, "isKept", "(II)Z"⟩
def dkwX0_isKept_0 : List UInt8 := [42, 27, 182, 1, 139, 153, 0, 5, 4, 172, 42, 28, 181, 1, 133, 3, 172]
abbrev dktX0_isKept_0 : List UInt8 := dkwX0_isKept_0 ++ []
theorem dksX0_isKept_0 : cX0_isKept.data.toList.drop 0 = dktX0_isKept_0 := by decide +kernel
theorem dX0_isKept_0 : decode cX0_isKept 0 = .ok (.aload_n 0, 1) := dk_42 (dk_at dksX0_isKept_0 0 rfl rfl)
theorem dX0_isKept_1 : decode cX0_isKept 1 = .ok (.iload_n 1, 1) := dk_27 (dk_at dksX0_isKept_0 1 rfl rfl)
theorem dX0_isKept_2 : decode cX0_isKept 2 = .ok (.invokevirtual 395, 3) := dk_182 1 139 (dk_at dksX0_isKept_0 2 rfl rfl)
theorem dX0_isKept_5 : decode cX0_isKept 5 = .ok (.ifCond .eq 5, 3) := dk_153 0 5 (dk_at dksX0_isKept_0 5 rfl rfl)
theorem dX0_isKept_8 : decode cX0_isKept 8 = .ok (.iconst 1, 1) := dk_4 (dk_at dksX0_isKept_0 8 rfl rfl)
theorem dX0_isKept_9 : decode cX0_isKept 9 = .ok (.ireturn, 1) := dk_172 (dk_at dksX0_isKept_0 9 rfl rfl)
theorem dX0_isKept_10 : decode cX0_isKept 10 = .ok (.aload_n 0, 1) := dk_42 (dk_at dksX0_isKept_0 10 rfl rfl)
theorem dX0_isKept_11 : decode cX0_isKept 11 = .ok (.iload_n 2, 1) := dk_28 (dk_at dksX0_isKept_0 11 rfl rfl)
theorem dX0_isKept_12 : decode cX0_isKept 12 = .ok (.putfield 389, 3) := dk_181 1 133 (dk_at dksX0_isKept_0 12 rfl rfl)
theorem dX0_isKept_15 : decode cX0_isKept 15 = .ok (.iconst 0, 1) := dk_3 (dk_at dksX0_isKept_0 15 rfl rfl)
theorem dX0_isKept_16 : decode cX0_isKept 16 = .ok (.ireturn, 1) := dk_172 (dk_at dksX0_isKept_0 16 rfl rfl)
abbrev cX0_isWithin : ByteArray := prog_1_method_44_code
def yX0_isWithin : MethodName := ⟨RX0, "isWithin", "(I)Z"⟩
def dkwX0_isWithin_4 : List UInt8 := [180, 1, 28, 27, 50, 180, 1, 32, 148, 157, 0, 7, 4, 167, 0, 4, 3, 172]
abbrev dktX0_isWithin_4 : List UInt8 := dkwX0_isWithin_4 ++ []
def dkwX0_isWithin_3 : List UInt8 := [160, 0, 20, 42, 180, 0, 12, 42, 180, 0, 12, 180, 0, 131, 182, 1, 63, 167, 0, 15, 42, 180, 0, 27]
abbrev dktX0_isWithin_3 : List UInt8 := dkwX0_isWithin_3 ++ dktX0_isWithin_4
def dkwX0_isWithin_2 : List UInt8 := [180, 1, 28, 27, 50, 180, 1, 37, 21, 4, 47, 105, 97, 65, 132, 4, 1, 167, 255, 197, 32, 27, 2]
abbrev dktX0_isWithin_2 : List UInt8 := dkwX0_isWithin_2 ++ dktX0_isWithin_3
def dkwX0_isWithin_1 : List UInt8 := [46, 133, 27, 2, 160, 0, 15, 42, 180, 0, 12, 21, 4, 182, 1, 63, 167, 0, 18, 42, 180, 0, 27]
abbrev dktX0_isWithin_1 : List UInt8 := dkwX0_isWithin_1 ++ dktX0_isWithin_2
def dkwX0_isWithin_0 : List UInt8 := [9, 65, 3, 54, 4, 21, 4, 42, 180, 0, 12, 180, 0, 131, 162, 0, 53, 32, 42, 180, 0, 60, 21, 4]
abbrev dktX0_isWithin_0 : List UInt8 := dkwX0_isWithin_0 ++ dktX0_isWithin_1
theorem dksX0_isWithin_0 : cX0_isWithin.data.toList.drop 0 = dktX0_isWithin_0 := by decide +kernel
theorem dksX0_isWithin_1 : cX0_isWithin.data.toList.drop 24 = dktX0_isWithin_1 := dk_seg dksX0_isWithin_0 24 rfl rfl
theorem dksX0_isWithin_2 : cX0_isWithin.data.toList.drop 47 = dktX0_isWithin_2 := dk_seg dksX0_isWithin_1 23 rfl rfl
theorem dksX0_isWithin_3 : cX0_isWithin.data.toList.drop 70 = dktX0_isWithin_3 := dk_seg dksX0_isWithin_2 23 rfl rfl
theorem dksX0_isWithin_4 : cX0_isWithin.data.toList.drop 94 = dktX0_isWithin_4 := dk_seg dksX0_isWithin_3 24 rfl rfl
theorem dX0_isWithin_0 : decode cX0_isWithin 0 = .ok (.lconst 0, 1) := dk_9 (dk_at dksX0_isWithin_0 0 rfl rfl)
theorem dX0_isWithin_1 : decode cX0_isWithin 1 = .ok (.lstore_n 2, 1) := dk_65 (dk_at dksX0_isWithin_0 1 rfl rfl)
theorem dX0_isWithin_2 : decode cX0_isWithin 2 = .ok (.iconst 0, 1) := dk_3 (dk_at dksX0_isWithin_0 2 rfl rfl)
theorem dX0_isWithin_3 : decode cX0_isWithin 3 = .ok (.istore 4, 2) := dk_54 4 (dk_at dksX0_isWithin_0 3 rfl rfl)
theorem dX0_isWithin_5 : decode cX0_isWithin 5 = .ok (.iload 4, 2) := dk_21 4 (dk_at dksX0_isWithin_0 5 rfl rfl)
theorem dX0_isWithin_7 : decode cX0_isWithin 7 = .ok (.aload_n 0, 1) := dk_42 (dk_at dksX0_isWithin_0 7 rfl rfl)
theorem dX0_isWithin_8 : decode cX0_isWithin 8 = .ok (.getfield 12, 3) := dk_180 0 12 (dk_at dksX0_isWithin_0 8 rfl rfl)
theorem dX0_isWithin_11 : decode cX0_isWithin 11 = .ok (.getfield 131, 3) := dk_180 0 131 (dk_at dksX0_isWithin_0 11 rfl rfl)
theorem dX0_isWithin_14 : decode cX0_isWithin 14 = .ok (.if_icmp .ge 53, 3) := dk_162 0 53 (dk_at dksX0_isWithin_0 14 rfl rfl)
theorem dX0_isWithin_17 : decode cX0_isWithin 17 = .ok (.lload_n 2, 1) := dk_32 (dk_at dksX0_isWithin_0 17 rfl rfl)
theorem dX0_isWithin_18 : decode cX0_isWithin 18 = .ok (.aload_n 0, 1) := dk_42 (dk_at dksX0_isWithin_0 18 rfl rfl)
theorem dX0_isWithin_19 : decode cX0_isWithin 19 = .ok (.getfield 60, 3) := dk_180 0 60 (dk_at dksX0_isWithin_0 19 rfl rfl)
theorem dX0_isWithin_22 : decode cX0_isWithin 22 = .ok (.iload 4, 2) := dk_21 4 (dk_at dksX0_isWithin_0 22 rfl rfl)
theorem dX0_isWithin_24 : decode cX0_isWithin 24 = .ok (.iaload, 1) := dk_46 (dk_at dksX0_isWithin_1 0 rfl rfl)
theorem dX0_isWithin_25 : decode cX0_isWithin 25 = .ok (.i2l, 1) := dk_133 (dk_at dksX0_isWithin_1 1 rfl rfl)
theorem dX0_isWithin_26 : decode cX0_isWithin 26 = .ok (.iload_n 1, 1) := dk_27 (dk_at dksX0_isWithin_1 2 rfl rfl)
theorem dX0_isWithin_27 : decode cX0_isWithin 27 = .ok (.iconst (-1), 1) := dk_2 (dk_at dksX0_isWithin_1 3 rfl rfl)
theorem dX0_isWithin_28 : decode cX0_isWithin 28 = .ok (.if_icmp .ne 15, 3) := dk_160 0 15 (dk_at dksX0_isWithin_1 4 rfl rfl)
theorem dX0_isWithin_31 : decode cX0_isWithin 31 = .ok (.aload_n 0, 1) := dk_42 (dk_at dksX0_isWithin_1 7 rfl rfl)
theorem dX0_isWithin_32 : decode cX0_isWithin 32 = .ok (.getfield 12, 3) := dk_180 0 12 (dk_at dksX0_isWithin_1 8 rfl rfl)
theorem dX0_isWithin_35 : decode cX0_isWithin 35 = .ok (.iload 4, 2) := dk_21 4 (dk_at dksX0_isWithin_1 11 rfl rfl)
theorem dX0_isWithin_37 : decode cX0_isWithin 37 = .ok (.invokevirtual 319, 3) := dk_182 1 63 (dk_at dksX0_isWithin_1 13 rfl rfl)
theorem dX0_isWithin_40 : decode cX0_isWithin 40 = .ok (.goto 18, 3) := dk_167 0 18 (dk_at dksX0_isWithin_1 16 rfl rfl)
theorem dX0_isWithin_43 : decode cX0_isWithin 43 = .ok (.aload_n 0, 1) := dk_42 (dk_at dksX0_isWithin_1 19 rfl rfl)
theorem dX0_isWithin_44 : decode cX0_isWithin 44 = .ok (.getfield 27, 3) := dk_180 0 27 (dk_at dksX0_isWithin_1 20 rfl rfl)
theorem dX0_isWithin_47 : decode cX0_isWithin 47 = .ok (.getfield 284, 3) := dk_180 1 28 (dk_at dksX0_isWithin_2 0 rfl rfl)
theorem dX0_isWithin_50 : decode cX0_isWithin 50 = .ok (.iload_n 1, 1) := dk_27 (dk_at dksX0_isWithin_2 3 rfl rfl)
theorem dX0_isWithin_51 : decode cX0_isWithin 51 = .ok (.aaload, 1) := dk_50 (dk_at dksX0_isWithin_2 4 rfl rfl)
theorem dX0_isWithin_52 : decode cX0_isWithin 52 = .ok (.getfield 293, 3) := dk_180 1 37 (dk_at dksX0_isWithin_2 5 rfl rfl)
theorem dX0_isWithin_55 : decode cX0_isWithin 55 = .ok (.iload 4, 2) := dk_21 4 (dk_at dksX0_isWithin_2 8 rfl rfl)
theorem dX0_isWithin_57 : decode cX0_isWithin 57 = .ok (.laload, 1) := dk_47 (dk_at dksX0_isWithin_2 10 rfl rfl)
theorem dX0_isWithin_58 : decode cX0_isWithin 58 = .ok (.lmul, 1) := dk_105 (dk_at dksX0_isWithin_2 11 rfl rfl)
theorem dX0_isWithin_59 : decode cX0_isWithin 59 = .ok (.ladd, 1) := dk_97 (dk_at dksX0_isWithin_2 12 rfl rfl)
theorem dX0_isWithin_60 : decode cX0_isWithin 60 = .ok (.lstore_n 2, 1) := dk_65 (dk_at dksX0_isWithin_2 13 rfl rfl)
theorem dX0_isWithin_61 : decode cX0_isWithin 61 = .ok (.iinc 4 1, 3) := dk_132 4 1 (dk_at dksX0_isWithin_2 14 rfl rfl)
theorem dX0_isWithin_64 : decode cX0_isWithin 64 = .ok (.goto (-59), 3) := dk_167 255 197 (dk_at dksX0_isWithin_2 17 rfl rfl)
theorem dX0_isWithin_67 : decode cX0_isWithin 67 = .ok (.lload_n 2, 1) := dk_32 (dk_at dksX0_isWithin_2 20 rfl rfl)
theorem dX0_isWithin_68 : decode cX0_isWithin 68 = .ok (.iload_n 1, 1) := dk_27 (dk_at dksX0_isWithin_2 21 rfl rfl)
theorem dX0_isWithin_69 : decode cX0_isWithin 69 = .ok (.iconst (-1), 1) := dk_2 (dk_at dksX0_isWithin_2 22 rfl rfl)
theorem dX0_isWithin_70 : decode cX0_isWithin 70 = .ok (.if_icmp .ne 20, 3) := dk_160 0 20 (dk_at dksX0_isWithin_3 0 rfl rfl)
theorem dX0_isWithin_73 : decode cX0_isWithin 73 = .ok (.aload_n 0, 1) := dk_42 (dk_at dksX0_isWithin_3 3 rfl rfl)
theorem dX0_isWithin_74 : decode cX0_isWithin 74 = .ok (.getfield 12, 3) := dk_180 0 12 (dk_at dksX0_isWithin_3 4 rfl rfl)
theorem dX0_isWithin_77 : decode cX0_isWithin 77 = .ok (.aload_n 0, 1) := dk_42 (dk_at dksX0_isWithin_3 7 rfl rfl)
theorem dX0_isWithin_78 : decode cX0_isWithin 78 = .ok (.getfield 12, 3) := dk_180 0 12 (dk_at dksX0_isWithin_3 8 rfl rfl)
theorem dX0_isWithin_81 : decode cX0_isWithin 81 = .ok (.getfield 131, 3) := dk_180 0 131 (dk_at dksX0_isWithin_3 11 rfl rfl)
theorem dX0_isWithin_84 : decode cX0_isWithin 84 = .ok (.invokevirtual 319, 3) := dk_182 1 63 (dk_at dksX0_isWithin_3 14 rfl rfl)
theorem dX0_isWithin_87 : decode cX0_isWithin 87 = .ok (.goto 15, 3) := dk_167 0 15 (dk_at dksX0_isWithin_3 17 rfl rfl)
theorem dX0_isWithin_90 : decode cX0_isWithin 90 = .ok (.aload_n 0, 1) := dk_42 (dk_at dksX0_isWithin_3 20 rfl rfl)
theorem dX0_isWithin_91 : decode cX0_isWithin 91 = .ok (.getfield 27, 3) := dk_180 0 27 (dk_at dksX0_isWithin_3 21 rfl rfl)
theorem dX0_isWithin_94 : decode cX0_isWithin 94 = .ok (.getfield 284, 3) := dk_180 1 28 (dk_at dksX0_isWithin_4 0 rfl rfl)
theorem dX0_isWithin_97 : decode cX0_isWithin 97 = .ok (.iload_n 1, 1) := dk_27 (dk_at dksX0_isWithin_4 3 rfl rfl)
theorem dX0_isWithin_98 : decode cX0_isWithin 98 = .ok (.aaload, 1) := dk_50 (dk_at dksX0_isWithin_4 4 rfl rfl)
theorem dX0_isWithin_99 : decode cX0_isWithin 99 = .ok (.getfield 288, 3) := dk_180 1 32 (dk_at dksX0_isWithin_4 5 rfl rfl)
theorem dX0_isWithin_102 : decode cX0_isWithin 102 = .ok (.lcmp, 1) := dk_148 (dk_at dksX0_isWithin_4 8 rfl rfl)
theorem dX0_isWithin_103 : decode cX0_isWithin 103 = .ok (.ifCond .gt 7, 3) := dk_157 0 7 (dk_at dksX0_isWithin_4 9 rfl rfl)
theorem dX0_isWithin_106 : decode cX0_isWithin 106 = .ok (.iconst 1, 1) := dk_4 (dk_at dksX0_isWithin_4 12 rfl rfl)
theorem dX0_isWithin_107 : decode cX0_isWithin 107 = .ok (.goto 4, 3) := dk_167 0 4 (dk_at dksX0_isWithin_4 13 rfl rfl)
theorem dX0_isWithin_110 : decode cX0_isWithin 110 = .ok (.iconst 0, 1) := dk_3 (dk_at dksX0_isWithin_4 16 rfl rfl)
theorem dX0_isWithin_111 : decode cX0_isWithin 111 = .ok (.ireturn, 1) := dk_172 (dk_at dksX0_isWithin_4 17 rfl rfl)
abbrev cX0_branch : ByteArray := prog_1_method_51_code
def yX0_branch : MethodName := ⟨RX0, "branch", "(I)I"⟩
def dkwX0_branch_5 : List UInt8 := [167, 0, 19, 27, 6, 160, 0, 10, 42, 180, 1, 162, 167, 0, 7, 44, 180, 1, 170, 172]
abbrev dktX0_branch_5 : List UInt8 := dkwX0_branch_5 ++ []
def dkwX0_branch_4 : List UInt8 := [180, 1, 162, 172, 44, 180, 1, 187, 27, 7, 100, 46, 172, 77, 27, 4, 160, 0, 10, 42, 180, 1, 173]
abbrev dktX0_branch_4 : List UInt8 := dkwX0_branch_4 ++ dktX0_branch_5
def dkwX0_branch_3 : List UInt8 := [44, 180, 1, 204, 44, 180, 1, 205, 109, 136, 172, 42, 180, 1, 173, 172, 44, 180, 1, 206, 172, 42]
abbrev dktX0_branch_3 : List UInt8 := dkwX0_branch_3 ++ dktX0_branch_4
def dkwX0_branch_2 : List UInt8 := [170, 0, 0, 0, 55, 0, 0, 0, 0, 0, 0, 0, 3, 0, 0, 0, 29, 0, 0, 0, 40, 0, 0, 0, 45, 0, 0, 0, 50]
abbrev dktX0_branch_2 : List UInt8 := dkwX0_branch_2 ++ dktX0_branch_3
def dkwX0_branch_1 : List UInt8 := [182, 1, 201, 77, 27]
abbrev dktX0_branch_1 : List UInt8 := dkwX0_branch_1 ++ dktX0_branch_2
def dkwX0_branch_0 : List UInt8 := [27, 133, 9, 6, 42, 180, 0, 12, 180, 0, 131, 96, 133, 184, 0, 127, 154, 0, 5, 2, 172, 42]
abbrev dktX0_branch_0 : List UInt8 := dkwX0_branch_0 ++ dktX0_branch_1
theorem dksX0_branch_0 : cX0_branch.data.toList.drop 0 = dktX0_branch_0 := by decide +kernel
theorem dksX0_branch_1 : cX0_branch.data.toList.drop 22 = dktX0_branch_1 := dk_seg dksX0_branch_0 22 rfl rfl
theorem dksX0_branch_2 : cX0_branch.data.toList.drop 27 = dktX0_branch_2 := dk_seg dksX0_branch_1 5 rfl rfl
theorem dksX0_branch_3 : cX0_branch.data.toList.drop 56 = dktX0_branch_3 := dk_seg dksX0_branch_2 29 rfl rfl
theorem dksX0_branch_4 : cX0_branch.data.toList.drop 78 = dktX0_branch_4 := dk_seg dksX0_branch_3 22 rfl rfl
theorem dksX0_branch_5 : cX0_branch.data.toList.drop 101 = dktX0_branch_5 := dk_seg dksX0_branch_4 23 rfl rfl
theorem dX0_branch_0 : decode cX0_branch 0 = .ok (.iload_n 1, 1) := dk_27 (dk_at dksX0_branch_0 0 rfl rfl)
theorem dX0_branch_1 : decode cX0_branch 1 = .ok (.i2l, 1) := dk_133 (dk_at dksX0_branch_0 1 rfl rfl)
theorem dX0_branch_2 : decode cX0_branch 2 = .ok (.lconst 0, 1) := dk_9 (dk_at dksX0_branch_0 2 rfl rfl)
theorem dX0_branch_3 : decode cX0_branch 3 = .ok (.iconst 3, 1) := dk_6 (dk_at dksX0_branch_0 3 rfl rfl)
theorem dX0_branch_4 : decode cX0_branch 4 = .ok (.aload_n 0, 1) := dk_42 (dk_at dksX0_branch_0 4 rfl rfl)
theorem dX0_branch_5 : decode cX0_branch 5 = .ok (.getfield 12, 3) := dk_180 0 12 (dk_at dksX0_branch_0 5 rfl rfl)
theorem dX0_branch_8 : decode cX0_branch 8 = .ok (.getfield 131, 3) := dk_180 0 131 (dk_at dksX0_branch_0 8 rfl rfl)
theorem dX0_branch_11 : decode cX0_branch 11 = .ok (.iadd, 1) := dk_96 (dk_at dksX0_branch_0 11 rfl rfl)
theorem dX0_branch_12 : decode cX0_branch 12 = .ok (.i2l, 1) := dk_133 (dk_at dksX0_branch_0 12 rfl rfl)
theorem dX0_branch_13 : decode cX0_branch 13 = .ok (.invokestatic 127, 3) := dk_184 0 127 (dk_at dksX0_branch_0 13 rfl rfl)
theorem dX0_branch_16 : decode cX0_branch 16 = .ok (.ifCond .ne 5, 3) := dk_154 0 5 (dk_at dksX0_branch_0 16 rfl rfl)
theorem dX0_branch_19 : decode cX0_branch 19 = .ok (.iconst (-1), 1) := dk_2 (dk_at dksX0_branch_0 19 rfl rfl)
theorem dX0_branch_20 : decode cX0_branch 20 = .ok (.ireturn, 1) := dk_172 (dk_at dksX0_branch_0 20 rfl rfl)
theorem dX0_branch_21 : decode cX0_branch 21 = .ok (.aload_n 0, 1) := dk_42 (dk_at dksX0_branch_0 21 rfl rfl)
theorem dX0_branch_22 : decode cX0_branch 22 = .ok (.invokevirtual 457, 3) := dk_182 1 201 (dk_at dksX0_branch_1 0 rfl rfl)
theorem dX0_branch_25 : decode cX0_branch 25 = .ok (.astore_n 2, 1) := dk_77 (dk_at dksX0_branch_1 3 rfl rfl)
theorem dX0_branch_26 : decode cX0_branch 26 = .ok (.iload_n 1, 1) := dk_27 (dk_at dksX0_branch_1 4 rfl rfl)
theorem dX0_branch_27 : decode cX0_branch 27 = .ok (.tableswitch 55 0 3 #[29, 40, 45, 50], 29) := by decide +kernel
theorem dX0_branch_56 : decode cX0_branch 56 = .ok (.aload_n 2, 1) := dk_44 (dk_at dksX0_branch_3 0 rfl rfl)
theorem dX0_branch_57 : decode cX0_branch 57 = .ok (.getfield 460, 3) := dk_180 1 204 (dk_at dksX0_branch_3 1 rfl rfl)
theorem dX0_branch_60 : decode cX0_branch 60 = .ok (.aload_n 2, 1) := dk_44 (dk_at dksX0_branch_3 4 rfl rfl)
theorem dX0_branch_61 : decode cX0_branch 61 = .ok (.getfield 461, 3) := dk_180 1 205 (dk_at dksX0_branch_3 5 rfl rfl)
theorem dX0_branch_64 : decode cX0_branch 64 = .ok (.ldiv, 1) := dk_109 (dk_at dksX0_branch_3 8 rfl rfl)
theorem dX0_branch_65 : decode cX0_branch 65 = .ok (.l2i, 1) := dk_136 (dk_at dksX0_branch_3 9 rfl rfl)
theorem dX0_branch_66 : decode cX0_branch 66 = .ok (.ireturn, 1) := dk_172 (dk_at dksX0_branch_3 10 rfl rfl)
theorem dX0_branch_67 : decode cX0_branch 67 = .ok (.aload_n 0, 1) := dk_42 (dk_at dksX0_branch_3 11 rfl rfl)
theorem dX0_branch_68 : decode cX0_branch 68 = .ok (.getfield 429, 3) := dk_180 1 173 (dk_at dksX0_branch_3 12 rfl rfl)
theorem dX0_branch_71 : decode cX0_branch 71 = .ok (.ireturn, 1) := dk_172 (dk_at dksX0_branch_3 15 rfl rfl)
theorem dX0_branch_72 : decode cX0_branch 72 = .ok (.aload_n 2, 1) := dk_44 (dk_at dksX0_branch_3 16 rfl rfl)
theorem dX0_branch_73 : decode cX0_branch 73 = .ok (.getfield 462, 3) := dk_180 1 206 (dk_at dksX0_branch_3 17 rfl rfl)
theorem dX0_branch_76 : decode cX0_branch 76 = .ok (.ireturn, 1) := dk_172 (dk_at dksX0_branch_3 20 rfl rfl)
theorem dX0_branch_77 : decode cX0_branch 77 = .ok (.aload_n 0, 1) := dk_42 (dk_at dksX0_branch_3 21 rfl rfl)
theorem dX0_branch_78 : decode cX0_branch 78 = .ok (.getfield 418, 3) := dk_180 1 162 (dk_at dksX0_branch_4 0 rfl rfl)
theorem dX0_branch_81 : decode cX0_branch 81 = .ok (.ireturn, 1) := dk_172 (dk_at dksX0_branch_4 3 rfl rfl)
theorem dX0_branch_82 : decode cX0_branch 82 = .ok (.aload_n 2, 1) := dk_44 (dk_at dksX0_branch_4 4 rfl rfl)
theorem dX0_branch_83 : decode cX0_branch 83 = .ok (.getfield 443, 3) := dk_180 1 187 (dk_at dksX0_branch_4 5 rfl rfl)
theorem dX0_branch_86 : decode cX0_branch 86 = .ok (.iload_n 1, 1) := dk_27 (dk_at dksX0_branch_4 8 rfl rfl)
theorem dX0_branch_87 : decode cX0_branch 87 = .ok (.iconst 4, 1) := dk_7 (dk_at dksX0_branch_4 9 rfl rfl)
theorem dX0_branch_88 : decode cX0_branch 88 = .ok (.isub, 1) := dk_100 (dk_at dksX0_branch_4 10 rfl rfl)
theorem dX0_branch_89 : decode cX0_branch 89 = .ok (.iaload, 1) := dk_46 (dk_at dksX0_branch_4 11 rfl rfl)
theorem dX0_branch_90 : decode cX0_branch 90 = .ok (.ireturn, 1) := dk_172 (dk_at dksX0_branch_4 12 rfl rfl)
theorem dX0_branch_91 : decode cX0_branch 91 = .ok (.astore_n 2, 1) := dk_77 (dk_at dksX0_branch_4 13 rfl rfl)
theorem dX0_branch_92 : decode cX0_branch 92 = .ok (.iload_n 1, 1) := dk_27 (dk_at dksX0_branch_4 14 rfl rfl)
theorem dX0_branch_93 : decode cX0_branch 93 = .ok (.iconst 1, 1) := dk_4 (dk_at dksX0_branch_4 15 rfl rfl)
theorem dX0_branch_94 : decode cX0_branch 94 = .ok (.if_icmp .ne 10, 3) := dk_160 0 10 (dk_at dksX0_branch_4 16 rfl rfl)
theorem dX0_branch_97 : decode cX0_branch 97 = .ok (.aload_n 0, 1) := dk_42 (dk_at dksX0_branch_4 19 rfl rfl)
theorem dX0_branch_98 : decode cX0_branch 98 = .ok (.getfield 429, 3) := dk_180 1 173 (dk_at dksX0_branch_4 20 rfl rfl)
theorem dX0_branch_101 : decode cX0_branch 101 = .ok (.goto 19, 3) := dk_167 0 19 (dk_at dksX0_branch_5 0 rfl rfl)
theorem dX0_branch_104 : decode cX0_branch 104 = .ok (.iload_n 1, 1) := dk_27 (dk_at dksX0_branch_5 3 rfl rfl)
theorem dX0_branch_105 : decode cX0_branch 105 = .ok (.iconst 3, 1) := dk_6 (dk_at dksX0_branch_5 4 rfl rfl)
theorem dX0_branch_106 : decode cX0_branch 106 = .ok (.if_icmp .ne 10, 3) := dk_160 0 10 (dk_at dksX0_branch_5 5 rfl rfl)
theorem dX0_branch_109 : decode cX0_branch 109 = .ok (.aload_n 0, 1) := dk_42 (dk_at dksX0_branch_5 8 rfl rfl)
theorem dX0_branch_110 : decode cX0_branch 110 = .ok (.getfield 418, 3) := dk_180 1 162 (dk_at dksX0_branch_5 9 rfl rfl)
theorem dX0_branch_113 : decode cX0_branch 113 = .ok (.goto 7, 3) := dk_167 0 7 (dk_at dksX0_branch_5 12 rfl rfl)
theorem dX0_branch_116 : decode cX0_branch 116 = .ok (.aload_n 2, 1) := dk_44 (dk_at dksX0_branch_5 15 rfl rfl)
theorem dX0_branch_117 : decode cX0_branch 117 = .ok (.getfield 426, 3) := dk_180 1 170 (dk_at dksX0_branch_5 16 rfl rfl)
theorem dX0_branch_120 : decode cX0_branch 120 = .ok (.ireturn, 1) := dk_172 (dk_at dksX0_branch_5 19 rfl rfl)
abbrev cX0_branched : ByteArray := prog_1_method_50_code
def yX0_branched : MethodName := ⟨RX0, "branched", "()LWholePacks$Node;"⟩
def dkwX0_branched_3 : List UInt8 := [167, 255, 220, 187, 1, 168, 89, 16, 251, 183, 1, 176, 191]
abbrev dktX0_branched_3 : List UInt8 := dkwX0_branched_3 ++ []
def dkwX0_branched_2 : List UInt8 := [182, 1, 117, 192, 0, 85, 77, 44, 180, 1, 177, 2, 160, 0, 5, 44, 176, 42, 44, 182, 1, 198]
abbrev dktX0_branched_2 : List UInt8 := dkwX0_branched_2 ++ dktX0_branched_3
def dkwX0_branched_1 : List UInt8 := [182, 1, 193, 42, 43, 182, 1, 190, 42, 180, 0, 92, 182, 1, 195, 154, 0, 32, 42, 180, 0, 92]
abbrev dktX0_branched_1 : List UInt8 := dkwX0_branched_1 ++ dktX0_branched_2
def dkwX0_branched_0 : List UInt8 := [42, 180, 0, 92, 182, 1, 122, 42, 3, 181, 1, 173, 42, 3, 181, 1, 162, 42, 182, 1, 180, 76, 43]
abbrev dktX0_branched_0 : List UInt8 := dkwX0_branched_0 ++ dktX0_branched_1
theorem dksX0_branched_0 : cX0_branched.data.toList.drop 0 = dktX0_branched_0 := by decide +kernel
theorem dksX0_branched_1 : cX0_branched.data.toList.drop 23 = dktX0_branched_1 := dk_seg dksX0_branched_0 23 rfl rfl
theorem dksX0_branched_2 : cX0_branched.data.toList.drop 45 = dktX0_branched_2 := dk_seg dksX0_branched_1 22 rfl rfl
theorem dksX0_branched_3 : cX0_branched.data.toList.drop 67 = dktX0_branched_3 := dk_seg dksX0_branched_2 22 rfl rfl
theorem dX0_branched_0 : decode cX0_branched 0 = .ok (.aload_n 0, 1) := dk_42 (dk_at dksX0_branched_0 0 rfl rfl)
theorem dX0_branched_1 : decode cX0_branched 1 = .ok (.getfield 92, 3) := dk_180 0 92 (dk_at dksX0_branched_0 1 rfl rfl)
theorem dX0_branched_4 : decode cX0_branched 4 = .ok (.invokevirtual 378, 3) := dk_182 1 122 (dk_at dksX0_branched_0 4 rfl rfl)
theorem dX0_branched_7 : decode cX0_branched 7 = .ok (.aload_n 0, 1) := dk_42 (dk_at dksX0_branched_0 7 rfl rfl)
theorem dX0_branched_8 : decode cX0_branched 8 = .ok (.iconst 0, 1) := dk_3 (dk_at dksX0_branched_0 8 rfl rfl)
theorem dX0_branched_9 : decode cX0_branched 9 = .ok (.putfield 429, 3) := dk_181 1 173 (dk_at dksX0_branched_0 9 rfl rfl)
theorem dX0_branched_12 : decode cX0_branched 12 = .ok (.aload_n 0, 1) := dk_42 (dk_at dksX0_branched_0 12 rfl rfl)
theorem dX0_branched_13 : decode cX0_branched 13 = .ok (.iconst 0, 1) := dk_3 (dk_at dksX0_branched_0 13 rfl rfl)
theorem dX0_branched_14 : decode cX0_branched 14 = .ok (.putfield 418, 3) := dk_181 1 162 (dk_at dksX0_branched_0 14 rfl rfl)
theorem dX0_branched_17 : decode cX0_branched 17 = .ok (.aload_n 0, 1) := dk_42 (dk_at dksX0_branched_0 17 rfl rfl)
theorem dX0_branched_18 : decode cX0_branched 18 = .ok (.invokevirtual 436, 3) := dk_182 1 180 (dk_at dksX0_branched_0 18 rfl rfl)
theorem dX0_branched_21 : decode cX0_branched 21 = .ok (.astore_n 1, 1) := dk_76 (dk_at dksX0_branched_0 21 rfl rfl)
theorem dX0_branched_22 : decode cX0_branched 22 = .ok (.aload_n 1, 1) := dk_43 (dk_at dksX0_branched_0 22 rfl rfl)
theorem dX0_branched_23 : decode cX0_branched 23 = .ok (.invokevirtual 449, 3) := dk_182 1 193 (dk_at dksX0_branched_1 0 rfl rfl)
theorem dX0_branched_26 : decode cX0_branched 26 = .ok (.aload_n 0, 1) := dk_42 (dk_at dksX0_branched_1 3 rfl rfl)
theorem dX0_branched_27 : decode cX0_branched 27 = .ok (.aload_n 1, 1) := dk_43 (dk_at dksX0_branched_1 4 rfl rfl)
theorem dX0_branched_28 : decode cX0_branched 28 = .ok (.invokevirtual 446, 3) := dk_182 1 190 (dk_at dksX0_branched_1 5 rfl rfl)
theorem dX0_branched_31 : decode cX0_branched 31 = .ok (.aload_n 0, 1) := dk_42 (dk_at dksX0_branched_1 8 rfl rfl)
theorem dX0_branched_32 : decode cX0_branched 32 = .ok (.getfield 92, 3) := dk_180 0 92 (dk_at dksX0_branched_1 9 rfl rfl)
theorem dX0_branched_35 : decode cX0_branched 35 = .ok (.invokevirtual 451, 3) := dk_182 1 195 (dk_at dksX0_branched_1 12 rfl rfl)
theorem dX0_branched_38 : decode cX0_branched 38 = .ok (.ifCond .ne 32, 3) := dk_154 0 32 (dk_at dksX0_branched_1 15 rfl rfl)
theorem dX0_branched_41 : decode cX0_branched 41 = .ok (.aload_n 0, 1) := dk_42 (dk_at dksX0_branched_1 18 rfl rfl)
theorem dX0_branched_42 : decode cX0_branched 42 = .ok (.getfield 92, 3) := dk_180 0 92 (dk_at dksX0_branched_1 19 rfl rfl)
theorem dX0_branched_45 : decode cX0_branched 45 = .ok (.invokevirtual 373, 3) := dk_182 1 117 (dk_at dksX0_branched_2 0 rfl rfl)
theorem dX0_branched_48 : decode cX0_branched 48 = .ok (.checkcast 85, 3) := dk_192 0 85 (dk_at dksX0_branched_2 3 rfl rfl)
theorem dX0_branched_51 : decode cX0_branched 51 = .ok (.astore_n 2, 1) := dk_77 (dk_at dksX0_branched_2 6 rfl rfl)
theorem dX0_branched_52 : decode cX0_branched 52 = .ok (.aload_n 2, 1) := dk_44 (dk_at dksX0_branched_2 7 rfl rfl)
theorem dX0_branched_53 : decode cX0_branched 53 = .ok (.getfield 433, 3) := dk_180 1 177 (dk_at dksX0_branched_2 8 rfl rfl)
theorem dX0_branched_56 : decode cX0_branched 56 = .ok (.iconst (-1), 1) := dk_2 (dk_at dksX0_branched_2 11 rfl rfl)
theorem dX0_branched_57 : decode cX0_branched 57 = .ok (.if_icmp .ne 5, 3) := dk_160 0 5 (dk_at dksX0_branched_2 12 rfl rfl)
theorem dX0_branched_60 : decode cX0_branched 60 = .ok (.aload_n 2, 1) := dk_44 (dk_at dksX0_branched_2 15 rfl rfl)
theorem dX0_branched_61 : decode cX0_branched 61 = .ok (.areturn, 1) := dk_176 (dk_at dksX0_branched_2 16 rfl rfl)
theorem dX0_branched_62 : decode cX0_branched 62 = .ok (.aload_n 0, 1) := dk_42 (dk_at dksX0_branched_2 17 rfl rfl)
theorem dX0_branched_63 : decode cX0_branched 63 = .ok (.aload_n 2, 1) := dk_44 (dk_at dksX0_branched_2 18 rfl rfl)
theorem dX0_branched_64 : decode cX0_branched 64 = .ok (.invokevirtual 454, 3) := dk_182 1 198 (dk_at dksX0_branched_2 19 rfl rfl)
theorem dX0_branched_67 : decode cX0_branched 67 = .ok (.goto (-36), 3) := dk_167 255 220 (dk_at dksX0_branched_3 0 rfl rfl)
theorem dX0_branched_70 : decode cX0_branched 70 = .ok (.new 424, 3) := dk_187 1 168 (dk_at dksX0_branched_3 3 rfl rfl)
theorem dX0_branched_73 : decode cX0_branched 73 = .ok (.dup, 1) := dk_89 (dk_at dksX0_branched_3 6 rfl rfl)
theorem dX0_branched_74 : decode cX0_branched 74 = .ok (.bipush (-5), 2) := dk_16 251 (dk_at dksX0_branched_3 7 rfl rfl)
theorem dX0_branched_76 : decode cX0_branched 76 = .ok (.invokespecial 432, 3) := dk_183 1 176 (dk_at dksX0_branched_3 9 rfl rfl)
theorem dX0_branched_79 : decode cX0_branched 79 = .ok (.athrow, 1) := dk_191 (dk_at dksX0_branched_3 12 rfl rfl)
abbrev cX0_nextNode : ByteArray := prog_1_method_48_code
def yX0_nextNode : MethodName := ⟨RX0, "nextNode", "()LWholePacks$Node;"⟩
def dkwX0_nextNode_1 : List UInt8 := [4, 96, 181, 1, 173, 42, 180, 0, 87, 42, 180, 1, 173, 4, 100, 50, 176]
abbrev dktX0_nextNode_1 : List UInt8 := dkwX0_nextNode_1 ++ []
def dkwX0_nextNode_0 : List UInt8 := [42, 180, 1, 173, 16, 40, 160, 0, 13, 187, 1, 168, 89, 16, 250, 183, 1, 176, 191, 42, 89, 180, 1, 173]
abbrev dktX0_nextNode_0 : List UInt8 := dkwX0_nextNode_0 ++ dktX0_nextNode_1
theorem dksX0_nextNode_0 : cX0_nextNode.data.toList.drop 0 = dktX0_nextNode_0 := by decide +kernel
theorem dksX0_nextNode_1 : cX0_nextNode.data.toList.drop 24 = dktX0_nextNode_1 := dk_seg dksX0_nextNode_0 24 rfl rfl
theorem dX0_nextNode_0 : decode cX0_nextNode 0 = .ok (.aload_n 0, 1) := dk_42 (dk_at dksX0_nextNode_0 0 rfl rfl)
theorem dX0_nextNode_1 : decode cX0_nextNode 1 = .ok (.getfield 429, 3) := dk_180 1 173 (dk_at dksX0_nextNode_0 1 rfl rfl)
theorem dX0_nextNode_4 : decode cX0_nextNode 4 = .ok (.bipush 40, 2) := dk_16 40 (dk_at dksX0_nextNode_0 4 rfl rfl)
theorem dX0_nextNode_6 : decode cX0_nextNode 6 = .ok (.if_icmp .ne 13, 3) := dk_160 0 13 (dk_at dksX0_nextNode_0 6 rfl rfl)
theorem dX0_nextNode_9 : decode cX0_nextNode 9 = .ok (.new 424, 3) := dk_187 1 168 (dk_at dksX0_nextNode_0 9 rfl rfl)
theorem dX0_nextNode_12 : decode cX0_nextNode 12 = .ok (.dup, 1) := dk_89 (dk_at dksX0_nextNode_0 12 rfl rfl)
theorem dX0_nextNode_13 : decode cX0_nextNode 13 = .ok (.bipush (-6), 2) := dk_16 250 (dk_at dksX0_nextNode_0 13 rfl rfl)
theorem dX0_nextNode_15 : decode cX0_nextNode 15 = .ok (.invokespecial 432, 3) := dk_183 1 176 (dk_at dksX0_nextNode_0 15 rfl rfl)
theorem dX0_nextNode_18 : decode cX0_nextNode 18 = .ok (.athrow, 1) := dk_191 (dk_at dksX0_nextNode_0 18 rfl rfl)
theorem dX0_nextNode_19 : decode cX0_nextNode 19 = .ok (.aload_n 0, 1) := dk_42 (dk_at dksX0_nextNode_0 19 rfl rfl)
theorem dX0_nextNode_20 : decode cX0_nextNode 20 = .ok (.dup, 1) := dk_89 (dk_at dksX0_nextNode_0 20 rfl rfl)
theorem dX0_nextNode_21 : decode cX0_nextNode 21 = .ok (.getfield 429, 3) := dk_180 1 173 (dk_at dksX0_nextNode_0 21 rfl rfl)
theorem dX0_nextNode_24 : decode cX0_nextNode 24 = .ok (.iconst 1, 1) := dk_4 (dk_at dksX0_nextNode_1 0 rfl rfl)
theorem dX0_nextNode_25 : decode cX0_nextNode 25 = .ok (.iadd, 1) := dk_96 (dk_at dksX0_nextNode_1 1 rfl rfl)
theorem dX0_nextNode_26 : decode cX0_nextNode 26 = .ok (.putfield 429, 3) := dk_181 1 173 (dk_at dksX0_nextNode_1 2 rfl rfl)
theorem dX0_nextNode_29 : decode cX0_nextNode 29 = .ok (.aload_n 0, 1) := dk_42 (dk_at dksX0_nextNode_1 5 rfl rfl)
theorem dX0_nextNode_30 : decode cX0_nextNode 30 = .ok (.getfield 87, 3) := dk_180 0 87 (dk_at dksX0_nextNode_1 6 rfl rfl)
theorem dX0_nextNode_33 : decode cX0_nextNode 33 = .ok (.aload_n 0, 1) := dk_42 (dk_at dksX0_nextNode_1 9 rfl rfl)
theorem dX0_nextNode_34 : decode cX0_nextNode 34 = .ok (.getfield 429, 3) := dk_180 1 173 (dk_at dksX0_nextNode_1 10 rfl rfl)
theorem dX0_nextNode_37 : decode cX0_nextNode 37 = .ok (.iconst 1, 1) := dk_4 (dk_at dksX0_nextNode_1 13 rfl rfl)
theorem dX0_nextNode_38 : decode cX0_nextNode 38 = .ok (.isub, 1) := dk_100 (dk_at dksX0_nextNode_1 14 rfl rfl)
theorem dX0_nextNode_39 : decode cX0_nextNode 39 = .ok (.aaload, 1) := dk_50 (dk_at dksX0_nextNode_1 15 rfl rfl)
theorem dX0_nextNode_40 : decode cX0_nextNode 40 = .ok (.areturn, 1) := dk_176 (dk_at dksX0_nextNode_1 16 rfl rfl)
abbrev cX0_relaxes : ByteArray := prog_1_method_47_code
def yX0_relaxes : MethodName := ⟨RX0, "relaxes", "(LWholePacks$Node;)V"⟩
def dkwX0_relaxes_7 : List UInt8 := [180, 1, 165, 96, 181, 1, 162, 45, 191, 177]
abbrev dktX0_relaxes_7 : List UInt8 := dkwX0_relaxes_7 ++ []
def dkwX0_relaxes_6 : List UInt8 := [180, 0, 31, 180, 1, 165, 96, 181, 1, 162, 167, 0, 22, 78, 42, 89, 180, 1, 162, 42, 180, 0, 31]
abbrev dktX0_relaxes_6 : List UInt8 := dkwX0_relaxes_6 ++ dktX0_relaxes_7
def dkwX0_relaxes_5 : List UInt8 := [181, 1, 162, 167, 0, 53, 77, 44, 180, 1, 170, 16, 250, 160, 0, 5, 44, 191, 42, 89, 180, 1, 162, 42]
abbrev dktX0_relaxes_5 : List UInt8 := dkwX0_relaxes_5 ++ dktX0_relaxes_6
def dkwX0_relaxes_4 : List UInt8 := [42, 180, 0, 92, 43, 182, 1, 105, 87, 42, 89, 180, 1, 162, 42, 180, 0, 31, 180, 1, 165, 96]
abbrev dktX0_relaxes_4 : List UInt8 := dkwX0_relaxes_4 ++ dktX0_relaxes_5
def dkwX0_relaxes_3 : List UInt8 := [182, 1, 149, 132, 2, 1, 167, 255, 193, 42, 180, 0, 31, 182, 1, 156, 43, 42, 180, 0, 31, 182, 1, 159]
abbrev dktX0_relaxes_3 : List UInt8 := dkwX0_relaxes_3 ++ dktX0_relaxes_4
def dkwX0_relaxes_2 : List UInt8 := [43, 180, 1, 153, 28, 46, 2, 159, 0, 18, 42, 180, 0, 31, 28, 43, 180, 1, 153, 28, 46, 3]
abbrev dktX0_relaxes_2 : List UInt8 := dkwX0_relaxes_2 ++ dktX0_relaxes_3
def dkwX0_relaxes_1 : List UInt8 := [43, 180, 1, 146, 28, 46, 158, 0, 18, 42, 180, 0, 31, 28, 43, 180, 1, 146, 28, 46, 4, 182, 1, 149]
abbrev dktX0_relaxes_1 : List UInt8 := dkwX0_relaxes_1 ++ dktX0_relaxes_2
def dkwX0_relaxes_0 : List UInt8 := [42, 180, 0, 31, 42, 180, 0, 12, 182, 1, 143, 3, 61, 28, 42, 180, 0, 12, 180, 0, 131, 162, 0, 58]
abbrev dktX0_relaxes_0 : List UInt8 := dkwX0_relaxes_0 ++ dktX0_relaxes_1
theorem dksX0_relaxes_0 : cX0_relaxes.data.toList.drop 0 = dktX0_relaxes_0 := by decide +kernel
theorem dksX0_relaxes_1 : cX0_relaxes.data.toList.drop 24 = dktX0_relaxes_1 := dk_seg dksX0_relaxes_0 24 rfl rfl
theorem dksX0_relaxes_2 : cX0_relaxes.data.toList.drop 48 = dktX0_relaxes_2 := dk_seg dksX0_relaxes_1 24 rfl rfl
theorem dksX0_relaxes_3 : cX0_relaxes.data.toList.drop 70 = dktX0_relaxes_3 := dk_seg dksX0_relaxes_2 22 rfl rfl
theorem dksX0_relaxes_4 : cX0_relaxes.data.toList.drop 94 = dktX0_relaxes_4 := dk_seg dksX0_relaxes_3 24 rfl rfl
theorem dksX0_relaxes_5 : cX0_relaxes.data.toList.drop 116 = dktX0_relaxes_5 := dk_seg dksX0_relaxes_4 22 rfl rfl
theorem dksX0_relaxes_6 : cX0_relaxes.data.toList.drop 140 = dktX0_relaxes_6 := dk_seg dksX0_relaxes_5 24 rfl rfl
theorem dksX0_relaxes_7 : cX0_relaxes.data.toList.drop 163 = dktX0_relaxes_7 := dk_seg dksX0_relaxes_6 23 rfl rfl
theorem dX0_relaxes_0 : decode cX0_relaxes 0 = .ok (.aload_n 0, 1) := dk_42 (dk_at dksX0_relaxes_0 0 rfl rfl)
theorem dX0_relaxes_1 : decode cX0_relaxes 1 = .ok (.getfield 31, 3) := dk_180 0 31 (dk_at dksX0_relaxes_0 1 rfl rfl)
theorem dX0_relaxes_4 : decode cX0_relaxes 4 = .ok (.aload_n 0, 1) := dk_42 (dk_at dksX0_relaxes_0 4 rfl rfl)
theorem dX0_relaxes_5 : decode cX0_relaxes 5 = .ok (.getfield 12, 3) := dk_180 0 12 (dk_at dksX0_relaxes_0 5 rfl rfl)
theorem dX0_relaxes_8 : decode cX0_relaxes 8 = .ok (.invokevirtual 399, 3) := dk_182 1 143 (dk_at dksX0_relaxes_0 8 rfl rfl)
theorem dX0_relaxes_11 : decode cX0_relaxes 11 = .ok (.iconst 0, 1) := dk_3 (dk_at dksX0_relaxes_0 11 rfl rfl)
theorem dX0_relaxes_12 : decode cX0_relaxes 12 = .ok (.istore_n 2, 1) := dk_61 (dk_at dksX0_relaxes_0 12 rfl rfl)
theorem dX0_relaxes_13 : decode cX0_relaxes 13 = .ok (.iload_n 2, 1) := dk_28 (dk_at dksX0_relaxes_0 13 rfl rfl)
theorem dX0_relaxes_14 : decode cX0_relaxes 14 = .ok (.aload_n 0, 1) := dk_42 (dk_at dksX0_relaxes_0 14 rfl rfl)
theorem dX0_relaxes_15 : decode cX0_relaxes 15 = .ok (.getfield 12, 3) := dk_180 0 12 (dk_at dksX0_relaxes_0 15 rfl rfl)
theorem dX0_relaxes_18 : decode cX0_relaxes 18 = .ok (.getfield 131, 3) := dk_180 0 131 (dk_at dksX0_relaxes_0 18 rfl rfl)
theorem dX0_relaxes_21 : decode cX0_relaxes 21 = .ok (.if_icmp .ge 58, 3) := dk_162 0 58 (dk_at dksX0_relaxes_0 21 rfl rfl)
theorem dX0_relaxes_24 : decode cX0_relaxes 24 = .ok (.aload_n 1, 1) := dk_43 (dk_at dksX0_relaxes_1 0 rfl rfl)
theorem dX0_relaxes_25 : decode cX0_relaxes 25 = .ok (.getfield 402, 3) := dk_180 1 146 (dk_at dksX0_relaxes_1 1 rfl rfl)
theorem dX0_relaxes_28 : decode cX0_relaxes 28 = .ok (.iload_n 2, 1) := dk_28 (dk_at dksX0_relaxes_1 4 rfl rfl)
theorem dX0_relaxes_29 : decode cX0_relaxes 29 = .ok (.iaload, 1) := dk_46 (dk_at dksX0_relaxes_1 5 rfl rfl)
theorem dX0_relaxes_30 : decode cX0_relaxes 30 = .ok (.ifCond .le 18, 3) := dk_158 0 18 (dk_at dksX0_relaxes_1 6 rfl rfl)
theorem dX0_relaxes_33 : decode cX0_relaxes 33 = .ok (.aload_n 0, 1) := dk_42 (dk_at dksX0_relaxes_1 9 rfl rfl)
theorem dX0_relaxes_34 : decode cX0_relaxes 34 = .ok (.getfield 31, 3) := dk_180 0 31 (dk_at dksX0_relaxes_1 10 rfl rfl)
theorem dX0_relaxes_37 : decode cX0_relaxes 37 = .ok (.iload_n 2, 1) := dk_28 (dk_at dksX0_relaxes_1 13 rfl rfl)
theorem dX0_relaxes_38 : decode cX0_relaxes 38 = .ok (.aload_n 1, 1) := dk_43 (dk_at dksX0_relaxes_1 14 rfl rfl)
theorem dX0_relaxes_39 : decode cX0_relaxes 39 = .ok (.getfield 402, 3) := dk_180 1 146 (dk_at dksX0_relaxes_1 15 rfl rfl)
theorem dX0_relaxes_42 : decode cX0_relaxes 42 = .ok (.iload_n 2, 1) := dk_28 (dk_at dksX0_relaxes_1 18 rfl rfl)
theorem dX0_relaxes_43 : decode cX0_relaxes 43 = .ok (.iaload, 1) := dk_46 (dk_at dksX0_relaxes_1 19 rfl rfl)
theorem dX0_relaxes_44 : decode cX0_relaxes 44 = .ok (.iconst 1, 1) := dk_4 (dk_at dksX0_relaxes_1 20 rfl rfl)
theorem dX0_relaxes_45 : decode cX0_relaxes 45 = .ok (.invokevirtual 405, 3) := dk_182 1 149 (dk_at dksX0_relaxes_1 21 rfl rfl)
theorem dX0_relaxes_48 : decode cX0_relaxes 48 = .ok (.aload_n 1, 1) := dk_43 (dk_at dksX0_relaxes_2 0 rfl rfl)
theorem dX0_relaxes_49 : decode cX0_relaxes 49 = .ok (.getfield 409, 3) := dk_180 1 153 (dk_at dksX0_relaxes_2 1 rfl rfl)
theorem dX0_relaxes_52 : decode cX0_relaxes 52 = .ok (.iload_n 2, 1) := dk_28 (dk_at dksX0_relaxes_2 4 rfl rfl)
theorem dX0_relaxes_53 : decode cX0_relaxes 53 = .ok (.iaload, 1) := dk_46 (dk_at dksX0_relaxes_2 5 rfl rfl)
theorem dX0_relaxes_54 : decode cX0_relaxes 54 = .ok (.iconst (-1), 1) := dk_2 (dk_at dksX0_relaxes_2 6 rfl rfl)
theorem dX0_relaxes_55 : decode cX0_relaxes 55 = .ok (.if_icmp .eq 18, 3) := dk_159 0 18 (dk_at dksX0_relaxes_2 7 rfl rfl)
theorem dX0_relaxes_58 : decode cX0_relaxes 58 = .ok (.aload_n 0, 1) := dk_42 (dk_at dksX0_relaxes_2 10 rfl rfl)
theorem dX0_relaxes_59 : decode cX0_relaxes 59 = .ok (.getfield 31, 3) := dk_180 0 31 (dk_at dksX0_relaxes_2 11 rfl rfl)
theorem dX0_relaxes_62 : decode cX0_relaxes 62 = .ok (.iload_n 2, 1) := dk_28 (dk_at dksX0_relaxes_2 14 rfl rfl)
theorem dX0_relaxes_63 : decode cX0_relaxes 63 = .ok (.aload_n 1, 1) := dk_43 (dk_at dksX0_relaxes_2 15 rfl rfl)
theorem dX0_relaxes_64 : decode cX0_relaxes 64 = .ok (.getfield 409, 3) := dk_180 1 153 (dk_at dksX0_relaxes_2 16 rfl rfl)
theorem dX0_relaxes_67 : decode cX0_relaxes 67 = .ok (.iload_n 2, 1) := dk_28 (dk_at dksX0_relaxes_2 19 rfl rfl)
theorem dX0_relaxes_68 : decode cX0_relaxes 68 = .ok (.iaload, 1) := dk_46 (dk_at dksX0_relaxes_2 20 rfl rfl)
theorem dX0_relaxes_69 : decode cX0_relaxes 69 = .ok (.iconst 0, 1) := dk_3 (dk_at dksX0_relaxes_2 21 rfl rfl)
theorem dX0_relaxes_70 : decode cX0_relaxes 70 = .ok (.invokevirtual 405, 3) := dk_182 1 149 (dk_at dksX0_relaxes_3 0 rfl rfl)
theorem dX0_relaxes_73 : decode cX0_relaxes 73 = .ok (.iinc 2 1, 3) := dk_132 2 1 (dk_at dksX0_relaxes_3 3 rfl rfl)
theorem dX0_relaxes_76 : decode cX0_relaxes 76 = .ok (.goto (-63), 3) := dk_167 255 193 (dk_at dksX0_relaxes_3 6 rfl rfl)
theorem dX0_relaxes_79 : decode cX0_relaxes 79 = .ok (.aload_n 0, 1) := dk_42 (dk_at dksX0_relaxes_3 9 rfl rfl)
theorem dX0_relaxes_80 : decode cX0_relaxes 80 = .ok (.getfield 31, 3) := dk_180 0 31 (dk_at dksX0_relaxes_3 10 rfl rfl)
theorem dX0_relaxes_83 : decode cX0_relaxes 83 = .ok (.invokevirtual 412, 3) := dk_182 1 156 (dk_at dksX0_relaxes_3 13 rfl rfl)
theorem dX0_relaxes_86 : decode cX0_relaxes 86 = .ok (.aload_n 1, 1) := dk_43 (dk_at dksX0_relaxes_3 16 rfl rfl)
theorem dX0_relaxes_87 : decode cX0_relaxes 87 = .ok (.aload_n 0, 1) := dk_42 (dk_at dksX0_relaxes_3 17 rfl rfl)
theorem dX0_relaxes_88 : decode cX0_relaxes 88 = .ok (.getfield 31, 3) := dk_180 0 31 (dk_at dksX0_relaxes_3 18 rfl rfl)
theorem dX0_relaxes_91 : decode cX0_relaxes 91 = .ok (.invokevirtual 415, 3) := dk_182 1 159 (dk_at dksX0_relaxes_3 21 rfl rfl)
theorem dX0_relaxes_94 : decode cX0_relaxes 94 = .ok (.aload_n 0, 1) := dk_42 (dk_at dksX0_relaxes_4 0 rfl rfl)
theorem dX0_relaxes_95 : decode cX0_relaxes 95 = .ok (.getfield 92, 3) := dk_180 0 92 (dk_at dksX0_relaxes_4 1 rfl rfl)
theorem dX0_relaxes_98 : decode cX0_relaxes 98 = .ok (.aload_n 1, 1) := dk_43 (dk_at dksX0_relaxes_4 4 rfl rfl)
theorem dX0_relaxes_99 : decode cX0_relaxes 99 = .ok (.invokevirtual 361, 3) := dk_182 1 105 (dk_at dksX0_relaxes_4 5 rfl rfl)
theorem dX0_relaxes_102 : decode cX0_relaxes 102 = .ok (.pop, 1) := dk_87 (dk_at dksX0_relaxes_4 8 rfl rfl)
theorem dX0_relaxes_103 : decode cX0_relaxes 103 = .ok (.aload_n 0, 1) := dk_42 (dk_at dksX0_relaxes_4 9 rfl rfl)
theorem dX0_relaxes_104 : decode cX0_relaxes 104 = .ok (.dup, 1) := dk_89 (dk_at dksX0_relaxes_4 10 rfl rfl)
theorem dX0_relaxes_105 : decode cX0_relaxes 105 = .ok (.getfield 418, 3) := dk_180 1 162 (dk_at dksX0_relaxes_4 11 rfl rfl)
theorem dX0_relaxes_108 : decode cX0_relaxes 108 = .ok (.aload_n 0, 1) := dk_42 (dk_at dksX0_relaxes_4 14 rfl rfl)
theorem dX0_relaxes_109 : decode cX0_relaxes 109 = .ok (.getfield 31, 3) := dk_180 0 31 (dk_at dksX0_relaxes_4 15 rfl rfl)
theorem dX0_relaxes_112 : decode cX0_relaxes 112 = .ok (.getfield 421, 3) := dk_180 1 165 (dk_at dksX0_relaxes_4 18 rfl rfl)
theorem dX0_relaxes_115 : decode cX0_relaxes 115 = .ok (.iadd, 1) := dk_96 (dk_at dksX0_relaxes_4 21 rfl rfl)
theorem dX0_relaxes_116 : decode cX0_relaxes 116 = .ok (.putfield 418, 3) := dk_181 1 162 (dk_at dksX0_relaxes_5 0 rfl rfl)
theorem dX0_relaxes_119 : decode cX0_relaxes 119 = .ok (.goto 53, 3) := dk_167 0 53 (dk_at dksX0_relaxes_5 3 rfl rfl)
theorem dX0_relaxes_122 : decode cX0_relaxes 122 = .ok (.astore_n 2, 1) := dk_77 (dk_at dksX0_relaxes_5 6 rfl rfl)
theorem dX0_relaxes_123 : decode cX0_relaxes 123 = .ok (.aload_n 2, 1) := dk_44 (dk_at dksX0_relaxes_5 7 rfl rfl)
theorem dX0_relaxes_124 : decode cX0_relaxes 124 = .ok (.getfield 426, 3) := dk_180 1 170 (dk_at dksX0_relaxes_5 8 rfl rfl)
theorem dX0_relaxes_127 : decode cX0_relaxes 127 = .ok (.bipush (-6), 2) := dk_16 250 (dk_at dksX0_relaxes_5 11 rfl rfl)
theorem dX0_relaxes_129 : decode cX0_relaxes 129 = .ok (.if_icmp .ne 5, 3) := dk_160 0 5 (dk_at dksX0_relaxes_5 13 rfl rfl)
theorem dX0_relaxes_132 : decode cX0_relaxes 132 = .ok (.aload_n 2, 1) := dk_44 (dk_at dksX0_relaxes_5 16 rfl rfl)
theorem dX0_relaxes_133 : decode cX0_relaxes 133 = .ok (.athrow, 1) := dk_191 (dk_at dksX0_relaxes_5 17 rfl rfl)
theorem dX0_relaxes_134 : decode cX0_relaxes 134 = .ok (.aload_n 0, 1) := dk_42 (dk_at dksX0_relaxes_5 18 rfl rfl)
theorem dX0_relaxes_135 : decode cX0_relaxes 135 = .ok (.dup, 1) := dk_89 (dk_at dksX0_relaxes_5 19 rfl rfl)
theorem dX0_relaxes_136 : decode cX0_relaxes 136 = .ok (.getfield 418, 3) := dk_180 1 162 (dk_at dksX0_relaxes_5 20 rfl rfl)
theorem dX0_relaxes_139 : decode cX0_relaxes 139 = .ok (.aload_n 0, 1) := dk_42 (dk_at dksX0_relaxes_5 23 rfl rfl)
theorem dX0_relaxes_140 : decode cX0_relaxes 140 = .ok (.getfield 31, 3) := dk_180 0 31 (dk_at dksX0_relaxes_6 0 rfl rfl)
theorem dX0_relaxes_143 : decode cX0_relaxes 143 = .ok (.getfield 421, 3) := dk_180 1 165 (dk_at dksX0_relaxes_6 3 rfl rfl)
theorem dX0_relaxes_146 : decode cX0_relaxes 146 = .ok (.iadd, 1) := dk_96 (dk_at dksX0_relaxes_6 6 rfl rfl)
theorem dX0_relaxes_147 : decode cX0_relaxes 147 = .ok (.putfield 418, 3) := dk_181 1 162 (dk_at dksX0_relaxes_6 7 rfl rfl)
theorem dX0_relaxes_150 : decode cX0_relaxes 150 = .ok (.goto 22, 3) := dk_167 0 22 (dk_at dksX0_relaxes_6 10 rfl rfl)
theorem dX0_relaxes_153 : decode cX0_relaxes 153 = .ok (.astore_n 3, 1) := dk_78 (dk_at dksX0_relaxes_6 13 rfl rfl)
theorem dX0_relaxes_154 : decode cX0_relaxes 154 = .ok (.aload_n 0, 1) := dk_42 (dk_at dksX0_relaxes_6 14 rfl rfl)
theorem dX0_relaxes_155 : decode cX0_relaxes 155 = .ok (.dup, 1) := dk_89 (dk_at dksX0_relaxes_6 15 rfl rfl)
theorem dX0_relaxes_156 : decode cX0_relaxes 156 = .ok (.getfield 418, 3) := dk_180 1 162 (dk_at dksX0_relaxes_6 16 rfl rfl)
theorem dX0_relaxes_159 : decode cX0_relaxes 159 = .ok (.aload_n 0, 1) := dk_42 (dk_at dksX0_relaxes_6 19 rfl rfl)
theorem dX0_relaxes_160 : decode cX0_relaxes 160 = .ok (.getfield 31, 3) := dk_180 0 31 (dk_at dksX0_relaxes_6 20 rfl rfl)
theorem dX0_relaxes_163 : decode cX0_relaxes 163 = .ok (.getfield 421, 3) := dk_180 1 165 (dk_at dksX0_relaxes_7 0 rfl rfl)
theorem dX0_relaxes_166 : decode cX0_relaxes 166 = .ok (.iadd, 1) := dk_96 (dk_at dksX0_relaxes_7 3 rfl rfl)
theorem dX0_relaxes_167 : decode cX0_relaxes 167 = .ok (.putfield 418, 3) := dk_181 1 162 (dk_at dksX0_relaxes_7 4 rfl rfl)
theorem dX0_relaxes_170 : decode cX0_relaxes 170 = .ok (.aload_n 3, 1) := dk_45 (dk_at dksX0_relaxes_7 7 rfl rfl)
theorem dX0_relaxes_171 : decode cX0_relaxes 171 = .ok (.athrow, 1) := dk_191 (dk_at dksX0_relaxes_7 8 rfl rfl)
theorem dX0_relaxes_172 : decode cX0_relaxes 172 = .ok (.return_, 1) := dk_177 (dk_at dksX0_relaxes_7 9 rfl rfl)
abbrev cX0_parts : ByteArray := prog_1_method_49_code
def yX0_parts : MethodName := ⟨RX0, "parts", "(LWholePacks$Node;)V"⟩
def dkwX0_parts_2 : List UInt8 := [180, 1, 146, 28, 43, 180, 1, 187, 28, 46, 4, 96, 79, 42, 25, 4, 182, 1, 190, 177]
abbrev dktX0_parts_2 : List UInt8 := dkwX0_parts_2 ++ []
def dkwX0_parts_1 : List UInt8 := [28, 46, 79, 42, 45, 182, 1, 190, 42, 182, 1, 180, 58, 4, 25, 4, 43, 182, 1, 184, 25, 4]
abbrev dktX0_parts_1 : List UInt8 := dkwX0_parts_1 ++ dktX0_parts_2
def dkwX0_parts_0 : List UInt8 := [43, 180, 1, 177, 61, 42, 182, 1, 180, 78, 45, 43, 182, 1, 184, 45, 180, 1, 153, 28, 43, 180, 1, 187]
abbrev dktX0_parts_0 : List UInt8 := dkwX0_parts_0 ++ dktX0_parts_1
theorem dksX0_parts_0 : cX0_parts.data.toList.drop 0 = dktX0_parts_0 := by decide +kernel
theorem dksX0_parts_1 : cX0_parts.data.toList.drop 24 = dktX0_parts_1 := dk_seg dksX0_parts_0 24 rfl rfl
theorem dksX0_parts_2 : cX0_parts.data.toList.drop 46 = dktX0_parts_2 := dk_seg dksX0_parts_1 22 rfl rfl
theorem dX0_parts_0 : decode cX0_parts 0 = .ok (.aload_n 1, 1) := dk_43 (dk_at dksX0_parts_0 0 rfl rfl)
theorem dX0_parts_1 : decode cX0_parts 1 = .ok (.getfield 433, 3) := dk_180 1 177 (dk_at dksX0_parts_0 1 rfl rfl)
theorem dX0_parts_4 : decode cX0_parts 4 = .ok (.istore_n 2, 1) := dk_61 (dk_at dksX0_parts_0 4 rfl rfl)
theorem dX0_parts_5 : decode cX0_parts 5 = .ok (.aload_n 0, 1) := dk_42 (dk_at dksX0_parts_0 5 rfl rfl)
theorem dX0_parts_6 : decode cX0_parts 6 = .ok (.invokevirtual 436, 3) := dk_182 1 180 (dk_at dksX0_parts_0 6 rfl rfl)
theorem dX0_parts_9 : decode cX0_parts 9 = .ok (.astore_n 3, 1) := dk_78 (dk_at dksX0_parts_0 9 rfl rfl)
theorem dX0_parts_10 : decode cX0_parts 10 = .ok (.aload_n 3, 1) := dk_45 (dk_at dksX0_parts_0 10 rfl rfl)
theorem dX0_parts_11 : decode cX0_parts 11 = .ok (.aload_n 1, 1) := dk_43 (dk_at dksX0_parts_0 11 rfl rfl)
theorem dX0_parts_12 : decode cX0_parts 12 = .ok (.invokevirtual 440, 3) := dk_182 1 184 (dk_at dksX0_parts_0 12 rfl rfl)
theorem dX0_parts_15 : decode cX0_parts 15 = .ok (.aload_n 3, 1) := dk_45 (dk_at dksX0_parts_0 15 rfl rfl)
theorem dX0_parts_16 : decode cX0_parts 16 = .ok (.getfield 409, 3) := dk_180 1 153 (dk_at dksX0_parts_0 16 rfl rfl)
theorem dX0_parts_19 : decode cX0_parts 19 = .ok (.iload_n 2, 1) := dk_28 (dk_at dksX0_parts_0 19 rfl rfl)
theorem dX0_parts_20 : decode cX0_parts 20 = .ok (.aload_n 1, 1) := dk_43 (dk_at dksX0_parts_0 20 rfl rfl)
theorem dX0_parts_21 : decode cX0_parts 21 = .ok (.getfield 443, 3) := dk_180 1 187 (dk_at dksX0_parts_0 21 rfl rfl)
theorem dX0_parts_24 : decode cX0_parts 24 = .ok (.iload_n 2, 1) := dk_28 (dk_at dksX0_parts_1 0 rfl rfl)
theorem dX0_parts_25 : decode cX0_parts 25 = .ok (.iaload, 1) := dk_46 (dk_at dksX0_parts_1 1 rfl rfl)
theorem dX0_parts_26 : decode cX0_parts 26 = .ok (.iastore, 1) := dk_79 (dk_at dksX0_parts_1 2 rfl rfl)
theorem dX0_parts_27 : decode cX0_parts 27 = .ok (.aload_n 0, 1) := dk_42 (dk_at dksX0_parts_1 3 rfl rfl)
theorem dX0_parts_28 : decode cX0_parts 28 = .ok (.aload_n 3, 1) := dk_45 (dk_at dksX0_parts_1 4 rfl rfl)
theorem dX0_parts_29 : decode cX0_parts 29 = .ok (.invokevirtual 446, 3) := dk_182 1 190 (dk_at dksX0_parts_1 5 rfl rfl)
theorem dX0_parts_32 : decode cX0_parts 32 = .ok (.aload_n 0, 1) := dk_42 (dk_at dksX0_parts_1 8 rfl rfl)
theorem dX0_parts_33 : decode cX0_parts 33 = .ok (.invokevirtual 436, 3) := dk_182 1 180 (dk_at dksX0_parts_1 9 rfl rfl)
theorem dX0_parts_36 : decode cX0_parts 36 = .ok (.astore 4, 2) := dk_58 4 (dk_at dksX0_parts_1 12 rfl rfl)
theorem dX0_parts_38 : decode cX0_parts 38 = .ok (.aload 4, 2) := dk_25 4 (dk_at dksX0_parts_1 14 rfl rfl)
theorem dX0_parts_40 : decode cX0_parts 40 = .ok (.aload_n 1, 1) := dk_43 (dk_at dksX0_parts_1 16 rfl rfl)
theorem dX0_parts_41 : decode cX0_parts 41 = .ok (.invokevirtual 440, 3) := dk_182 1 184 (dk_at dksX0_parts_1 17 rfl rfl)
theorem dX0_parts_44 : decode cX0_parts 44 = .ok (.aload 4, 2) := dk_25 4 (dk_at dksX0_parts_1 20 rfl rfl)
theorem dX0_parts_46 : decode cX0_parts 46 = .ok (.getfield 402, 3) := dk_180 1 146 (dk_at dksX0_parts_2 0 rfl rfl)
theorem dX0_parts_49 : decode cX0_parts 49 = .ok (.iload_n 2, 1) := dk_28 (dk_at dksX0_parts_2 3 rfl rfl)
theorem dX0_parts_50 : decode cX0_parts 50 = .ok (.aload_n 1, 1) := dk_43 (dk_at dksX0_parts_2 4 rfl rfl)
theorem dX0_parts_51 : decode cX0_parts 51 = .ok (.getfield 443, 3) := dk_180 1 187 (dk_at dksX0_parts_2 5 rfl rfl)
theorem dX0_parts_54 : decode cX0_parts 54 = .ok (.iload_n 2, 1) := dk_28 (dk_at dksX0_parts_2 8 rfl rfl)
theorem dX0_parts_55 : decode cX0_parts 55 = .ok (.iaload, 1) := dk_46 (dk_at dksX0_parts_2 9 rfl rfl)
theorem dX0_parts_56 : decode cX0_parts 56 = .ok (.iconst 1, 1) := dk_4 (dk_at dksX0_parts_2 10 rfl rfl)
theorem dX0_parts_57 : decode cX0_parts 57 = .ok (.iadd, 1) := dk_96 (dk_at dksX0_parts_2 11 rfl rfl)
theorem dX0_parts_58 : decode cX0_parts 58 = .ok (.iastore, 1) := dk_79 (dk_at dksX0_parts_2 12 rfl rfl)
theorem dX0_parts_59 : decode cX0_parts 59 = .ok (.aload_n 0, 1) := dk_42 (dk_at dksX0_parts_2 13 rfl rfl)
theorem dX0_parts_60 : decode cX0_parts 60 = .ok (.aload 4, 2) := dk_25 4 (dk_at dksX0_parts_2 14 rfl rfl)
theorem dX0_parts_62 : decode cX0_parts 62 = .ok (.invokevirtual 446, 3) := dk_182 1 190 (dk_at dksX0_parts_2 16 rfl rfl)
theorem dX0_parts_65 : decode cX0_parts 65 = .ok (.return_, 1) := dk_177 (dk_at dksX0_parts_2 19 rfl rfl)
abbrev cX0_would : ByteArray := prog_1_method_52_code
def yX0_would : MethodName := ⟨RX0, "would", "(II)I"⟩
def dkwX0_would_1 : List UInt8 := [153, 0, 12, 42, 27, 28, 182, 1, 209, 167, 0, 5, 16, 254, 172]
abbrev dktX0_would_1 : List UInt8 := dkwX0_would_1 ++ []
def dkwX0_would_0 : List UInt8 := [42, 180, 0, 12, 27, 182, 0, 165, 154, 0, 5, 2, 172, 28, 133, 20, 0, 154, 20, 0, 156, 184, 0, 127]
abbrev dktX0_would_0 : List UInt8 := dkwX0_would_0 ++ dktX0_would_1
theorem dksX0_would_0 : cX0_would.data.toList.drop 0 = dktX0_would_0 := by decide +kernel
theorem dksX0_would_1 : cX0_would.data.toList.drop 24 = dktX0_would_1 := dk_seg dksX0_would_0 24 rfl rfl
theorem dX0_would_0 : decode cX0_would 0 = .ok (.aload_n 0, 1) := dk_42 (dk_at dksX0_would_0 0 rfl rfl)
theorem dX0_would_1 : decode cX0_would 1 = .ok (.getfield 12, 3) := dk_180 0 12 (dk_at dksX0_would_0 1 rfl rfl)
theorem dX0_would_4 : decode cX0_would 4 = .ok (.iload_n 1, 1) := dk_27 (dk_at dksX0_would_0 4 rfl rfl)
theorem dX0_would_5 : decode cX0_would 5 = .ok (.invokevirtual 165, 3) := dk_182 0 165 (dk_at dksX0_would_0 5 rfl rfl)
theorem dX0_would_8 : decode cX0_would 8 = .ok (.ifCond .ne 5, 3) := dk_154 0 5 (dk_at dksX0_would_0 8 rfl rfl)
theorem dX0_would_11 : decode cX0_would 11 = .ok (.iconst (-1), 1) := dk_2 (dk_at dksX0_would_0 11 rfl rfl)
theorem dX0_would_12 : decode cX0_would 12 = .ok (.ireturn, 1) := dk_172 (dk_at dksX0_would_0 12 rfl rfl)
theorem dX0_would_13 : decode cX0_would 13 = .ok (.iload_n 2, 1) := dk_28 (dk_at dksX0_would_0 13 rfl rfl)
theorem dX0_would_14 : decode cX0_would 14 = .ok (.i2l, 1) := dk_133 (dk_at dksX0_would_0 14 rfl rfl)
theorem dX0_would_15 : decode cX0_would 15 = .ok (.ldc2_w 154, 3) := dk_20 0 154 (dk_at dksX0_would_0 15 rfl rfl)
theorem dX0_would_18 : decode cX0_would 18 = .ok (.ldc2_w 156, 3) := dk_20 0 156 (dk_at dksX0_would_0 18 rfl rfl)
theorem dX0_would_21 : decode cX0_would 21 = .ok (.invokestatic 127, 3) := dk_184 0 127 (dk_at dksX0_would_0 21 rfl rfl)
theorem dX0_would_24 : decode cX0_would 24 = .ok (.ifCond .eq 12, 3) := dk_153 0 12 (dk_at dksX0_would_1 0 rfl rfl)
theorem dX0_would_27 : decode cX0_would 27 = .ok (.aload_n 0, 1) := dk_42 (dk_at dksX0_would_1 3 rfl rfl)
theorem dX0_would_28 : decode cX0_would 28 = .ok (.iload_n 1, 1) := dk_27 (dk_at dksX0_would_1 4 rfl rfl)
theorem dX0_would_29 : decode cX0_would 29 = .ok (.iload_n 2, 1) := dk_28 (dk_at dksX0_would_1 5 rfl rfl)
theorem dX0_would_30 : decode cX0_would 30 = .ok (.invokevirtual 465, 3) := dk_182 1 209 (dk_at dksX0_would_1 6 rfl rfl)
theorem dX0_would_33 : decode cX0_would 33 = .ok (.goto 5, 3) := dk_167 0 5 (dk_at dksX0_would_1 9 rfl rfl)
theorem dX0_would_36 : decode cX0_would 36 = .ok (.bipush (-2), 2) := dk_16 254 (dk_at dksX0_would_1 12 rfl rfl)
theorem dX0_would_38 : decode cX0_would 38 = .ok (.ireturn, 1) := dk_172 (dk_at dksX0_would_1 14 rfl rfl)
abbrev cX0_worthBy : ByteArray := prog_1_method_53_code
def yX0_worthBy : MethodName := ⟨RX0, "worthBy", "(II)I"⟩
def dkwX0_worthBy_1 : List UInt8 := [180, 0, 31, 45, 182, 1, 216, 172]
abbrev dktX0_worthBy_1 : List UInt8 := dkwX0_worthBy_1 ++ []
def dkwX0_worthBy_0 : List UInt8 := [42, 180, 0, 18, 42, 180, 0, 12, 182, 1, 213, 78, 45, 180, 0, 172, 27, 50, 28, 181, 0, 181, 42]
abbrev dktX0_worthBy_0 : List UInt8 := dkwX0_worthBy_0 ++ dktX0_worthBy_1
theorem dksX0_worthBy_0 : cX0_worthBy.data.toList.drop 0 = dktX0_worthBy_0 := by decide +kernel
theorem dksX0_worthBy_1 : cX0_worthBy.data.toList.drop 23 = dktX0_worthBy_1 := dk_seg dksX0_worthBy_0 23 rfl rfl
theorem dX0_worthBy_0 : decode cX0_worthBy 0 = .ok (.aload_n 0, 1) := dk_42 (dk_at dksX0_worthBy_0 0 rfl rfl)
theorem dX0_worthBy_1 : decode cX0_worthBy 1 = .ok (.getfield 18, 3) := dk_180 0 18 (dk_at dksX0_worthBy_0 1 rfl rfl)
theorem dX0_worthBy_4 : decode cX0_worthBy 4 = .ok (.aload_n 0, 1) := dk_42 (dk_at dksX0_worthBy_0 4 rfl rfl)
theorem dX0_worthBy_5 : decode cX0_worthBy 5 = .ok (.getfield 12, 3) := dk_180 0 12 (dk_at dksX0_worthBy_0 5 rfl rfl)
theorem dX0_worthBy_8 : decode cX0_worthBy 8 = .ok (.invokevirtual 469, 3) := dk_182 1 213 (dk_at dksX0_worthBy_0 8 rfl rfl)
theorem dX0_worthBy_11 : decode cX0_worthBy 11 = .ok (.astore_n 3, 1) := dk_78 (dk_at dksX0_worthBy_0 11 rfl rfl)
theorem dX0_worthBy_12 : decode cX0_worthBy 12 = .ok (.aload_n 3, 1) := dk_45 (dk_at dksX0_worthBy_0 12 rfl rfl)
theorem dX0_worthBy_13 : decode cX0_worthBy 13 = .ok (.getfield 172, 3) := dk_180 0 172 (dk_at dksX0_worthBy_0 13 rfl rfl)
theorem dX0_worthBy_16 : decode cX0_worthBy 16 = .ok (.iload_n 1, 1) := dk_27 (dk_at dksX0_worthBy_0 16 rfl rfl)
theorem dX0_worthBy_17 : decode cX0_worthBy 17 = .ok (.aaload, 1) := dk_50 (dk_at dksX0_worthBy_0 17 rfl rfl)
theorem dX0_worthBy_18 : decode cX0_worthBy 18 = .ok (.iload_n 2, 1) := dk_28 (dk_at dksX0_worthBy_0 18 rfl rfl)
theorem dX0_worthBy_19 : decode cX0_worthBy 19 = .ok (.putfield 181, 3) := dk_181 0 181 (dk_at dksX0_worthBy_0 19 rfl rfl)
theorem dX0_worthBy_22 : decode cX0_worthBy 22 = .ok (.aload_n 0, 1) := dk_42 (dk_at dksX0_worthBy_0 22 rfl rfl)
theorem dX0_worthBy_23 : decode cX0_worthBy 23 = .ok (.getfield 31, 3) := dk_180 0 31 (dk_at dksX0_worthBy_1 0 rfl rfl)
theorem dX0_worthBy_26 : decode cX0_worthBy 26 = .ok (.aload_n 3, 1) := dk_45 (dk_at dksX0_worthBy_1 3 rfl rfl)
theorem dX0_worthBy_27 : decode cX0_worthBy 27 = .ok (.invokevirtual 472, 3) := dk_182 1 216 (dk_at dksX0_worthBy_1 4 rfl rfl)
theorem dX0_worthBy_30 : decode cX0_worthBy 30 = .ok (.ireturn, 1) := dk_172 (dk_at dksX0_worthBy_1 7 rfl rfl)
abbrev cX0_see : ByteArray := prog_1_method_54_code
def yX0_see : MethodName := ⟨RX0, "see", "(II)I"⟩
def dkwX0_see_4 : List UInt8 := [28, 79, 42, 180, 0, 12, 89, 180, 1, 220, 4, 96, 181, 1, 220, 42, 180, 0, 12, 180, 1, 220, 172]
abbrev dktX0_see_4 : List UInt8 := dkwX0_see_4 ++ []
def dkwX0_see_3 : List UInt8 := [180, 1, 220, 104, 27, 79, 42, 180, 0, 12, 180, 1, 223, 5, 42, 180, 0, 12, 180, 1, 220, 104, 4, 96]
abbrev dktX0_see_3 : List UInt8 := dkwX0_see_3 ++ dktX0_see_4
def dkwX0_see_2 : List UInt8 := [180, 1, 220, 8, 160, 0, 6, 16, 252, 172, 42, 180, 0, 12, 180, 1, 223, 5, 42, 180, 0, 12]
abbrev dktX0_see_2 : List UInt8 := dkwX0_see_2 ++ dktX0_see_3
def dkwX0_see_1 : List UInt8 := [154, 0, 5, 2, 172, 28, 133, 9, 20, 0, 156, 184, 0, 127, 154, 0, 6, 16, 254, 172, 42, 180, 0, 12]
abbrev dktX0_see_1 : List UInt8 := dkwX0_see_1 ++ dktX0_see_2
def dkwX0_see_0 : List UInt8 := [27, 2, 160, 0, 13, 42, 180, 0, 12, 3, 181, 1, 220, 3, 172, 42, 180, 0, 12, 27, 182, 0, 145]
abbrev dktX0_see_0 : List UInt8 := dkwX0_see_0 ++ dktX0_see_1
theorem dksX0_see_0 : cX0_see.data.toList.drop 0 = dktX0_see_0 := by decide +kernel
theorem dksX0_see_1 : cX0_see.data.toList.drop 23 = dktX0_see_1 := dk_seg dksX0_see_0 23 rfl rfl
theorem dksX0_see_2 : cX0_see.data.toList.drop 47 = dktX0_see_2 := dk_seg dksX0_see_1 24 rfl rfl
theorem dksX0_see_3 : cX0_see.data.toList.drop 69 = dktX0_see_3 := dk_seg dksX0_see_2 22 rfl rfl
theorem dksX0_see_4 : cX0_see.data.toList.drop 93 = dktX0_see_4 := dk_seg dksX0_see_3 24 rfl rfl
theorem dX0_see_0 : decode cX0_see 0 = .ok (.iload_n 1, 1) := dk_27 (dk_at dksX0_see_0 0 rfl rfl)
theorem dX0_see_1 : decode cX0_see 1 = .ok (.iconst (-1), 1) := dk_2 (dk_at dksX0_see_0 1 rfl rfl)
theorem dX0_see_2 : decode cX0_see 2 = .ok (.if_icmp .ne 13, 3) := dk_160 0 13 (dk_at dksX0_see_0 2 rfl rfl)
theorem dX0_see_5 : decode cX0_see 5 = .ok (.aload_n 0, 1) := dk_42 (dk_at dksX0_see_0 5 rfl rfl)
theorem dX0_see_6 : decode cX0_see 6 = .ok (.getfield 12, 3) := dk_180 0 12 (dk_at dksX0_see_0 6 rfl rfl)
theorem dX0_see_9 : decode cX0_see 9 = .ok (.iconst 0, 1) := dk_3 (dk_at dksX0_see_0 9 rfl rfl)
theorem dX0_see_10 : decode cX0_see 10 = .ok (.putfield 476, 3) := dk_181 1 220 (dk_at dksX0_see_0 10 rfl rfl)
theorem dX0_see_13 : decode cX0_see 13 = .ok (.iconst 0, 1) := dk_3 (dk_at dksX0_see_0 13 rfl rfl)
theorem dX0_see_14 : decode cX0_see 14 = .ok (.ireturn, 1) := dk_172 (dk_at dksX0_see_0 14 rfl rfl)
theorem dX0_see_15 : decode cX0_see 15 = .ok (.aload_n 0, 1) := dk_42 (dk_at dksX0_see_0 15 rfl rfl)
theorem dX0_see_16 : decode cX0_see 16 = .ok (.getfield 12, 3) := dk_180 0 12 (dk_at dksX0_see_0 16 rfl rfl)
theorem dX0_see_19 : decode cX0_see 19 = .ok (.iload_n 1, 1) := dk_27 (dk_at dksX0_see_0 19 rfl rfl)
theorem dX0_see_20 : decode cX0_see 20 = .ok (.invokevirtual 145, 3) := dk_182 0 145 (dk_at dksX0_see_0 20 rfl rfl)
theorem dX0_see_23 : decode cX0_see 23 = .ok (.ifCond .ne 5, 3) := dk_154 0 5 (dk_at dksX0_see_1 0 rfl rfl)
theorem dX0_see_26 : decode cX0_see 26 = .ok (.iconst (-1), 1) := dk_2 (dk_at dksX0_see_1 3 rfl rfl)
theorem dX0_see_27 : decode cX0_see 27 = .ok (.ireturn, 1) := dk_172 (dk_at dksX0_see_1 4 rfl rfl)
theorem dX0_see_28 : decode cX0_see 28 = .ok (.iload_n 2, 1) := dk_28 (dk_at dksX0_see_1 5 rfl rfl)
theorem dX0_see_29 : decode cX0_see 29 = .ok (.i2l, 1) := dk_133 (dk_at dksX0_see_1 6 rfl rfl)
theorem dX0_see_30 : decode cX0_see 30 = .ok (.lconst 0, 1) := dk_9 (dk_at dksX0_see_1 7 rfl rfl)
theorem dX0_see_31 : decode cX0_see 31 = .ok (.ldc2_w 156, 3) := dk_20 0 156 (dk_at dksX0_see_1 8 rfl rfl)
theorem dX0_see_34 : decode cX0_see 34 = .ok (.invokestatic 127, 3) := dk_184 0 127 (dk_at dksX0_see_1 11 rfl rfl)
theorem dX0_see_37 : decode cX0_see 37 = .ok (.ifCond .ne 6, 3) := dk_154 0 6 (dk_at dksX0_see_1 14 rfl rfl)
theorem dX0_see_40 : decode cX0_see 40 = .ok (.bipush (-2), 2) := dk_16 254 (dk_at dksX0_see_1 17 rfl rfl)
theorem dX0_see_42 : decode cX0_see 42 = .ok (.ireturn, 1) := dk_172 (dk_at dksX0_see_1 19 rfl rfl)
theorem dX0_see_43 : decode cX0_see 43 = .ok (.aload_n 0, 1) := dk_42 (dk_at dksX0_see_1 20 rfl rfl)
theorem dX0_see_44 : decode cX0_see 44 = .ok (.getfield 12, 3) := dk_180 0 12 (dk_at dksX0_see_1 21 rfl rfl)
theorem dX0_see_47 : decode cX0_see 47 = .ok (.getfield 476, 3) := dk_180 1 220 (dk_at dksX0_see_2 0 rfl rfl)
theorem dX0_see_50 : decode cX0_see 50 = .ok (.iconst 5, 1) := dk_8 (dk_at dksX0_see_2 3 rfl rfl)
theorem dX0_see_51 : decode cX0_see 51 = .ok (.if_icmp .ne 6, 3) := dk_160 0 6 (dk_at dksX0_see_2 4 rfl rfl)
theorem dX0_see_54 : decode cX0_see 54 = .ok (.bipush (-4), 2) := dk_16 252 (dk_at dksX0_see_2 7 rfl rfl)
theorem dX0_see_56 : decode cX0_see 56 = .ok (.ireturn, 1) := dk_172 (dk_at dksX0_see_2 9 rfl rfl)
theorem dX0_see_57 : decode cX0_see 57 = .ok (.aload_n 0, 1) := dk_42 (dk_at dksX0_see_2 10 rfl rfl)
theorem dX0_see_58 : decode cX0_see 58 = .ok (.getfield 12, 3) := dk_180 0 12 (dk_at dksX0_see_2 11 rfl rfl)
theorem dX0_see_61 : decode cX0_see 61 = .ok (.getfield 479, 3) := dk_180 1 223 (dk_at dksX0_see_2 14 rfl rfl)
theorem dX0_see_64 : decode cX0_see 64 = .ok (.iconst 2, 1) := dk_5 (dk_at dksX0_see_2 17 rfl rfl)
theorem dX0_see_65 : decode cX0_see 65 = .ok (.aload_n 0, 1) := dk_42 (dk_at dksX0_see_2 18 rfl rfl)
theorem dX0_see_66 : decode cX0_see 66 = .ok (.getfield 12, 3) := dk_180 0 12 (dk_at dksX0_see_2 19 rfl rfl)
theorem dX0_see_69 : decode cX0_see 69 = .ok (.getfield 476, 3) := dk_180 1 220 (dk_at dksX0_see_3 0 rfl rfl)
theorem dX0_see_72 : decode cX0_see 72 = .ok (.imul, 1) := dk_104 (dk_at dksX0_see_3 3 rfl rfl)
theorem dX0_see_73 : decode cX0_see 73 = .ok (.iload_n 1, 1) := dk_27 (dk_at dksX0_see_3 4 rfl rfl)
theorem dX0_see_74 : decode cX0_see 74 = .ok (.iastore, 1) := dk_79 (dk_at dksX0_see_3 5 rfl rfl)
theorem dX0_see_75 : decode cX0_see 75 = .ok (.aload_n 0, 1) := dk_42 (dk_at dksX0_see_3 6 rfl rfl)
theorem dX0_see_76 : decode cX0_see 76 = .ok (.getfield 12, 3) := dk_180 0 12 (dk_at dksX0_see_3 7 rfl rfl)
theorem dX0_see_79 : decode cX0_see 79 = .ok (.getfield 479, 3) := dk_180 1 223 (dk_at dksX0_see_3 10 rfl rfl)
theorem dX0_see_82 : decode cX0_see 82 = .ok (.iconst 2, 1) := dk_5 (dk_at dksX0_see_3 13 rfl rfl)
theorem dX0_see_83 : decode cX0_see 83 = .ok (.aload_n 0, 1) := dk_42 (dk_at dksX0_see_3 14 rfl rfl)
theorem dX0_see_84 : decode cX0_see 84 = .ok (.getfield 12, 3) := dk_180 0 12 (dk_at dksX0_see_3 15 rfl rfl)
theorem dX0_see_87 : decode cX0_see 87 = .ok (.getfield 476, 3) := dk_180 1 220 (dk_at dksX0_see_3 18 rfl rfl)
theorem dX0_see_90 : decode cX0_see 90 = .ok (.imul, 1) := dk_104 (dk_at dksX0_see_3 21 rfl rfl)
theorem dX0_see_91 : decode cX0_see 91 = .ok (.iconst 1, 1) := dk_4 (dk_at dksX0_see_3 22 rfl rfl)
theorem dX0_see_92 : decode cX0_see 92 = .ok (.iadd, 1) := dk_96 (dk_at dksX0_see_3 23 rfl rfl)
theorem dX0_see_93 : decode cX0_see 93 = .ok (.iload_n 2, 1) := dk_28 (dk_at dksX0_see_4 0 rfl rfl)
theorem dX0_see_94 : decode cX0_see 94 = .ok (.iastore, 1) := dk_79 (dk_at dksX0_see_4 1 rfl rfl)
theorem dX0_see_95 : decode cX0_see 95 = .ok (.aload_n 0, 1) := dk_42 (dk_at dksX0_see_4 2 rfl rfl)
theorem dX0_see_96 : decode cX0_see 96 = .ok (.getfield 12, 3) := dk_180 0 12 (dk_at dksX0_see_4 3 rfl rfl)
theorem dX0_see_99 : decode cX0_see 99 = .ok (.dup, 1) := dk_89 (dk_at dksX0_see_4 6 rfl rfl)
theorem dX0_see_100 : decode cX0_see 100 = .ok (.getfield 476, 3) := dk_180 1 220 (dk_at dksX0_see_4 7 rfl rfl)
theorem dX0_see_103 : decode cX0_see 103 = .ok (.iconst 1, 1) := dk_4 (dk_at dksX0_see_4 10 rfl rfl)
theorem dX0_see_104 : decode cX0_see 104 = .ok (.iadd, 1) := dk_96 (dk_at dksX0_see_4 11 rfl rfl)
theorem dX0_see_105 : decode cX0_see 105 = .ok (.putfield 476, 3) := dk_181 1 220 (dk_at dksX0_see_4 12 rfl rfl)
theorem dX0_see_108 : decode cX0_see 108 = .ok (.aload_n 0, 1) := dk_42 (dk_at dksX0_see_4 15 rfl rfl)
theorem dX0_see_109 : decode cX0_see 109 = .ok (.getfield 12, 3) := dk_180 0 12 (dk_at dksX0_see_4 16 rfl rfl)
theorem dX0_see_112 : decode cX0_see 112 = .ok (.getfield 476, 3) := dk_180 1 220 (dk_at dksX0_see_4 19 rfl rfl)
theorem dX0_see_115 : decode cX0_see 115 = .ok (.ireturn, 1) := dk_172 (dk_at dksX0_see_4 22 rfl rfl)
abbrev cX0_fits : ByteArray := prog_1_method_56_code
def yX0_fits : MethodName := ⟨RX0, "fits", "(II)I"⟩
def dkwX0_fits_3 : List UInt8 := [167, 255, 220, 28, 154, 0, 7, 29, 167, 0, 5, 21, 4, 172]
abbrev dktX0_fits_3 : List UInt8 := dkwX0_fits_3 ++ []
def dkwX0_fits_2 : List UInt8 := [155, 0, 19, 42, 182, 1, 226, 153, 0, 12, 132, 3, 1, 8, 21, 5, 104, 54, 4, 132, 5, 255]
abbrev dktX0_fits_2 : List UInt8 := dkwX0_fits_2 ++ dktX0_fits_3
def dkwX0_fits_1 : List UInt8 := [62, 16, 251, 54, 4, 16, 9, 54, 5, 21, 5, 155, 0, 37, 42, 27, 8, 21, 5, 104, 182, 1, 209]
abbrev dktX0_fits_1 : List UInt8 := dkwX0_fits_1 ++ dktX0_fits_2
def dkwX0_fits_0 : List UInt8 := [42, 180, 0, 12, 27, 182, 0, 165, 153, 0, 13, 28, 133, 9, 10, 184, 0, 127, 154, 0, 5, 2, 172, 3]
abbrev dktX0_fits_0 : List UInt8 := dkwX0_fits_0 ++ dktX0_fits_1
theorem dksX0_fits_0 : cX0_fits.data.toList.drop 0 = dktX0_fits_0 := by decide +kernel
theorem dksX0_fits_1 : cX0_fits.data.toList.drop 24 = dktX0_fits_1 := dk_seg dksX0_fits_0 24 rfl rfl
theorem dksX0_fits_2 : cX0_fits.data.toList.drop 47 = dktX0_fits_2 := dk_seg dksX0_fits_1 23 rfl rfl
theorem dksX0_fits_3 : cX0_fits.data.toList.drop 69 = dktX0_fits_3 := dk_seg dksX0_fits_2 22 rfl rfl
theorem dX0_fits_0 : decode cX0_fits 0 = .ok (.aload_n 0, 1) := dk_42 (dk_at dksX0_fits_0 0 rfl rfl)
theorem dX0_fits_1 : decode cX0_fits 1 = .ok (.getfield 12, 3) := dk_180 0 12 (dk_at dksX0_fits_0 1 rfl rfl)
theorem dX0_fits_4 : decode cX0_fits 4 = .ok (.iload_n 1, 1) := dk_27 (dk_at dksX0_fits_0 4 rfl rfl)
theorem dX0_fits_5 : decode cX0_fits 5 = .ok (.invokevirtual 165, 3) := dk_182 0 165 (dk_at dksX0_fits_0 5 rfl rfl)
theorem dX0_fits_8 : decode cX0_fits 8 = .ok (.ifCond .eq 13, 3) := dk_153 0 13 (dk_at dksX0_fits_0 8 rfl rfl)
theorem dX0_fits_11 : decode cX0_fits 11 = .ok (.iload_n 2, 1) := dk_28 (dk_at dksX0_fits_0 11 rfl rfl)
theorem dX0_fits_12 : decode cX0_fits 12 = .ok (.i2l, 1) := dk_133 (dk_at dksX0_fits_0 12 rfl rfl)
theorem dX0_fits_13 : decode cX0_fits 13 = .ok (.lconst 0, 1) := dk_9 (dk_at dksX0_fits_0 13 rfl rfl)
theorem dX0_fits_14 : decode cX0_fits 14 = .ok (.lconst 1, 1) := dk_10 (dk_at dksX0_fits_0 14 rfl rfl)
theorem dX0_fits_15 : decode cX0_fits 15 = .ok (.invokestatic 127, 3) := dk_184 0 127 (dk_at dksX0_fits_0 15 rfl rfl)
theorem dX0_fits_18 : decode cX0_fits 18 = .ok (.ifCond .ne 5, 3) := dk_154 0 5 (dk_at dksX0_fits_0 18 rfl rfl)
theorem dX0_fits_21 : decode cX0_fits 21 = .ok (.iconst (-1), 1) := dk_2 (dk_at dksX0_fits_0 21 rfl rfl)
theorem dX0_fits_22 : decode cX0_fits 22 = .ok (.ireturn, 1) := dk_172 (dk_at dksX0_fits_0 22 rfl rfl)
theorem dX0_fits_23 : decode cX0_fits 23 = .ok (.iconst 0, 1) := dk_3 (dk_at dksX0_fits_0 23 rfl rfl)
theorem dX0_fits_24 : decode cX0_fits 24 = .ok (.istore_n 3, 1) := dk_62 (dk_at dksX0_fits_1 0 rfl rfl)
theorem dX0_fits_25 : decode cX0_fits 25 = .ok (.bipush (-5), 2) := dk_16 251 (dk_at dksX0_fits_1 1 rfl rfl)
theorem dX0_fits_27 : decode cX0_fits 27 = .ok (.istore 4, 2) := dk_54 4 (dk_at dksX0_fits_1 3 rfl rfl)
theorem dX0_fits_29 : decode cX0_fits 29 = .ok (.bipush 9, 2) := dk_16 9 (dk_at dksX0_fits_1 5 rfl rfl)
theorem dX0_fits_31 : decode cX0_fits 31 = .ok (.istore 5, 2) := dk_54 5 (dk_at dksX0_fits_1 7 rfl rfl)
theorem dX0_fits_33 : decode cX0_fits 33 = .ok (.iload 5, 2) := dk_21 5 (dk_at dksX0_fits_1 9 rfl rfl)
theorem dX0_fits_35 : decode cX0_fits 35 = .ok (.ifCond .lt 37, 3) := dk_155 0 37 (dk_at dksX0_fits_1 11 rfl rfl)
theorem dX0_fits_38 : decode cX0_fits 38 = .ok (.aload_n 0, 1) := dk_42 (dk_at dksX0_fits_1 14 rfl rfl)
theorem dX0_fits_39 : decode cX0_fits 39 = .ok (.iload_n 1, 1) := dk_27 (dk_at dksX0_fits_1 15 rfl rfl)
theorem dX0_fits_40 : decode cX0_fits 40 = .ok (.iconst 5, 1) := dk_8 (dk_at dksX0_fits_1 16 rfl rfl)
theorem dX0_fits_41 : decode cX0_fits 41 = .ok (.iload 5, 2) := dk_21 5 (dk_at dksX0_fits_1 17 rfl rfl)
theorem dX0_fits_43 : decode cX0_fits 43 = .ok (.imul, 1) := dk_104 (dk_at dksX0_fits_1 19 rfl rfl)
theorem dX0_fits_44 : decode cX0_fits 44 = .ok (.invokevirtual 465, 3) := dk_182 1 209 (dk_at dksX0_fits_1 20 rfl rfl)
theorem dX0_fits_47 : decode cX0_fits 47 = .ok (.ifCond .lt 19, 3) := dk_155 0 19 (dk_at dksX0_fits_2 0 rfl rfl)
theorem dX0_fits_50 : decode cX0_fits 50 = .ok (.aload_n 0, 1) := dk_42 (dk_at dksX0_fits_2 3 rfl rfl)
theorem dX0_fits_51 : decode cX0_fits 51 = .ok (.invokevirtual 482, 3) := dk_182 1 226 (dk_at dksX0_fits_2 4 rfl rfl)
theorem dX0_fits_54 : decode cX0_fits 54 = .ok (.ifCond .eq 12, 3) := dk_153 0 12 (dk_at dksX0_fits_2 7 rfl rfl)
theorem dX0_fits_57 : decode cX0_fits 57 = .ok (.iinc 3 1, 3) := dk_132 3 1 (dk_at dksX0_fits_2 10 rfl rfl)
theorem dX0_fits_60 : decode cX0_fits 60 = .ok (.iconst 5, 1) := dk_8 (dk_at dksX0_fits_2 13 rfl rfl)
theorem dX0_fits_61 : decode cX0_fits 61 = .ok (.iload 5, 2) := dk_21 5 (dk_at dksX0_fits_2 14 rfl rfl)
theorem dX0_fits_63 : decode cX0_fits 63 = .ok (.imul, 1) := dk_104 (dk_at dksX0_fits_2 16 rfl rfl)
theorem dX0_fits_64 : decode cX0_fits 64 = .ok (.istore 4, 2) := dk_54 4 (dk_at dksX0_fits_2 17 rfl rfl)
theorem dX0_fits_66 : decode cX0_fits 66 = .ok (.iinc 5 (-1), 3) := dk_132 5 255 (dk_at dksX0_fits_2 19 rfl rfl)
theorem dX0_fits_69 : decode cX0_fits 69 = .ok (.goto (-36), 3) := dk_167 255 220 (dk_at dksX0_fits_3 0 rfl rfl)
theorem dX0_fits_72 : decode cX0_fits 72 = .ok (.iload_n 2, 1) := dk_28 (dk_at dksX0_fits_3 3 rfl rfl)
theorem dX0_fits_73 : decode cX0_fits 73 = .ok (.ifCond .ne 7, 3) := dk_154 0 7 (dk_at dksX0_fits_3 4 rfl rfl)
theorem dX0_fits_76 : decode cX0_fits 76 = .ok (.iload_n 3, 1) := dk_29 (dk_at dksX0_fits_3 7 rfl rfl)
theorem dX0_fits_77 : decode cX0_fits 77 = .ok (.goto 5, 3) := dk_167 0 5 (dk_at dksX0_fits_3 8 rfl rfl)
theorem dX0_fits_80 : decode cX0_fits 80 = .ok (.iload 4, 2) := dk_21 4 (dk_at dksX0_fits_3 11 rfl rfl)
theorem dX0_fits_82 : decode cX0_fits 82 = .ok (.ireturn, 1) := dk_172 (dk_at dksX0_fits_3 13 rfl rfl)
abbrev cX0_isSeen : ByteArray := prog_1_method_55_code
def yX0_isSeen : MethodName := ⟨RX0, "isSeen", "()Z"⟩
def dkwX0_isSeen_2 : List UInt8 := [180, 0, 31, 180, 0, 237, 105, 148, 153, 0, 5, 3, 172, 132, 1, 1, 167, 255, 196, 4, 172]
abbrev dktX0_isSeen_2 : List UInt8 := dkwX0_isSeen_2 ++ []
def dkwX0_isSeen_1 : List UInt8 := [5, 27, 104, 46, 182, 1, 11, 42, 180, 0, 12, 180, 1, 223, 5, 27, 104, 4, 96, 46, 133, 42]
abbrev dktX0_isSeen_1 : List UInt8 := dkwX0_isSeen_1 ++ dktX0_isSeen_2
def dkwX0_isSeen_0 : List UInt8 := [3, 60, 27, 42, 180, 0, 12, 180, 1, 220, 162, 0, 55, 42, 180, 0, 31, 42, 180, 0, 12, 180, 1, 223]
abbrev dktX0_isSeen_0 : List UInt8 := dkwX0_isSeen_0 ++ dktX0_isSeen_1
theorem dksX0_isSeen_0 : cX0_isSeen.data.toList.drop 0 = dktX0_isSeen_0 := by decide +kernel
theorem dksX0_isSeen_1 : cX0_isSeen.data.toList.drop 24 = dktX0_isSeen_1 := dk_seg dksX0_isSeen_0 24 rfl rfl
theorem dksX0_isSeen_2 : cX0_isSeen.data.toList.drop 46 = dktX0_isSeen_2 := dk_seg dksX0_isSeen_1 22 rfl rfl
theorem dX0_isSeen_0 : decode cX0_isSeen 0 = .ok (.iconst 0, 1) := dk_3 (dk_at dksX0_isSeen_0 0 rfl rfl)
theorem dX0_isSeen_1 : decode cX0_isSeen 1 = .ok (.istore_n 1, 1) := dk_60 (dk_at dksX0_isSeen_0 1 rfl rfl)
theorem dX0_isSeen_2 : decode cX0_isSeen 2 = .ok (.iload_n 1, 1) := dk_27 (dk_at dksX0_isSeen_0 2 rfl rfl)
theorem dX0_isSeen_3 : decode cX0_isSeen 3 = .ok (.aload_n 0, 1) := dk_42 (dk_at dksX0_isSeen_0 3 rfl rfl)
theorem dX0_isSeen_4 : decode cX0_isSeen 4 = .ok (.getfield 12, 3) := dk_180 0 12 (dk_at dksX0_isSeen_0 4 rfl rfl)
theorem dX0_isSeen_7 : decode cX0_isSeen 7 = .ok (.getfield 476, 3) := dk_180 1 220 (dk_at dksX0_isSeen_0 7 rfl rfl)
theorem dX0_isSeen_10 : decode cX0_isSeen 10 = .ok (.if_icmp .ge 55, 3) := dk_162 0 55 (dk_at dksX0_isSeen_0 10 rfl rfl)
theorem dX0_isSeen_13 : decode cX0_isSeen 13 = .ok (.aload_n 0, 1) := dk_42 (dk_at dksX0_isSeen_0 13 rfl rfl)
theorem dX0_isSeen_14 : decode cX0_isSeen 14 = .ok (.getfield 31, 3) := dk_180 0 31 (dk_at dksX0_isSeen_0 14 rfl rfl)
theorem dX0_isSeen_17 : decode cX0_isSeen 17 = .ok (.aload_n 0, 1) := dk_42 (dk_at dksX0_isSeen_0 17 rfl rfl)
theorem dX0_isSeen_18 : decode cX0_isSeen 18 = .ok (.getfield 12, 3) := dk_180 0 12 (dk_at dksX0_isSeen_0 18 rfl rfl)
theorem dX0_isSeen_21 : decode cX0_isSeen 21 = .ok (.getfield 479, 3) := dk_180 1 223 (dk_at dksX0_isSeen_0 21 rfl rfl)
theorem dX0_isSeen_24 : decode cX0_isSeen 24 = .ok (.iconst 2, 1) := dk_5 (dk_at dksX0_isSeen_1 0 rfl rfl)
theorem dX0_isSeen_25 : decode cX0_isSeen 25 = .ok (.iload_n 1, 1) := dk_27 (dk_at dksX0_isSeen_1 1 rfl rfl)
theorem dX0_isSeen_26 : decode cX0_isSeen 26 = .ok (.imul, 1) := dk_104 (dk_at dksX0_isSeen_1 2 rfl rfl)
theorem dX0_isSeen_27 : decode cX0_isSeen 27 = .ok (.iaload, 1) := dk_46 (dk_at dksX0_isSeen_1 3 rfl rfl)
theorem dX0_isSeen_28 : decode cX0_isSeen 28 = .ok (.invokevirtual 267, 3) := dk_182 1 11 (dk_at dksX0_isSeen_1 4 rfl rfl)
theorem dX0_isSeen_31 : decode cX0_isSeen 31 = .ok (.aload_n 0, 1) := dk_42 (dk_at dksX0_isSeen_1 7 rfl rfl)
theorem dX0_isSeen_32 : decode cX0_isSeen 32 = .ok (.getfield 12, 3) := dk_180 0 12 (dk_at dksX0_isSeen_1 8 rfl rfl)
theorem dX0_isSeen_35 : decode cX0_isSeen 35 = .ok (.getfield 479, 3) := dk_180 1 223 (dk_at dksX0_isSeen_1 11 rfl rfl)
theorem dX0_isSeen_38 : decode cX0_isSeen 38 = .ok (.iconst 2, 1) := dk_5 (dk_at dksX0_isSeen_1 14 rfl rfl)
theorem dX0_isSeen_39 : decode cX0_isSeen 39 = .ok (.iload_n 1, 1) := dk_27 (dk_at dksX0_isSeen_1 15 rfl rfl)
theorem dX0_isSeen_40 : decode cX0_isSeen 40 = .ok (.imul, 1) := dk_104 (dk_at dksX0_isSeen_1 16 rfl rfl)
theorem dX0_isSeen_41 : decode cX0_isSeen 41 = .ok (.iconst 1, 1) := dk_4 (dk_at dksX0_isSeen_1 17 rfl rfl)
theorem dX0_isSeen_42 : decode cX0_isSeen 42 = .ok (.iadd, 1) := dk_96 (dk_at dksX0_isSeen_1 18 rfl rfl)
theorem dX0_isSeen_43 : decode cX0_isSeen 43 = .ok (.iaload, 1) := dk_46 (dk_at dksX0_isSeen_1 19 rfl rfl)
theorem dX0_isSeen_44 : decode cX0_isSeen 44 = .ok (.i2l, 1) := dk_133 (dk_at dksX0_isSeen_1 20 rfl rfl)
theorem dX0_isSeen_45 : decode cX0_isSeen 45 = .ok (.aload_n 0, 1) := dk_42 (dk_at dksX0_isSeen_1 21 rfl rfl)
theorem dX0_isSeen_46 : decode cX0_isSeen 46 = .ok (.getfield 31, 3) := dk_180 0 31 (dk_at dksX0_isSeen_2 0 rfl rfl)
theorem dX0_isSeen_49 : decode cX0_isSeen 49 = .ok (.getfield 237, 3) := dk_180 0 237 (dk_at dksX0_isSeen_2 3 rfl rfl)
theorem dX0_isSeen_52 : decode cX0_isSeen 52 = .ok (.lmul, 1) := dk_105 (dk_at dksX0_isSeen_2 6 rfl rfl)
theorem dX0_isSeen_53 : decode cX0_isSeen 53 = .ok (.lcmp, 1) := dk_148 (dk_at dksX0_isSeen_2 7 rfl rfl)
theorem dX0_isSeen_54 : decode cX0_isSeen 54 = .ok (.ifCond .eq 5, 3) := dk_153 0 5 (dk_at dksX0_isSeen_2 8 rfl rfl)
theorem dX0_isSeen_57 : decode cX0_isSeen 57 = .ok (.iconst 0, 1) := dk_3 (dk_at dksX0_isSeen_2 11 rfl rfl)
theorem dX0_isSeen_58 : decode cX0_isSeen 58 = .ok (.ireturn, 1) := dk_172 (dk_at dksX0_isSeen_2 12 rfl rfl)
theorem dX0_isSeen_59 : decode cX0_isSeen 59 = .ok (.iinc 1 1, 3) := dk_132 1 1 (dk_at dksX0_isSeen_2 13 rfl rfl)
theorem dX0_isSeen_62 : decode cX0_isSeen 62 = .ok (.goto (-60), 3) := dk_167 255 196 (dk_at dksX0_isSeen_2 16 rfl rfl)
theorem dX0_isSeen_65 : decode cX0_isSeen 65 = .ok (.iconst 1, 1) := dk_4 (dk_at dksX0_isSeen_2 19 rfl rfl)
theorem dX0_isSeen_66 : decode cX0_isSeen 66 = .ok (.ireturn, 1) := dk_172 (dk_at dksX0_isSeen_2 20 rfl rfl)
abbrev cX0_odds : ByteArray := prog_1_method_57_code
def yX0_odds : MethodName := ⟨RX0, "odds", "(IIIII)J"⟩
def dkwX0_odds_5 : List UInt8 := [133, 21, 5, 184, 1, 231, 173]
abbrev dktX0_odds_5 : List UInt8 := dkwX0_odds_5 ++ []
def dkwX0_odds_4 : List UInt8 := [184, 0, 127, 153, 0, 7, 4, 167, 0, 4, 3, 96, 54, 6, 132, 7, 1, 167, 255, 217, 21, 6, 133, 29]
abbrev dktX0_odds_4 : List UInt8 := dkwX0_odds_4 ++ dktX0_odds_5
def dkwX0_odds_3 : List UInt8 := [21, 7, 29, 162, 0, 39, 21, 6, 42, 27, 28, 21, 7, 96, 182, 1, 209, 133, 9, 21, 4, 133]
abbrev dktX0_odds_3 : List UInt8 := dkwX0_odds_3 ++ dktX0_odds_4
def dkwX0_odds_2 : List UInt8 := [21, 4, 155, 0, 11, 21, 5, 184, 1, 8, 154, 0, 7, 20, 0, 232, 173, 3, 54, 6, 3, 54, 7]
abbrev dktX0_odds_2 : List UInt8 := dkwX0_odds_2 ++ dktX0_odds_3
def dkwX0_odds_1 : List UInt8 := [153, 0, 37, 29, 133, 10, 20, 1, 229, 184, 0, 127, 153, 0, 25, 28, 29, 96, 17, 3, 232, 163, 0, 16]
abbrev dktX0_odds_1 : List UInt8 := dkwX0_odds_1 ++ dktX0_odds_2
def dkwX0_odds_0 : List UInt8 := [42, 180, 0, 12, 27, 182, 0, 165, 153, 0, 51, 28, 133, 20, 0, 154, 20, 0, 156, 184, 0, 127]
abbrev dktX0_odds_0 : List UInt8 := dkwX0_odds_0 ++ dktX0_odds_1
theorem dksX0_odds_0 : cX0_odds.data.toList.drop 0 = dktX0_odds_0 := by decide +kernel
theorem dksX0_odds_1 : cX0_odds.data.toList.drop 22 = dktX0_odds_1 := dk_seg dksX0_odds_0 22 rfl rfl
theorem dksX0_odds_2 : cX0_odds.data.toList.drop 46 = dktX0_odds_2 := dk_seg dksX0_odds_1 24 rfl rfl
theorem dksX0_odds_3 : cX0_odds.data.toList.drop 69 = dktX0_odds_3 := dk_seg dksX0_odds_2 23 rfl rfl
theorem dksX0_odds_4 : cX0_odds.data.toList.drop 91 = dktX0_odds_4 := dk_seg dksX0_odds_3 22 rfl rfl
theorem dksX0_odds_5 : cX0_odds.data.toList.drop 115 = dktX0_odds_5 := dk_seg dksX0_odds_4 24 rfl rfl
theorem dX0_odds_0 : decode cX0_odds 0 = .ok (.aload_n 0, 1) := dk_42 (dk_at dksX0_odds_0 0 rfl rfl)
theorem dX0_odds_1 : decode cX0_odds 1 = .ok (.getfield 12, 3) := dk_180 0 12 (dk_at dksX0_odds_0 1 rfl rfl)
theorem dX0_odds_4 : decode cX0_odds 4 = .ok (.iload_n 1, 1) := dk_27 (dk_at dksX0_odds_0 4 rfl rfl)
theorem dX0_odds_5 : decode cX0_odds 5 = .ok (.invokevirtual 165, 3) := dk_182 0 165 (dk_at dksX0_odds_0 5 rfl rfl)
theorem dX0_odds_8 : decode cX0_odds 8 = .ok (.ifCond .eq 51, 3) := dk_153 0 51 (dk_at dksX0_odds_0 8 rfl rfl)
theorem dX0_odds_11 : decode cX0_odds 11 = .ok (.iload_n 2, 1) := dk_28 (dk_at dksX0_odds_0 11 rfl rfl)
theorem dX0_odds_12 : decode cX0_odds 12 = .ok (.i2l, 1) := dk_133 (dk_at dksX0_odds_0 12 rfl rfl)
theorem dX0_odds_13 : decode cX0_odds 13 = .ok (.ldc2_w 154, 3) := dk_20 0 154 (dk_at dksX0_odds_0 13 rfl rfl)
theorem dX0_odds_16 : decode cX0_odds 16 = .ok (.ldc2_w 156, 3) := dk_20 0 156 (dk_at dksX0_odds_0 16 rfl rfl)
theorem dX0_odds_19 : decode cX0_odds 19 = .ok (.invokestatic 127, 3) := dk_184 0 127 (dk_at dksX0_odds_0 19 rfl rfl)
theorem dX0_odds_22 : decode cX0_odds 22 = .ok (.ifCond .eq 37, 3) := dk_153 0 37 (dk_at dksX0_odds_1 0 rfl rfl)
theorem dX0_odds_25 : decode cX0_odds 25 = .ok (.iload_n 3, 1) := dk_29 (dk_at dksX0_odds_1 3 rfl rfl)
theorem dX0_odds_26 : decode cX0_odds 26 = .ok (.i2l, 1) := dk_133 (dk_at dksX0_odds_1 4 rfl rfl)
theorem dX0_odds_27 : decode cX0_odds 27 = .ok (.lconst 1, 1) := dk_10 (dk_at dksX0_odds_1 5 rfl rfl)
theorem dX0_odds_28 : decode cX0_odds 28 = .ok (.ldc2_w 485, 3) := dk_20 1 229 (dk_at dksX0_odds_1 6 rfl rfl)
theorem dX0_odds_31 : decode cX0_odds 31 = .ok (.invokestatic 127, 3) := dk_184 0 127 (dk_at dksX0_odds_1 9 rfl rfl)
theorem dX0_odds_34 : decode cX0_odds 34 = .ok (.ifCond .eq 25, 3) := dk_153 0 25 (dk_at dksX0_odds_1 12 rfl rfl)
theorem dX0_odds_37 : decode cX0_odds 37 = .ok (.iload_n 2, 1) := dk_28 (dk_at dksX0_odds_1 15 rfl rfl)
theorem dX0_odds_38 : decode cX0_odds 38 = .ok (.iload_n 3, 1) := dk_29 (dk_at dksX0_odds_1 16 rfl rfl)
theorem dX0_odds_39 : decode cX0_odds 39 = .ok (.iadd, 1) := dk_96 (dk_at dksX0_odds_1 17 rfl rfl)
theorem dX0_odds_40 : decode cX0_odds 40 = .ok (.sipush 1000, 3) := dk_17 3 232 (dk_at dksX0_odds_1 18 rfl rfl)
theorem dX0_odds_43 : decode cX0_odds 43 = .ok (.if_icmp .gt 16, 3) := dk_163 0 16 (dk_at dksX0_odds_1 21 rfl rfl)
theorem dX0_odds_46 : decode cX0_odds 46 = .ok (.iload 4, 2) := dk_21 4 (dk_at dksX0_odds_2 0 rfl rfl)
theorem dX0_odds_48 : decode cX0_odds 48 = .ok (.ifCond .lt 11, 3) := dk_155 0 11 (dk_at dksX0_odds_2 2 rfl rfl)
theorem dX0_odds_51 : decode cX0_odds 51 = .ok (.iload 5, 2) := dk_21 5 (dk_at dksX0_odds_2 5 rfl rfl)
theorem dX0_odds_53 : decode cX0_odds 53 = .ok (.invokestatic 264, 3) := dk_184 1 8 (dk_at dksX0_odds_2 7 rfl rfl)
theorem dX0_odds_56 : decode cX0_odds 56 = .ok (.ifCond .ne 7, 3) := dk_154 0 7 (dk_at dksX0_odds_2 10 rfl rfl)
theorem dX0_odds_59 : decode cX0_odds 59 = .ok (.ldc2_w 232, 3) := dk_20 0 232 (dk_at dksX0_odds_2 13 rfl rfl)
theorem dX0_odds_62 : decode cX0_odds 62 = .ok (.lreturn, 1) := dk_173 (dk_at dksX0_odds_2 16 rfl rfl)
theorem dX0_odds_63 : decode cX0_odds 63 = .ok (.iconst 0, 1) := dk_3 (dk_at dksX0_odds_2 17 rfl rfl)
theorem dX0_odds_64 : decode cX0_odds 64 = .ok (.istore 6, 2) := dk_54 6 (dk_at dksX0_odds_2 18 rfl rfl)
theorem dX0_odds_66 : decode cX0_odds 66 = .ok (.iconst 0, 1) := dk_3 (dk_at dksX0_odds_2 20 rfl rfl)
theorem dX0_odds_67 : decode cX0_odds 67 = .ok (.istore 7, 2) := dk_54 7 (dk_at dksX0_odds_2 21 rfl rfl)
theorem dX0_odds_69 : decode cX0_odds 69 = .ok (.iload 7, 2) := dk_21 7 (dk_at dksX0_odds_3 0 rfl rfl)
theorem dX0_odds_71 : decode cX0_odds 71 = .ok (.iload_n 3, 1) := dk_29 (dk_at dksX0_odds_3 2 rfl rfl)
theorem dX0_odds_72 : decode cX0_odds 72 = .ok (.if_icmp .ge 39, 3) := dk_162 0 39 (dk_at dksX0_odds_3 3 rfl rfl)
theorem dX0_odds_75 : decode cX0_odds 75 = .ok (.iload 6, 2) := dk_21 6 (dk_at dksX0_odds_3 6 rfl rfl)
theorem dX0_odds_77 : decode cX0_odds 77 = .ok (.aload_n 0, 1) := dk_42 (dk_at dksX0_odds_3 8 rfl rfl)
theorem dX0_odds_78 : decode cX0_odds 78 = .ok (.iload_n 1, 1) := dk_27 (dk_at dksX0_odds_3 9 rfl rfl)
theorem dX0_odds_79 : decode cX0_odds 79 = .ok (.iload_n 2, 1) := dk_28 (dk_at dksX0_odds_3 10 rfl rfl)
theorem dX0_odds_80 : decode cX0_odds 80 = .ok (.iload 7, 2) := dk_21 7 (dk_at dksX0_odds_3 11 rfl rfl)
theorem dX0_odds_82 : decode cX0_odds 82 = .ok (.iadd, 1) := dk_96 (dk_at dksX0_odds_3 13 rfl rfl)
theorem dX0_odds_83 : decode cX0_odds 83 = .ok (.invokevirtual 465, 3) := dk_182 1 209 (dk_at dksX0_odds_3 14 rfl rfl)
theorem dX0_odds_86 : decode cX0_odds 86 = .ok (.i2l, 1) := dk_133 (dk_at dksX0_odds_3 17 rfl rfl)
theorem dX0_odds_87 : decode cX0_odds 87 = .ok (.lconst 0, 1) := dk_9 (dk_at dksX0_odds_3 18 rfl rfl)
theorem dX0_odds_88 : decode cX0_odds 88 = .ok (.iload 4, 2) := dk_21 4 (dk_at dksX0_odds_3 19 rfl rfl)
theorem dX0_odds_90 : decode cX0_odds 90 = .ok (.i2l, 1) := dk_133 (dk_at dksX0_odds_3 21 rfl rfl)
theorem dX0_odds_91 : decode cX0_odds 91 = .ok (.invokestatic 127, 3) := dk_184 0 127 (dk_at dksX0_odds_4 0 rfl rfl)
theorem dX0_odds_94 : decode cX0_odds 94 = .ok (.ifCond .eq 7, 3) := dk_153 0 7 (dk_at dksX0_odds_4 3 rfl rfl)
theorem dX0_odds_97 : decode cX0_odds 97 = .ok (.iconst 1, 1) := dk_4 (dk_at dksX0_odds_4 6 rfl rfl)
theorem dX0_odds_98 : decode cX0_odds 98 = .ok (.goto 4, 3) := dk_167 0 4 (dk_at dksX0_odds_4 7 rfl rfl)
theorem dX0_odds_101 : decode cX0_odds 101 = .ok (.iconst 0, 1) := dk_3 (dk_at dksX0_odds_4 10 rfl rfl)
theorem dX0_odds_102 : decode cX0_odds 102 = .ok (.iadd, 1) := dk_96 (dk_at dksX0_odds_4 11 rfl rfl)
theorem dX0_odds_103 : decode cX0_odds 103 = .ok (.istore 6, 2) := dk_54 6 (dk_at dksX0_odds_4 12 rfl rfl)
theorem dX0_odds_105 : decode cX0_odds 105 = .ok (.iinc 7 1, 3) := dk_132 7 1 (dk_at dksX0_odds_4 14 rfl rfl)
theorem dX0_odds_108 : decode cX0_odds 108 = .ok (.goto (-39), 3) := dk_167 255 217 (dk_at dksX0_odds_4 17 rfl rfl)
theorem dX0_odds_111 : decode cX0_odds 111 = .ok (.iload 6, 2) := dk_21 6 (dk_at dksX0_odds_4 20 rfl rfl)
theorem dX0_odds_113 : decode cX0_odds 113 = .ok (.i2l, 1) := dk_133 (dk_at dksX0_odds_4 22 rfl rfl)
theorem dX0_odds_114 : decode cX0_odds 114 = .ok (.iload_n 3, 1) := dk_29 (dk_at dksX0_odds_4 23 rfl rfl)
theorem dX0_odds_115 : decode cX0_odds 115 = .ok (.i2l, 1) := dk_133 (dk_at dksX0_odds_5 0 rfl rfl)
theorem dX0_odds_116 : decode cX0_odds 116 = .ok (.iload 5, 2) := dk_21 5 (dk_at dksX0_odds_5 1 rfl rfl)
theorem dX0_odds_118 : decode cX0_odds 118 = .ok (.invokestatic 487, 3) := dk_184 1 231 (dk_at dksX0_odds_5 3 rfl rfl)
theorem dX0_odds_121 : decode cX0_odds 121 = .ok (.lreturn, 1) := dk_173 (dk_at dksX0_odds_5 6 rfl rfl)
abbrev cX0_lowest : ByteArray := prog_1_method_4_code
def yX0_lowest : MethodName := ⟨RX0, "lowest", "(JJI)J"⟩
def dkwX0_lowest_0 : List UInt8 := [21, 4, 154, 0, 7, 30, 167, 0, 4, 32, 30, 32, 184, 0, 117, 109, 173]
abbrev dktX0_lowest_0 : List UInt8 := dkwX0_lowest_0 ++ []
theorem dksX0_lowest_0 : cX0_lowest.data.toList.drop 0 = dktX0_lowest_0 := by decide +kernel
theorem dX0_lowest_0 : decode cX0_lowest 0 = .ok (.iload 4, 2) := dk_21 4 (dk_at dksX0_lowest_0 0 rfl rfl)
theorem dX0_lowest_2 : decode cX0_lowest 2 = .ok (.ifCond .ne 7, 3) := dk_154 0 7 (dk_at dksX0_lowest_0 2 rfl rfl)
theorem dX0_lowest_5 : decode cX0_lowest 5 = .ok (.lload_n 0, 1) := dk_30 (dk_at dksX0_lowest_0 5 rfl rfl)
theorem dX0_lowest_6 : decode cX0_lowest 6 = .ok (.goto 4, 3) := dk_167 0 4 (dk_at dksX0_lowest_0 6 rfl rfl)
theorem dX0_lowest_9 : decode cX0_lowest 9 = .ok (.lload_n 2, 1) := dk_32 (dk_at dksX0_lowest_0 9 rfl rfl)
theorem dX0_lowest_10 : decode cX0_lowest 10 = .ok (.lload_n 0, 1) := dk_30 (dk_at dksX0_lowest_0 10 rfl rfl)
theorem dX0_lowest_11 : decode cX0_lowest 11 = .ok (.lload_n 2, 1) := dk_32 (dk_at dksX0_lowest_0 11 rfl rfl)
theorem dX0_lowest_12 : decode cX0_lowest 12 = .ok (.invokestatic 117, 3) := dk_184 0 117 (dk_at dksX0_lowest_0 12 rfl rfl)
theorem dX0_lowest_15 : decode cX0_lowest 15 = .ok (.ldiv, 1) := dk_109 (dk_at dksX0_lowest_0 15 rfl rfl)
theorem dX0_lowest_16 : decode cX0_lowest 16 = .ok (.lreturn, 1) := dk_173 (dk_at dksX0_lowest_0 16 rfl rfl)
abbrev cX0_mean : ByteArray := prog_1_method_58_code
def yX0_mean : MethodName := ⟨RX0, "mean", "(I)J"⟩
def dkwX0_mean_2 : List UInt8 := [180, 0, 131, 133, 27, 184, 1, 231, 167, 0, 6, 20, 0, 232, 173]
abbrev dktX0_mean_2 : List UInt8 := dkwX0_mean_2 ++ []
def dkwX0_mean_1 : List UInt8 := [46, 96, 61, 132, 3, 1, 167, 255, 230, 27, 184, 1, 8, 153, 0, 20, 28, 133, 42, 180, 0, 12]
abbrev dktX0_mean_1 : List UInt8 := dkwX0_mean_1 ++ dktX0_mean_2
def dkwX0_mean_0 : List UInt8 := [3, 61, 3, 62, 29, 42, 180, 0, 12, 180, 0, 131, 162, 0, 21, 28, 42, 180, 0, 12, 180, 0, 151, 29]
abbrev dktX0_mean_0 : List UInt8 := dkwX0_mean_0 ++ dktX0_mean_1
theorem dksX0_mean_0 : cX0_mean.data.toList.drop 0 = dktX0_mean_0 := by decide +kernel
theorem dksX0_mean_1 : cX0_mean.data.toList.drop 24 = dktX0_mean_1 := dk_seg dksX0_mean_0 24 rfl rfl
theorem dksX0_mean_2 : cX0_mean.data.toList.drop 46 = dktX0_mean_2 := dk_seg dksX0_mean_1 22 rfl rfl
theorem dX0_mean_0 : decode cX0_mean 0 = .ok (.iconst 0, 1) := dk_3 (dk_at dksX0_mean_0 0 rfl rfl)
theorem dX0_mean_1 : decode cX0_mean 1 = .ok (.istore_n 2, 1) := dk_61 (dk_at dksX0_mean_0 1 rfl rfl)
theorem dX0_mean_2 : decode cX0_mean 2 = .ok (.iconst 0, 1) := dk_3 (dk_at dksX0_mean_0 2 rfl rfl)
theorem dX0_mean_3 : decode cX0_mean 3 = .ok (.istore_n 3, 1) := dk_62 (dk_at dksX0_mean_0 3 rfl rfl)
theorem dX0_mean_4 : decode cX0_mean 4 = .ok (.iload_n 3, 1) := dk_29 (dk_at dksX0_mean_0 4 rfl rfl)
theorem dX0_mean_5 : decode cX0_mean 5 = .ok (.aload_n 0, 1) := dk_42 (dk_at dksX0_mean_0 5 rfl rfl)
theorem dX0_mean_6 : decode cX0_mean 6 = .ok (.getfield 12, 3) := dk_180 0 12 (dk_at dksX0_mean_0 6 rfl rfl)
theorem dX0_mean_9 : decode cX0_mean 9 = .ok (.getfield 131, 3) := dk_180 0 131 (dk_at dksX0_mean_0 9 rfl rfl)
theorem dX0_mean_12 : decode cX0_mean 12 = .ok (.if_icmp .ge 21, 3) := dk_162 0 21 (dk_at dksX0_mean_0 12 rfl rfl)
theorem dX0_mean_15 : decode cX0_mean 15 = .ok (.iload_n 2, 1) := dk_28 (dk_at dksX0_mean_0 15 rfl rfl)
theorem dX0_mean_16 : decode cX0_mean 16 = .ok (.aload_n 0, 1) := dk_42 (dk_at dksX0_mean_0 16 rfl rfl)
theorem dX0_mean_17 : decode cX0_mean 17 = .ok (.getfield 12, 3) := dk_180 0 12 (dk_at dksX0_mean_0 17 rfl rfl)
theorem dX0_mean_20 : decode cX0_mean 20 = .ok (.getfield 151, 3) := dk_180 0 151 (dk_at dksX0_mean_0 20 rfl rfl)
theorem dX0_mean_23 : decode cX0_mean 23 = .ok (.iload_n 3, 1) := dk_29 (dk_at dksX0_mean_0 23 rfl rfl)
theorem dX0_mean_24 : decode cX0_mean 24 = .ok (.iaload, 1) := dk_46 (dk_at dksX0_mean_1 0 rfl rfl)
theorem dX0_mean_25 : decode cX0_mean 25 = .ok (.iadd, 1) := dk_96 (dk_at dksX0_mean_1 1 rfl rfl)
theorem dX0_mean_26 : decode cX0_mean 26 = .ok (.istore_n 2, 1) := dk_61 (dk_at dksX0_mean_1 2 rfl rfl)
theorem dX0_mean_27 : decode cX0_mean 27 = .ok (.iinc 3 1, 3) := dk_132 3 1 (dk_at dksX0_mean_1 3 rfl rfl)
theorem dX0_mean_30 : decode cX0_mean 30 = .ok (.goto (-26), 3) := dk_167 255 230 (dk_at dksX0_mean_1 6 rfl rfl)
theorem dX0_mean_33 : decode cX0_mean 33 = .ok (.iload_n 1, 1) := dk_27 (dk_at dksX0_mean_1 9 rfl rfl)
theorem dX0_mean_34 : decode cX0_mean 34 = .ok (.invokestatic 264, 3) := dk_184 1 8 (dk_at dksX0_mean_1 10 rfl rfl)
theorem dX0_mean_37 : decode cX0_mean 37 = .ok (.ifCond .eq 20, 3) := dk_153 0 20 (dk_at dksX0_mean_1 13 rfl rfl)
theorem dX0_mean_40 : decode cX0_mean 40 = .ok (.iload_n 2, 1) := dk_28 (dk_at dksX0_mean_1 16 rfl rfl)
theorem dX0_mean_41 : decode cX0_mean 41 = .ok (.i2l, 1) := dk_133 (dk_at dksX0_mean_1 17 rfl rfl)
theorem dX0_mean_42 : decode cX0_mean 42 = .ok (.aload_n 0, 1) := dk_42 (dk_at dksX0_mean_1 18 rfl rfl)
theorem dX0_mean_43 : decode cX0_mean 43 = .ok (.getfield 12, 3) := dk_180 0 12 (dk_at dksX0_mean_1 19 rfl rfl)
theorem dX0_mean_46 : decode cX0_mean 46 = .ok (.getfield 131, 3) := dk_180 0 131 (dk_at dksX0_mean_2 0 rfl rfl)
theorem dX0_mean_49 : decode cX0_mean 49 = .ok (.i2l, 1) := dk_133 (dk_at dksX0_mean_2 3 rfl rfl)
theorem dX0_mean_50 : decode cX0_mean 50 = .ok (.iload_n 1, 1) := dk_27 (dk_at dksX0_mean_2 4 rfl rfl)
theorem dX0_mean_51 : decode cX0_mean 51 = .ok (.invokestatic 487, 3) := dk_184 1 231 (dk_at dksX0_mean_2 5 rfl rfl)
theorem dX0_mean_54 : decode cX0_mean 54 = .ok (.goto 6, 3) := dk_167 0 6 (dk_at dksX0_mean_2 8 rfl rfl)
theorem dX0_mean_57 : decode cX0_mean 57 = .ok (.ldc2_w 232, 3) := dk_20 0 232 (dk_at dksX0_mean_2 11 rfl rfl)
theorem dX0_mean_60 : decode cX0_mean 60 = .ok (.lreturn, 1) := dk_173 (dk_at dksX0_mean_2 14 rfl rfl)
abbrev cX0_drawn : ByteArray := prog_1_method_60_code
def yX0_drawn : MethodName := ⟨RX0, "drawn", "(II)I"⟩
def dkwX0_drawn_4 : List UInt8 := [181, 0, 181, 132, 4, 1, 167, 255, 196, 42, 180, 0, 31, 45, 182, 1, 216, 172]
abbrev dktX0_drawn_4 : List UInt8 := dkwX0_drawn_4 ++ []
def dkwX0_drawn_3 : List UInt8 := [21, 6, 42, 16, 10, 182, 1, 240, 79, 132, 6, 1, 167, 255, 230, 25, 5, 42, 16, 60, 182, 1, 240]
abbrev dktX0_drawn_3 : List UInt8 := dkwX0_drawn_3 ++ dktX0_drawn_4
def dkwX0_drawn_2 : List UInt8 := [3, 182, 0, 161, 58, 5, 3, 54, 6, 21, 6, 45, 180, 0, 131, 162, 0, 23, 25, 5, 180, 0, 176]
abbrev dktX0_drawn_2 : List UInt8 := dkwX0_drawn_2 ++ dktX0_drawn_3
def dkwX0_drawn_1 : List UInt8 := [42, 180, 0, 12, 182, 1, 213, 78, 45, 3, 181, 0, 158, 3, 54, 4, 21, 4, 28, 162, 0, 60, 45, 3]
abbrev dktX0_drawn_1 : List UInt8 := dkwX0_drawn_1 ++ dktX0_drawn_2
def dkwX0_drawn_0 : List UInt8 := [28, 133, 10, 20, 1, 238, 184, 0, 127, 154, 0, 6, 16, 254, 172, 42, 27, 181, 1, 234, 42, 180, 0, 18]
abbrev dktX0_drawn_0 : List UInt8 := dkwX0_drawn_0 ++ dktX0_drawn_1
theorem dksX0_drawn_0 : cX0_drawn.data.toList.drop 0 = dktX0_drawn_0 := by decide +kernel
theorem dksX0_drawn_1 : cX0_drawn.data.toList.drop 24 = dktX0_drawn_1 := dk_seg dksX0_drawn_0 24 rfl rfl
theorem dksX0_drawn_2 : cX0_drawn.data.toList.drop 48 = dktX0_drawn_2 := dk_seg dksX0_drawn_1 24 rfl rfl
theorem dksX0_drawn_3 : cX0_drawn.data.toList.drop 71 = dktX0_drawn_3 := dk_seg dksX0_drawn_2 23 rfl rfl
theorem dksX0_drawn_4 : cX0_drawn.data.toList.drop 94 = dktX0_drawn_4 := dk_seg dksX0_drawn_3 23 rfl rfl
theorem dX0_drawn_0 : decode cX0_drawn 0 = .ok (.iload_n 2, 1) := dk_28 (dk_at dksX0_drawn_0 0 rfl rfl)
theorem dX0_drawn_1 : decode cX0_drawn 1 = .ok (.i2l, 1) := dk_133 (dk_at dksX0_drawn_0 1 rfl rfl)
theorem dX0_drawn_2 : decode cX0_drawn 2 = .ok (.lconst 1, 1) := dk_10 (dk_at dksX0_drawn_0 2 rfl rfl)
theorem dX0_drawn_3 : decode cX0_drawn 3 = .ok (.ldc2_w 494, 3) := dk_20 1 238 (dk_at dksX0_drawn_0 3 rfl rfl)
theorem dX0_drawn_6 : decode cX0_drawn 6 = .ok (.invokestatic 127, 3) := dk_184 0 127 (dk_at dksX0_drawn_0 6 rfl rfl)
theorem dX0_drawn_9 : decode cX0_drawn 9 = .ok (.ifCond .ne 6, 3) := dk_154 0 6 (dk_at dksX0_drawn_0 9 rfl rfl)
theorem dX0_drawn_12 : decode cX0_drawn 12 = .ok (.bipush (-2), 2) := dk_16 254 (dk_at dksX0_drawn_0 12 rfl rfl)
theorem dX0_drawn_14 : decode cX0_drawn 14 = .ok (.ireturn, 1) := dk_172 (dk_at dksX0_drawn_0 14 rfl rfl)
theorem dX0_drawn_15 : decode cX0_drawn 15 = .ok (.aload_n 0, 1) := dk_42 (dk_at dksX0_drawn_0 15 rfl rfl)
theorem dX0_drawn_16 : decode cX0_drawn 16 = .ok (.iload_n 1, 1) := dk_27 (dk_at dksX0_drawn_0 16 rfl rfl)
theorem dX0_drawn_17 : decode cX0_drawn 17 = .ok (.putfield 490, 3) := dk_181 1 234 (dk_at dksX0_drawn_0 17 rfl rfl)
theorem dX0_drawn_20 : decode cX0_drawn 20 = .ok (.aload_n 0, 1) := dk_42 (dk_at dksX0_drawn_0 20 rfl rfl)
theorem dX0_drawn_21 : decode cX0_drawn 21 = .ok (.getfield 18, 3) := dk_180 0 18 (dk_at dksX0_drawn_0 21 rfl rfl)
theorem dX0_drawn_24 : decode cX0_drawn 24 = .ok (.aload_n 0, 1) := dk_42 (dk_at dksX0_drawn_1 0 rfl rfl)
theorem dX0_drawn_25 : decode cX0_drawn 25 = .ok (.getfield 12, 3) := dk_180 0 12 (dk_at dksX0_drawn_1 1 rfl rfl)
theorem dX0_drawn_28 : decode cX0_drawn 28 = .ok (.invokevirtual 469, 3) := dk_182 1 213 (dk_at dksX0_drawn_1 4 rfl rfl)
theorem dX0_drawn_31 : decode cX0_drawn 31 = .ok (.astore_n 3, 1) := dk_78 (dk_at dksX0_drawn_1 7 rfl rfl)
theorem dX0_drawn_32 : decode cX0_drawn 32 = .ok (.aload_n 3, 1) := dk_45 (dk_at dksX0_drawn_1 8 rfl rfl)
theorem dX0_drawn_33 : decode cX0_drawn 33 = .ok (.iconst 0, 1) := dk_3 (dk_at dksX0_drawn_1 9 rfl rfl)
theorem dX0_drawn_34 : decode cX0_drawn 34 = .ok (.putfield 158, 3) := dk_181 0 158 (dk_at dksX0_drawn_1 10 rfl rfl)
theorem dX0_drawn_37 : decode cX0_drawn 37 = .ok (.iconst 0, 1) := dk_3 (dk_at dksX0_drawn_1 13 rfl rfl)
theorem dX0_drawn_38 : decode cX0_drawn 38 = .ok (.istore 4, 2) := dk_54 4 (dk_at dksX0_drawn_1 14 rfl rfl)
theorem dX0_drawn_40 : decode cX0_drawn 40 = .ok (.iload 4, 2) := dk_21 4 (dk_at dksX0_drawn_1 16 rfl rfl)
theorem dX0_drawn_42 : decode cX0_drawn 42 = .ok (.iload_n 2, 1) := dk_28 (dk_at dksX0_drawn_1 18 rfl rfl)
theorem dX0_drawn_43 : decode cX0_drawn 43 = .ok (.if_icmp .ge 60, 3) := dk_162 0 60 (dk_at dksX0_drawn_1 19 rfl rfl)
theorem dX0_drawn_46 : decode cX0_drawn 46 = .ok (.aload_n 3, 1) := dk_45 (dk_at dksX0_drawn_1 22 rfl rfl)
theorem dX0_drawn_47 : decode cX0_drawn 47 = .ok (.iconst 0, 1) := dk_3 (dk_at dksX0_drawn_1 23 rfl rfl)
theorem dX0_drawn_48 : decode cX0_drawn 48 = .ok (.iconst 0, 1) := dk_3 (dk_at dksX0_drawn_2 0 rfl rfl)
theorem dX0_drawn_49 : decode cX0_drawn 49 = .ok (.invokevirtual 161, 3) := dk_182 0 161 (dk_at dksX0_drawn_2 1 rfl rfl)
theorem dX0_drawn_52 : decode cX0_drawn 52 = .ok (.astore 5, 2) := dk_58 5 (dk_at dksX0_drawn_2 4 rfl rfl)
theorem dX0_drawn_54 : decode cX0_drawn 54 = .ok (.iconst 0, 1) := dk_3 (dk_at dksX0_drawn_2 6 rfl rfl)
theorem dX0_drawn_55 : decode cX0_drawn 55 = .ok (.istore 6, 2) := dk_54 6 (dk_at dksX0_drawn_2 7 rfl rfl)
theorem dX0_drawn_57 : decode cX0_drawn 57 = .ok (.iload 6, 2) := dk_21 6 (dk_at dksX0_drawn_2 9 rfl rfl)
theorem dX0_drawn_59 : decode cX0_drawn 59 = .ok (.aload_n 3, 1) := dk_45 (dk_at dksX0_drawn_2 11 rfl rfl)
theorem dX0_drawn_60 : decode cX0_drawn 60 = .ok (.getfield 131, 3) := dk_180 0 131 (dk_at dksX0_drawn_2 12 rfl rfl)
theorem dX0_drawn_63 : decode cX0_drawn 63 = .ok (.if_icmp .ge 23, 3) := dk_162 0 23 (dk_at dksX0_drawn_2 15 rfl rfl)
theorem dX0_drawn_66 : decode cX0_drawn 66 = .ok (.aload 5, 2) := dk_25 5 (dk_at dksX0_drawn_2 18 rfl rfl)
theorem dX0_drawn_68 : decode cX0_drawn 68 = .ok (.getfield 176, 3) := dk_180 0 176 (dk_at dksX0_drawn_2 20 rfl rfl)
theorem dX0_drawn_71 : decode cX0_drawn 71 = .ok (.iload 6, 2) := dk_21 6 (dk_at dksX0_drawn_3 0 rfl rfl)
theorem dX0_drawn_73 : decode cX0_drawn 73 = .ok (.aload_n 0, 1) := dk_42 (dk_at dksX0_drawn_3 2 rfl rfl)
theorem dX0_drawn_74 : decode cX0_drawn 74 = .ok (.bipush 10, 2) := dk_16 10 (dk_at dksX0_drawn_3 3 rfl rfl)
theorem dX0_drawn_76 : decode cX0_drawn 76 = .ok (.invokevirtual 496, 3) := dk_182 1 240 (dk_at dksX0_drawn_3 5 rfl rfl)
theorem dX0_drawn_79 : decode cX0_drawn 79 = .ok (.iastore, 1) := dk_79 (dk_at dksX0_drawn_3 8 rfl rfl)
theorem dX0_drawn_80 : decode cX0_drawn 80 = .ok (.iinc 6 1, 3) := dk_132 6 1 (dk_at dksX0_drawn_3 9 rfl rfl)
theorem dX0_drawn_83 : decode cX0_drawn 83 = .ok (.goto (-26), 3) := dk_167 255 230 (dk_at dksX0_drawn_3 12 rfl rfl)
theorem dX0_drawn_86 : decode cX0_drawn 86 = .ok (.aload 5, 2) := dk_25 5 (dk_at dksX0_drawn_3 15 rfl rfl)
theorem dX0_drawn_88 : decode cX0_drawn 88 = .ok (.aload_n 0, 1) := dk_42 (dk_at dksX0_drawn_3 17 rfl rfl)
theorem dX0_drawn_89 : decode cX0_drawn 89 = .ok (.bipush 60, 2) := dk_16 60 (dk_at dksX0_drawn_3 18 rfl rfl)
theorem dX0_drawn_91 : decode cX0_drawn 91 = .ok (.invokevirtual 496, 3) := dk_182 1 240 (dk_at dksX0_drawn_3 20 rfl rfl)
theorem dX0_drawn_94 : decode cX0_drawn 94 = .ok (.putfield 181, 3) := dk_181 0 181 (dk_at dksX0_drawn_4 0 rfl rfl)
theorem dX0_drawn_97 : decode cX0_drawn 97 = .ok (.iinc 4 1, 3) := dk_132 4 1 (dk_at dksX0_drawn_4 3 rfl rfl)
theorem dX0_drawn_100 : decode cX0_drawn 100 = .ok (.goto (-60), 3) := dk_167 255 196 (dk_at dksX0_drawn_4 6 rfl rfl)
theorem dX0_drawn_103 : decode cX0_drawn 103 = .ok (.aload_n 0, 1) := dk_42 (dk_at dksX0_drawn_4 9 rfl rfl)
theorem dX0_drawn_104 : decode cX0_drawn 104 = .ok (.getfield 31, 3) := dk_180 0 31 (dk_at dksX0_drawn_4 10 rfl rfl)
theorem dX0_drawn_107 : decode cX0_drawn 107 = .ok (.aload_n 3, 1) := dk_45 (dk_at dksX0_drawn_4 13 rfl rfl)
theorem dX0_drawn_108 : decode cX0_drawn 108 = .ok (.invokevirtual 472, 3) := dk_182 1 216 (dk_at dksX0_drawn_4 14 rfl rfl)
theorem dX0_drawn_111 : decode cX0_drawn 111 = .ok (.ireturn, 1) := dk_172 (dk_at dksX0_drawn_4 17 rfl rfl)
abbrev cX0_draw : ByteArray := prog_1_method_59_code
def yX0_draw : MethodName := ⟨RX0, "draw", "(I)I"⟩
def dkwX0_draw_1 : List UInt8 := [112, 172]
abbrev dktX0_draw_1 : List UInt8 := dkwX0_draw_1 ++ []
def dkwX0_draw_0 : List UInt8 := [42, 42, 180, 1, 234, 19, 1, 237, 104, 17, 48, 57, 96, 181, 1, 234, 42, 180, 1, 234, 16, 9, 124, 27]
abbrev dktX0_draw_0 : List UInt8 := dkwX0_draw_0 ++ dktX0_draw_1
theorem dksX0_draw_0 : cX0_draw.data.toList.drop 0 = dktX0_draw_0 := by decide +kernel
theorem dksX0_draw_1 : cX0_draw.data.toList.drop 24 = dktX0_draw_1 := dk_seg dksX0_draw_0 24 rfl rfl
theorem dX0_draw_0 : decode cX0_draw 0 = .ok (.aload_n 0, 1) := dk_42 (dk_at dksX0_draw_0 0 rfl rfl)
theorem dX0_draw_1 : decode cX0_draw 1 = .ok (.aload_n 0, 1) := dk_42 (dk_at dksX0_draw_0 1 rfl rfl)
theorem dX0_draw_2 : decode cX0_draw 2 = .ok (.getfield 490, 3) := dk_180 1 234 (dk_at dksX0_draw_0 2 rfl rfl)
theorem dX0_draw_5 : decode cX0_draw 5 = .ok (.ldc_w 493, 3) := dk_19 1 237 (dk_at dksX0_draw_0 5 rfl rfl)
theorem dX0_draw_8 : decode cX0_draw 8 = .ok (.imul, 1) := dk_104 (dk_at dksX0_draw_0 8 rfl rfl)
theorem dX0_draw_9 : decode cX0_draw 9 = .ok (.sipush 12345, 3) := dk_17 48 57 (dk_at dksX0_draw_0 9 rfl rfl)
theorem dX0_draw_12 : decode cX0_draw 12 = .ok (.iadd, 1) := dk_96 (dk_at dksX0_draw_0 12 rfl rfl)
theorem dX0_draw_13 : decode cX0_draw 13 = .ok (.putfield 490, 3) := dk_181 1 234 (dk_at dksX0_draw_0 13 rfl rfl)
theorem dX0_draw_16 : decode cX0_draw 16 = .ok (.aload_n 0, 1) := dk_42 (dk_at dksX0_draw_0 16 rfl rfl)
theorem dX0_draw_17 : decode cX0_draw 17 = .ok (.getfield 490, 3) := dk_180 1 234 (dk_at dksX0_draw_0 17 rfl rfl)
theorem dX0_draw_20 : decode cX0_draw 20 = .ok (.bipush 9, 2) := dk_16 9 (dk_at dksX0_draw_0 20 rfl rfl)
theorem dX0_draw_22 : decode cX0_draw 22 = .ok (.iushr, 1) := dk_124 (dk_at dksX0_draw_0 22 rfl rfl)
theorem dX0_draw_23 : decode cX0_draw 23 = .ok (.iload_n 1, 1) := dk_27 (dk_at dksX0_draw_0 23 rfl rfl)
theorem dX0_draw_24 : decode cX0_draw 24 = .ok (.irem, 1) := dk_112 (dk_at dksX0_draw_1 0 rfl rfl)
theorem dX0_draw_25 : decode cX0_draw 25 = .ok (.ireturn, 1) := dk_172 (dk_at dksX0_draw_1 1 rfl rfl)
abbrev cX0_offer : ByteArray := prog_1_method_61_code
def yX0_offer : MethodName := ⟨RX0, "offer", "(II)I"⟩
def dkwX0_offer_4 : List UInt8 := [167, 0, 8, 25, 4, 180, 2, 2, 172]
abbrev dktX0_offer_4 : List UInt8 := dkwX0_offer_4 ++ []
def dkwX0_offer_3 : List UInt8 := [187, 1, 251, 89, 28, 183, 1, 253, 182, 1, 254, 192, 1, 251, 58, 4, 25, 4, 199, 0, 8, 16, 251]
abbrev dktX0_offer_3 : List UInt8 := dkwX0_offer_3 ++ dktX0_offer_4
def dkwX0_offer_2 : List UInt8 := [16, 20, 160, 0, 17, 42, 180, 0, 37, 45, 182, 1, 248, 154, 0, 6, 16, 252, 172, 42, 180, 0, 37, 45]
abbrev dktX0_offer_2 : List UInt8 := dkwX0_offer_2 ++ dktX0_offer_3
def dkwX0_offer_1 : List UInt8 := [187, 1, 243, 89, 42, 42, 180, 0, 82, 182, 1, 94, 27, 183, 1, 245, 78, 42, 180, 0, 37, 182, 1, 247]
abbrev dktX0_offer_1 : List UInt8 := dkwX0_offer_1 ++ dktX0_offer_2
def dkwX0_offer_0 : List UInt8 := [42, 27, 182, 1, 137, 153, 0, 15, 28, 133, 9, 20, 0, 156, 184, 0, 127, 154, 0, 6, 16, 254, 172]
abbrev dktX0_offer_0 : List UInt8 := dkwX0_offer_0 ++ dktX0_offer_1
theorem dksX0_offer_0 : cX0_offer.data.toList.drop 0 = dktX0_offer_0 := by decide +kernel
theorem dksX0_offer_1 : cX0_offer.data.toList.drop 23 = dktX0_offer_1 := dk_seg dksX0_offer_0 23 rfl rfl
theorem dksX0_offer_2 : cX0_offer.data.toList.drop 47 = dktX0_offer_2 := dk_seg dksX0_offer_1 24 rfl rfl
theorem dksX0_offer_3 : cX0_offer.data.toList.drop 71 = dktX0_offer_3 := dk_seg dksX0_offer_2 24 rfl rfl
theorem dksX0_offer_4 : cX0_offer.data.toList.drop 94 = dktX0_offer_4 := dk_seg dksX0_offer_3 23 rfl rfl
theorem dX0_offer_0 : decode cX0_offer 0 = .ok (.aload_n 0, 1) := dk_42 (dk_at dksX0_offer_0 0 rfl rfl)
theorem dX0_offer_1 : decode cX0_offer 1 = .ok (.iload_n 1, 1) := dk_27 (dk_at dksX0_offer_0 1 rfl rfl)
theorem dX0_offer_2 : decode cX0_offer 2 = .ok (.invokevirtual 393, 3) := dk_182 1 137 (dk_at dksX0_offer_0 2 rfl rfl)
theorem dX0_offer_5 : decode cX0_offer 5 = .ok (.ifCond .eq 15, 3) := dk_153 0 15 (dk_at dksX0_offer_0 5 rfl rfl)
theorem dX0_offer_8 : decode cX0_offer 8 = .ok (.iload_n 2, 1) := dk_28 (dk_at dksX0_offer_0 8 rfl rfl)
theorem dX0_offer_9 : decode cX0_offer 9 = .ok (.i2l, 1) := dk_133 (dk_at dksX0_offer_0 9 rfl rfl)
theorem dX0_offer_10 : decode cX0_offer 10 = .ok (.lconst 0, 1) := dk_9 (dk_at dksX0_offer_0 10 rfl rfl)
theorem dX0_offer_11 : decode cX0_offer 11 = .ok (.ldc2_w 156, 3) := dk_20 0 156 (dk_at dksX0_offer_0 11 rfl rfl)
theorem dX0_offer_14 : decode cX0_offer 14 = .ok (.invokestatic 127, 3) := dk_184 0 127 (dk_at dksX0_offer_0 14 rfl rfl)
theorem dX0_offer_17 : decode cX0_offer 17 = .ok (.ifCond .ne 6, 3) := dk_154 0 6 (dk_at dksX0_offer_0 17 rfl rfl)
theorem dX0_offer_20 : decode cX0_offer 20 = .ok (.bipush (-2), 2) := dk_16 254 (dk_at dksX0_offer_0 20 rfl rfl)
theorem dX0_offer_22 : decode cX0_offer 22 = .ok (.ireturn, 1) := dk_172 (dk_at dksX0_offer_0 22 rfl rfl)
theorem dX0_offer_23 : decode cX0_offer 23 = .ok (.new 499, 3) := dk_187 1 243 (dk_at dksX0_offer_1 0 rfl rfl)
theorem dX0_offer_26 : decode cX0_offer 26 = .ok (.dup, 1) := dk_89 (dk_at dksX0_offer_1 3 rfl rfl)
theorem dX0_offer_27 : decode cX0_offer 27 = .ok (.aload_n 0, 1) := dk_42 (dk_at dksX0_offer_1 4 rfl rfl)
theorem dX0_offer_28 : decode cX0_offer 28 = .ok (.aload_n 0, 1) := dk_42 (dk_at dksX0_offer_1 5 rfl rfl)
theorem dX0_offer_29 : decode cX0_offer 29 = .ok (.getfield 82, 3) := dk_180 0 82 (dk_at dksX0_offer_1 6 rfl rfl)
theorem dX0_offer_32 : decode cX0_offer 32 = .ok (.invokevirtual 350, 3) := dk_182 1 94 (dk_at dksX0_offer_1 9 rfl rfl)
theorem dX0_offer_35 : decode cX0_offer 35 = .ok (.iload_n 1, 1) := dk_27 (dk_at dksX0_offer_1 12 rfl rfl)
theorem dX0_offer_36 : decode cX0_offer 36 = .ok (.invokespecial 501, 3) := dk_183 1 245 (dk_at dksX0_offer_1 13 rfl rfl)
theorem dX0_offer_39 : decode cX0_offer 39 = .ok (.astore_n 3, 1) := dk_78 (dk_at dksX0_offer_1 16 rfl rfl)
theorem dX0_offer_40 : decode cX0_offer 40 = .ok (.aload_n 0, 1) := dk_42 (dk_at dksX0_offer_1 17 rfl rfl)
theorem dX0_offer_41 : decode cX0_offer 41 = .ok (.getfield 37, 3) := dk_180 0 37 (dk_at dksX0_offer_1 18 rfl rfl)
theorem dX0_offer_44 : decode cX0_offer 44 = .ok (.invokevirtual 503, 3) := dk_182 1 247 (dk_at dksX0_offer_1 21 rfl rfl)
theorem dX0_offer_47 : decode cX0_offer 47 = .ok (.bipush 20, 2) := dk_16 20 (dk_at dksX0_offer_2 0 rfl rfl)
theorem dX0_offer_49 : decode cX0_offer 49 = .ok (.if_icmp .ne 17, 3) := dk_160 0 17 (dk_at dksX0_offer_2 2 rfl rfl)
theorem dX0_offer_52 : decode cX0_offer 52 = .ok (.aload_n 0, 1) := dk_42 (dk_at dksX0_offer_2 5 rfl rfl)
theorem dX0_offer_53 : decode cX0_offer 53 = .ok (.getfield 37, 3) := dk_180 0 37 (dk_at dksX0_offer_2 6 rfl rfl)
theorem dX0_offer_56 : decode cX0_offer 56 = .ok (.aload_n 3, 1) := dk_45 (dk_at dksX0_offer_2 9 rfl rfl)
theorem dX0_offer_57 : decode cX0_offer 57 = .ok (.invokevirtual 504, 3) := dk_182 1 248 (dk_at dksX0_offer_2 10 rfl rfl)
theorem dX0_offer_60 : decode cX0_offer 60 = .ok (.ifCond .ne 6, 3) := dk_154 0 6 (dk_at dksX0_offer_2 13 rfl rfl)
theorem dX0_offer_63 : decode cX0_offer 63 = .ok (.bipush (-4), 2) := dk_16 252 (dk_at dksX0_offer_2 16 rfl rfl)
theorem dX0_offer_65 : decode cX0_offer 65 = .ok (.ireturn, 1) := dk_172 (dk_at dksX0_offer_2 18 rfl rfl)
theorem dX0_offer_66 : decode cX0_offer 66 = .ok (.aload_n 0, 1) := dk_42 (dk_at dksX0_offer_2 19 rfl rfl)
theorem dX0_offer_67 : decode cX0_offer 67 = .ok (.getfield 37, 3) := dk_180 0 37 (dk_at dksX0_offer_2 20 rfl rfl)
theorem dX0_offer_70 : decode cX0_offer 70 = .ok (.aload_n 3, 1) := dk_45 (dk_at dksX0_offer_2 23 rfl rfl)
theorem dX0_offer_71 : decode cX0_offer 71 = .ok (.new 507, 3) := dk_187 1 251 (dk_at dksX0_offer_3 0 rfl rfl)
theorem dX0_offer_74 : decode cX0_offer 74 = .ok (.dup, 1) := dk_89 (dk_at dksX0_offer_3 3 rfl rfl)
theorem dX0_offer_75 : decode cX0_offer 75 = .ok (.iload_n 2, 1) := dk_28 (dk_at dksX0_offer_3 4 rfl rfl)
theorem dX0_offer_76 : decode cX0_offer 76 = .ok (.invokespecial 509, 3) := dk_183 1 253 (dk_at dksX0_offer_3 5 rfl rfl)
theorem dX0_offer_79 : decode cX0_offer 79 = .ok (.invokevirtual 510, 3) := dk_182 1 254 (dk_at dksX0_offer_3 8 rfl rfl)
theorem dX0_offer_82 : decode cX0_offer 82 = .ok (.checkcast 507, 3) := dk_192 1 251 (dk_at dksX0_offer_3 11 rfl rfl)
theorem dX0_offer_85 : decode cX0_offer 85 = .ok (.astore 4, 2) := dk_58 4 (dk_at dksX0_offer_3 14 rfl rfl)
theorem dX0_offer_87 : decode cX0_offer 87 = .ok (.aload 4, 2) := dk_25 4 (dk_at dksX0_offer_3 16 rfl rfl)
theorem dX0_offer_89 : decode cX0_offer 89 = .ok (.ifnonnull 8, 3) := dk_199 0 8 (dk_at dksX0_offer_3 18 rfl rfl)
theorem dX0_offer_92 : decode cX0_offer 92 = .ok (.bipush (-5), 2) := dk_16 251 (dk_at dksX0_offer_3 21 rfl rfl)
theorem dX0_offer_94 : decode cX0_offer 94 = .ok (.goto 8, 3) := dk_167 0 8 (dk_at dksX0_offer_4 0 rfl rfl)
theorem dX0_offer_97 : decode cX0_offer 97 = .ok (.aload 4, 2) := dk_25 4 (dk_at dksX0_offer_4 3 rfl rfl)
theorem dX0_offer_99 : decode cX0_offer 99 = .ok (.getfield 514, 3) := dk_180 2 2 (dk_at dksX0_offer_4 5 rfl rfl)
theorem dX0_offer_102 : decode cX0_offer 102 = .ok (.ireturn, 1) := dk_172 (dk_at dksX0_offer_4 8 rfl rfl)
abbrev cX0_offered : ByteArray := prog_1_method_62_code
def yX0_offered : MethodName := ⟨RX0, "offered", "(II)I"⟩
def dkwX0_offered_4 : List UInt8 := [182, 2, 15, 192, 1, 251, 180, 2, 2, 167, 0, 7, 45, 180, 2, 18, 172]
abbrev dktX0_offered_4 : List UInt8 := dkwX0_offered_4 ++ []
def dkwX0_offered_3 : List UInt8 := [167, 255, 235, 28, 154, 0, 10, 45, 180, 2, 14, 167, 0, 29, 28, 4, 160, 0, 20, 42, 180, 0, 37, 45]
abbrev dktX0_offered_3 : List UInt8 := dkwX0_offered_3 ++ dktX0_offered_4
def dkwX0_offered_2 : List UInt8 := [54, 4, 21, 4, 27, 162, 0, 21, 42, 180, 0, 37, 45, 182, 2, 10, 192, 1, 243, 78, 132, 4, 1]
abbrev dktX0_offered_2 : List UInt8 := dkwX0_offered_2 ++ dktX0_offered_3
def dkwX0_offered_1 : List UInt8 := [4, 100, 133, 184, 0, 127, 154, 0, 6, 16, 254, 172, 42, 180, 0, 37, 182, 2, 7, 192, 1, 243, 78, 3]
abbrev dktX0_offered_1 : List UInt8 := dkwX0_offered_1 ++ dktX0_offered_2
def dkwX0_offered_0 : List UInt8 := [28, 133, 9, 20, 2, 5, 184, 0, 127, 154, 0, 5, 2, 172, 27, 133, 9, 42, 180, 0, 37, 182, 1, 247]
abbrev dktX0_offered_0 : List UInt8 := dkwX0_offered_0 ++ dktX0_offered_1
theorem dksX0_offered_0 : cX0_offered.data.toList.drop 0 = dktX0_offered_0 := by decide +kernel
theorem dksX0_offered_1 : cX0_offered.data.toList.drop 24 = dktX0_offered_1 := dk_seg dksX0_offered_0 24 rfl rfl
theorem dksX0_offered_2 : cX0_offered.data.toList.drop 48 = dktX0_offered_2 := dk_seg dksX0_offered_1 24 rfl rfl
theorem dksX0_offered_3 : cX0_offered.data.toList.drop 71 = dktX0_offered_3 := dk_seg dksX0_offered_2 23 rfl rfl
theorem dksX0_offered_4 : cX0_offered.data.toList.drop 95 = dktX0_offered_4 := dk_seg dksX0_offered_3 24 rfl rfl
theorem dX0_offered_0 : decode cX0_offered 0 = .ok (.iload_n 2, 1) := dk_28 (dk_at dksX0_offered_0 0 rfl rfl)
theorem dX0_offered_1 : decode cX0_offered 1 = .ok (.i2l, 1) := dk_133 (dk_at dksX0_offered_0 1 rfl rfl)
theorem dX0_offered_2 : decode cX0_offered 2 = .ok (.lconst 0, 1) := dk_9 (dk_at dksX0_offered_0 2 rfl rfl)
theorem dX0_offered_3 : decode cX0_offered 3 = .ok (.ldc2_w 517, 3) := dk_20 2 5 (dk_at dksX0_offered_0 3 rfl rfl)
theorem dX0_offered_6 : decode cX0_offered 6 = .ok (.invokestatic 127, 3) := dk_184 0 127 (dk_at dksX0_offered_0 6 rfl rfl)
theorem dX0_offered_9 : decode cX0_offered 9 = .ok (.ifCond .ne 5, 3) := dk_154 0 5 (dk_at dksX0_offered_0 9 rfl rfl)
theorem dX0_offered_12 : decode cX0_offered 12 = .ok (.iconst (-1), 1) := dk_2 (dk_at dksX0_offered_0 12 rfl rfl)
theorem dX0_offered_13 : decode cX0_offered 13 = .ok (.ireturn, 1) := dk_172 (dk_at dksX0_offered_0 13 rfl rfl)
theorem dX0_offered_14 : decode cX0_offered 14 = .ok (.iload_n 1, 1) := dk_27 (dk_at dksX0_offered_0 14 rfl rfl)
theorem dX0_offered_15 : decode cX0_offered 15 = .ok (.i2l, 1) := dk_133 (dk_at dksX0_offered_0 15 rfl rfl)
theorem dX0_offered_16 : decode cX0_offered 16 = .ok (.lconst 0, 1) := dk_9 (dk_at dksX0_offered_0 16 rfl rfl)
theorem dX0_offered_17 : decode cX0_offered 17 = .ok (.aload_n 0, 1) := dk_42 (dk_at dksX0_offered_0 17 rfl rfl)
theorem dX0_offered_18 : decode cX0_offered 18 = .ok (.getfield 37, 3) := dk_180 0 37 (dk_at dksX0_offered_0 18 rfl rfl)
theorem dX0_offered_21 : decode cX0_offered 21 = .ok (.invokevirtual 503, 3) := dk_182 1 247 (dk_at dksX0_offered_0 21 rfl rfl)
theorem dX0_offered_24 : decode cX0_offered 24 = .ok (.iconst 1, 1) := dk_4 (dk_at dksX0_offered_1 0 rfl rfl)
theorem dX0_offered_25 : decode cX0_offered 25 = .ok (.isub, 1) := dk_100 (dk_at dksX0_offered_1 1 rfl rfl)
theorem dX0_offered_26 : decode cX0_offered 26 = .ok (.i2l, 1) := dk_133 (dk_at dksX0_offered_1 2 rfl rfl)
theorem dX0_offered_27 : decode cX0_offered 27 = .ok (.invokestatic 127, 3) := dk_184 0 127 (dk_at dksX0_offered_1 3 rfl rfl)
theorem dX0_offered_30 : decode cX0_offered 30 = .ok (.ifCond .ne 6, 3) := dk_154 0 6 (dk_at dksX0_offered_1 6 rfl rfl)
theorem dX0_offered_33 : decode cX0_offered 33 = .ok (.bipush (-2), 2) := dk_16 254 (dk_at dksX0_offered_1 9 rfl rfl)
theorem dX0_offered_35 : decode cX0_offered 35 = .ok (.ireturn, 1) := dk_172 (dk_at dksX0_offered_1 11 rfl rfl)
theorem dX0_offered_36 : decode cX0_offered 36 = .ok (.aload_n 0, 1) := dk_42 (dk_at dksX0_offered_1 12 rfl rfl)
theorem dX0_offered_37 : decode cX0_offered 37 = .ok (.getfield 37, 3) := dk_180 0 37 (dk_at dksX0_offered_1 13 rfl rfl)
theorem dX0_offered_40 : decode cX0_offered 40 = .ok (.invokevirtual 519, 3) := dk_182 2 7 (dk_at dksX0_offered_1 16 rfl rfl)
theorem dX0_offered_43 : decode cX0_offered 43 = .ok (.checkcast 499, 3) := dk_192 1 243 (dk_at dksX0_offered_1 19 rfl rfl)
theorem dX0_offered_46 : decode cX0_offered 46 = .ok (.astore_n 3, 1) := dk_78 (dk_at dksX0_offered_1 22 rfl rfl)
theorem dX0_offered_47 : decode cX0_offered 47 = .ok (.iconst 0, 1) := dk_3 (dk_at dksX0_offered_1 23 rfl rfl)
theorem dX0_offered_48 : decode cX0_offered 48 = .ok (.istore 4, 2) := dk_54 4 (dk_at dksX0_offered_2 0 rfl rfl)
theorem dX0_offered_50 : decode cX0_offered 50 = .ok (.iload 4, 2) := dk_21 4 (dk_at dksX0_offered_2 2 rfl rfl)
theorem dX0_offered_52 : decode cX0_offered 52 = .ok (.iload_n 1, 1) := dk_27 (dk_at dksX0_offered_2 4 rfl rfl)
theorem dX0_offered_53 : decode cX0_offered 53 = .ok (.if_icmp .ge 21, 3) := dk_162 0 21 (dk_at dksX0_offered_2 5 rfl rfl)
theorem dX0_offered_56 : decode cX0_offered 56 = .ok (.aload_n 0, 1) := dk_42 (dk_at dksX0_offered_2 8 rfl rfl)
theorem dX0_offered_57 : decode cX0_offered 57 = .ok (.getfield 37, 3) := dk_180 0 37 (dk_at dksX0_offered_2 9 rfl rfl)
theorem dX0_offered_60 : decode cX0_offered 60 = .ok (.aload_n 3, 1) := dk_45 (dk_at dksX0_offered_2 12 rfl rfl)
theorem dX0_offered_61 : decode cX0_offered 61 = .ok (.invokevirtual 522, 3) := dk_182 2 10 (dk_at dksX0_offered_2 13 rfl rfl)
theorem dX0_offered_64 : decode cX0_offered 64 = .ok (.checkcast 499, 3) := dk_192 1 243 (dk_at dksX0_offered_2 16 rfl rfl)
theorem dX0_offered_67 : decode cX0_offered 67 = .ok (.astore_n 3, 1) := dk_78 (dk_at dksX0_offered_2 19 rfl rfl)
theorem dX0_offered_68 : decode cX0_offered 68 = .ok (.iinc 4 1, 3) := dk_132 4 1 (dk_at dksX0_offered_2 20 rfl rfl)
theorem dX0_offered_71 : decode cX0_offered 71 = .ok (.goto (-21), 3) := dk_167 255 235 (dk_at dksX0_offered_3 0 rfl rfl)
theorem dX0_offered_74 : decode cX0_offered 74 = .ok (.iload_n 2, 1) := dk_28 (dk_at dksX0_offered_3 3 rfl rfl)
theorem dX0_offered_75 : decode cX0_offered 75 = .ok (.ifCond .ne 10, 3) := dk_154 0 10 (dk_at dksX0_offered_3 4 rfl rfl)
theorem dX0_offered_78 : decode cX0_offered 78 = .ok (.aload_n 3, 1) := dk_45 (dk_at dksX0_offered_3 7 rfl rfl)
theorem dX0_offered_79 : decode cX0_offered 79 = .ok (.getfield 526, 3) := dk_180 2 14 (dk_at dksX0_offered_3 8 rfl rfl)
theorem dX0_offered_82 : decode cX0_offered 82 = .ok (.goto 29, 3) := dk_167 0 29 (dk_at dksX0_offered_3 11 rfl rfl)
theorem dX0_offered_85 : decode cX0_offered 85 = .ok (.iload_n 2, 1) := dk_28 (dk_at dksX0_offered_3 14 rfl rfl)
theorem dX0_offered_86 : decode cX0_offered 86 = .ok (.iconst 1, 1) := dk_4 (dk_at dksX0_offered_3 15 rfl rfl)
theorem dX0_offered_87 : decode cX0_offered 87 = .ok (.if_icmp .ne 20, 3) := dk_160 0 20 (dk_at dksX0_offered_3 16 rfl rfl)
theorem dX0_offered_90 : decode cX0_offered 90 = .ok (.aload_n 0, 1) := dk_42 (dk_at dksX0_offered_3 19 rfl rfl)
theorem dX0_offered_91 : decode cX0_offered 91 = .ok (.getfield 37, 3) := dk_180 0 37 (dk_at dksX0_offered_3 20 rfl rfl)
theorem dX0_offered_94 : decode cX0_offered 94 = .ok (.aload_n 3, 1) := dk_45 (dk_at dksX0_offered_3 23 rfl rfl)
theorem dX0_offered_95 : decode cX0_offered 95 = .ok (.invokevirtual 527, 3) := dk_182 2 15 (dk_at dksX0_offered_4 0 rfl rfl)
theorem dX0_offered_98 : decode cX0_offered 98 = .ok (.checkcast 507, 3) := dk_192 1 251 (dk_at dksX0_offered_4 3 rfl rfl)
theorem dX0_offered_101 : decode cX0_offered 101 = .ok (.getfield 514, 3) := dk_180 2 2 (dk_at dksX0_offered_4 6 rfl rfl)
theorem dX0_offered_104 : decode cX0_offered 104 = .ok (.goto 7, 3) := dk_167 0 7 (dk_at dksX0_offered_4 9 rfl rfl)
theorem dX0_offered_107 : decode cX0_offered 107 = .ok (.aload_n 3, 1) := dk_45 (dk_at dksX0_offered_4 12 rfl rfl)
theorem dX0_offered_108 : decode cX0_offered 108 = .ok (.getfield 530, 3) := dk_180 2 18 (dk_at dksX0_offered_4 13 rfl rfl)
theorem dX0_offered_111 : decode cX0_offered 111 = .ok (.ireturn, 1) := dk_172 (dk_at dksX0_offered_4 16 rfl rfl)
abbrev cX0_upTo : ByteArray := prog_1_method_63_code
def yX0_upTo : MethodName := ⟨RX0, "upTo", "(I)I"⟩
def dkwX0_upTo_1 : List UInt8 := [199, 0, 8, 16, 251, 167, 0, 7, 44, 180, 2, 14, 172]
abbrev dktX0_upTo_1 : List UInt8 := dkwX0_upTo_1 ++ []
def dkwX0_upTo_0 : List UInt8 := [42, 180, 0, 37, 187, 1, 243, 89, 27, 19, 2, 21, 183, 1, 245, 182, 2, 22, 192, 1, 243, 77, 44]
abbrev dktX0_upTo_0 : List UInt8 := dkwX0_upTo_0 ++ dktX0_upTo_1
theorem dksX0_upTo_0 : cX0_upTo.data.toList.drop 0 = dktX0_upTo_0 := by decide +kernel
theorem dksX0_upTo_1 : cX0_upTo.data.toList.drop 23 = dktX0_upTo_1 := dk_seg dksX0_upTo_0 23 rfl rfl
theorem dX0_upTo_0 : decode cX0_upTo 0 = .ok (.aload_n 0, 1) := dk_42 (dk_at dksX0_upTo_0 0 rfl rfl)
theorem dX0_upTo_1 : decode cX0_upTo 1 = .ok (.getfield 37, 3) := dk_180 0 37 (dk_at dksX0_upTo_0 1 rfl rfl)
theorem dX0_upTo_4 : decode cX0_upTo 4 = .ok (.new 499, 3) := dk_187 1 243 (dk_at dksX0_upTo_0 4 rfl rfl)
theorem dX0_upTo_7 : decode cX0_upTo 7 = .ok (.dup, 1) := dk_89 (dk_at dksX0_upTo_0 7 rfl rfl)
theorem dX0_upTo_8 : decode cX0_upTo 8 = .ok (.iload_n 1, 1) := dk_27 (dk_at dksX0_upTo_0 8 rfl rfl)
theorem dX0_upTo_9 : decode cX0_upTo 9 = .ok (.ldc_w 533, 3) := dk_19 2 21 (dk_at dksX0_upTo_0 9 rfl rfl)
theorem dX0_upTo_12 : decode cX0_upTo 12 = .ok (.invokespecial 501, 3) := dk_183 1 245 (dk_at dksX0_upTo_0 12 rfl rfl)
theorem dX0_upTo_15 : decode cX0_upTo 15 = .ok (.invokevirtual 534, 3) := dk_182 2 22 (dk_at dksX0_upTo_0 15 rfl rfl)
theorem dX0_upTo_18 : decode cX0_upTo 18 = .ok (.checkcast 499, 3) := dk_192 1 243 (dk_at dksX0_upTo_0 18 rfl rfl)
theorem dX0_upTo_21 : decode cX0_upTo 21 = .ok (.astore_n 2, 1) := dk_77 (dk_at dksX0_upTo_0 21 rfl rfl)
theorem dX0_upTo_22 : decode cX0_upTo 22 = .ok (.aload_n 2, 1) := dk_44 (dk_at dksX0_upTo_0 22 rfl rfl)
theorem dX0_upTo_23 : decode cX0_upTo 23 = .ok (.ifnonnull 8, 3) := dk_199 0 8 (dk_at dksX0_upTo_1 0 rfl rfl)
theorem dX0_upTo_26 : decode cX0_upTo 26 = .ok (.bipush (-5), 2) := dk_16 251 (dk_at dksX0_upTo_1 3 rfl rfl)
theorem dX0_upTo_28 : decode cX0_upTo 28 = .ok (.goto 7, 3) := dk_167 0 7 (dk_at dksX0_upTo_1 5 rfl rfl)
theorem dX0_upTo_31 : decode cX0_upTo 31 = .ok (.aload_n 2, 1) := dk_44 (dk_at dksX0_upTo_1 8 rfl rfl)
theorem dX0_upTo_32 : decode cX0_upTo 32 = .ok (.getfield 526, 3) := dk_180 2 14 (dk_at dksX0_upTo_1 9 rfl rfl)
theorem dX0_upTo_35 : decode cX0_upTo 35 = .ok (.ireturn, 1) := dk_172 (dk_at dksX0_upTo_1 12 rfl rfl)
abbrev cX0_dearest : ByteArray := prog_1_method_64_code
def yX0_dearest : MethodName := ⟨RX0, "dearest", "()I"⟩
def dkwX0_dearest_3 : List UInt8 := [25, 4, 76, 21, 5, 61, 167, 255, 197, 43, 199, 0, 8, 16, 251, 167, 0, 7, 43, 180, 2, 14, 172]
abbrev dktX0_dearest_3 : List UInt8 := dkwX0_dearest_3 ++ []
def dkwX0_dearest_2 : List UInt8 := [192, 1, 251, 180, 2, 2, 25, 4, 180, 2, 18, 100, 54, 5, 43, 198, 0, 9, 21, 5, 28, 164, 0, 9]
abbrev dktX0_dearest_2 : List UInt8 := dkwX0_dearest_2 ++ dktX0_dearest_3
def dkwX0_dearest_1 : List UInt8 := [153, 0, 56, 45, 185, 2, 40, 1, 0, 192, 1, 243, 58, 4, 42, 180, 0, 37, 25, 4, 182, 2, 15]
abbrev dktX0_dearest_1 : List UInt8 := dkwX0_dearest_1 ++ dktX0_dearest_2
def dkwX0_dearest_0 : List UInt8 := [1, 76, 3, 61, 42, 180, 0, 37, 182, 2, 25, 185, 2, 29, 1, 0, 78, 45, 185, 2, 35, 1, 0]
abbrev dktX0_dearest_0 : List UInt8 := dkwX0_dearest_0 ++ dktX0_dearest_1
theorem dksX0_dearest_0 : cX0_dearest.data.toList.drop 0 = dktX0_dearest_0 := by decide +kernel
theorem dksX0_dearest_1 : cX0_dearest.data.toList.drop 23 = dktX0_dearest_1 := dk_seg dksX0_dearest_0 23 rfl rfl
theorem dksX0_dearest_2 : cX0_dearest.data.toList.drop 46 = dktX0_dearest_2 := dk_seg dksX0_dearest_1 23 rfl rfl
theorem dksX0_dearest_3 : cX0_dearest.data.toList.drop 70 = dktX0_dearest_3 := dk_seg dksX0_dearest_2 24 rfl rfl
theorem dX0_dearest_0 : decode cX0_dearest 0 = .ok (.aconst_null, 1) := dk_1 (dk_at dksX0_dearest_0 0 rfl rfl)
theorem dX0_dearest_1 : decode cX0_dearest 1 = .ok (.astore_n 1, 1) := dk_76 (dk_at dksX0_dearest_0 1 rfl rfl)
theorem dX0_dearest_2 : decode cX0_dearest 2 = .ok (.iconst 0, 1) := dk_3 (dk_at dksX0_dearest_0 2 rfl rfl)
theorem dX0_dearest_3 : decode cX0_dearest 3 = .ok (.istore_n 2, 1) := dk_61 (dk_at dksX0_dearest_0 3 rfl rfl)
theorem dX0_dearest_4 : decode cX0_dearest 4 = .ok (.aload_n 0, 1) := dk_42 (dk_at dksX0_dearest_0 4 rfl rfl)
theorem dX0_dearest_5 : decode cX0_dearest 5 = .ok (.getfield 37, 3) := dk_180 0 37 (dk_at dksX0_dearest_0 5 rfl rfl)
theorem dX0_dearest_8 : decode cX0_dearest 8 = .ok (.invokevirtual 537, 3) := dk_182 2 25 (dk_at dksX0_dearest_0 8 rfl rfl)
theorem dX0_dearest_11 : decode cX0_dearest 11 = .ok (.invokeinterface 541 1, 5) := by decide +kernel
theorem dX0_dearest_16 : decode cX0_dearest 16 = .ok (.astore_n 3, 1) := dk_78 (dk_at dksX0_dearest_0 16 rfl rfl)
theorem dX0_dearest_17 : decode cX0_dearest 17 = .ok (.aload_n 3, 1) := dk_45 (dk_at dksX0_dearest_0 17 rfl rfl)
theorem dX0_dearest_18 : decode cX0_dearest 18 = .ok (.invokeinterface 547 1, 5) := by decide +kernel
theorem dX0_dearest_23 : decode cX0_dearest 23 = .ok (.ifCond .eq 56, 3) := dk_153 0 56 (dk_at dksX0_dearest_1 0 rfl rfl)
theorem dX0_dearest_26 : decode cX0_dearest 26 = .ok (.aload_n 3, 1) := dk_45 (dk_at dksX0_dearest_1 3 rfl rfl)
theorem dX0_dearest_27 : decode cX0_dearest 27 = .ok (.invokeinterface 552 1, 5) := by decide +kernel
theorem dX0_dearest_32 : decode cX0_dearest 32 = .ok (.checkcast 499, 3) := dk_192 1 243 (dk_at dksX0_dearest_1 9 rfl rfl)
theorem dX0_dearest_35 : decode cX0_dearest 35 = .ok (.astore 4, 2) := dk_58 4 (dk_at dksX0_dearest_1 12 rfl rfl)
theorem dX0_dearest_37 : decode cX0_dearest 37 = .ok (.aload_n 0, 1) := dk_42 (dk_at dksX0_dearest_1 14 rfl rfl)
theorem dX0_dearest_38 : decode cX0_dearest 38 = .ok (.getfield 37, 3) := dk_180 0 37 (dk_at dksX0_dearest_1 15 rfl rfl)
theorem dX0_dearest_41 : decode cX0_dearest 41 = .ok (.aload 4, 2) := dk_25 4 (dk_at dksX0_dearest_1 18 rfl rfl)
theorem dX0_dearest_43 : decode cX0_dearest 43 = .ok (.invokevirtual 527, 3) := dk_182 2 15 (dk_at dksX0_dearest_1 20 rfl rfl)
theorem dX0_dearest_46 : decode cX0_dearest 46 = .ok (.checkcast 507, 3) := dk_192 1 251 (dk_at dksX0_dearest_2 0 rfl rfl)
theorem dX0_dearest_49 : decode cX0_dearest 49 = .ok (.getfield 514, 3) := dk_180 2 2 (dk_at dksX0_dearest_2 3 rfl rfl)
theorem dX0_dearest_52 : decode cX0_dearest 52 = .ok (.aload 4, 2) := dk_25 4 (dk_at dksX0_dearest_2 6 rfl rfl)
theorem dX0_dearest_54 : decode cX0_dearest 54 = .ok (.getfield 530, 3) := dk_180 2 18 (dk_at dksX0_dearest_2 8 rfl rfl)
theorem dX0_dearest_57 : decode cX0_dearest 57 = .ok (.isub, 1) := dk_100 (dk_at dksX0_dearest_2 11 rfl rfl)
theorem dX0_dearest_58 : decode cX0_dearest 58 = .ok (.istore 5, 2) := dk_54 5 (dk_at dksX0_dearest_2 12 rfl rfl)
theorem dX0_dearest_60 : decode cX0_dearest 60 = .ok (.aload_n 1, 1) := dk_43 (dk_at dksX0_dearest_2 14 rfl rfl)
theorem dX0_dearest_61 : decode cX0_dearest 61 = .ok (.ifnull 9, 3) := dk_198 0 9 (dk_at dksX0_dearest_2 15 rfl rfl)
theorem dX0_dearest_64 : decode cX0_dearest 64 = .ok (.iload 5, 2) := dk_21 5 (dk_at dksX0_dearest_2 18 rfl rfl)
theorem dX0_dearest_66 : decode cX0_dearest 66 = .ok (.iload_n 2, 1) := dk_28 (dk_at dksX0_dearest_2 20 rfl rfl)
theorem dX0_dearest_67 : decode cX0_dearest 67 = .ok (.if_icmp .le 9, 3) := dk_164 0 9 (dk_at dksX0_dearest_2 21 rfl rfl)
theorem dX0_dearest_70 : decode cX0_dearest 70 = .ok (.aload 4, 2) := dk_25 4 (dk_at dksX0_dearest_3 0 rfl rfl)
theorem dX0_dearest_72 : decode cX0_dearest 72 = .ok (.astore_n 1, 1) := dk_76 (dk_at dksX0_dearest_3 2 rfl rfl)
theorem dX0_dearest_73 : decode cX0_dearest 73 = .ok (.iload 5, 2) := dk_21 5 (dk_at dksX0_dearest_3 3 rfl rfl)
theorem dX0_dearest_75 : decode cX0_dearest 75 = .ok (.istore_n 2, 1) := dk_61 (dk_at dksX0_dearest_3 5 rfl rfl)
theorem dX0_dearest_76 : decode cX0_dearest 76 = .ok (.goto (-59), 3) := dk_167 255 197 (dk_at dksX0_dearest_3 6 rfl rfl)
theorem dX0_dearest_79 : decode cX0_dearest 79 = .ok (.aload_n 1, 1) := dk_43 (dk_at dksX0_dearest_3 9 rfl rfl)
theorem dX0_dearest_80 : decode cX0_dearest 80 = .ok (.ifnonnull 8, 3) := dk_199 0 8 (dk_at dksX0_dearest_3 10 rfl rfl)
theorem dX0_dearest_83 : decode cX0_dearest 83 = .ok (.bipush (-5), 2) := dk_16 251 (dk_at dksX0_dearest_3 13 rfl rfl)
theorem dX0_dearest_85 : decode cX0_dearest 85 = .ok (.goto 7, 3) := dk_167 0 7 (dk_at dksX0_dearest_3 15 rfl rfl)
theorem dX0_dearest_88 : decode cX0_dearest 88 = .ok (.aload_n 1, 1) := dk_43 (dk_at dksX0_dearest_3 18 rfl rfl)
theorem dX0_dearest_89 : decode cX0_dearest 89 = .ok (.getfield 526, 3) := dk_180 2 14 (dk_at dksX0_dearest_3 19 rfl rfl)
theorem dX0_dearest_92 : decode cX0_dearest 92 = .ok (.ireturn, 1) := dk_172 (dk_at dksX0_dearest_3 22 rfl rfl)
abbrev cX0_plan : ByteArray := prog_1_method_65_code
def yX0_plan : MethodName := ⟨RX0, "plan", "(III)I"⟩
def dkwX0_plan_8 : List UInt8 := [79, 42, 180, 0, 12, 89, 180, 2, 43, 4, 96, 181, 2, 43, 42, 180, 0, 12, 180, 2, 43, 172]
abbrev dktX0_plan_8 : List UInt8 := dkwX0_plan_8 ++ []
def dkwX0_plan_7 : List UInt8 := [104, 4, 96, 28, 79, 42, 180, 0, 12, 180, 2, 46, 6, 42, 180, 0, 12, 180, 2, 43, 104, 5, 96, 29]
abbrev dktX0_plan_7 : List UInt8 := dkwX0_plan_7 ++ dktX0_plan_8
def dkwX0_plan_6 : List UInt8 := [180, 0, 12, 180, 2, 43, 104, 27, 79, 42, 180, 0, 12, 180, 2, 46, 6, 42, 180, 0, 12, 180, 2, 43]
abbrev dktX0_plan_6 : List UInt8 := dkwX0_plan_6 ++ dktX0_plan_7
def dkwX0_plan_5 : List UInt8 := [180, 0, 12, 180, 2, 43, 16, 8, 160, 0, 6, 16, 252, 172, 42, 180, 0, 12, 180, 2, 46, 6, 42]
abbrev dktX0_plan_5 : List UInt8 := dkwX0_plan_5 ++ dktX0_plan_6
def dkwX0_plan_4 : List UInt8 := [153, 0, 20, 167, 0, 20, 29, 133, 20, 0, 168, 20, 0, 170, 184, 0, 127, 154, 0, 6, 16, 254, 172, 42]
abbrev dktX0_plan_4 : List UInt8 := dkwX0_plan_4 ++ dktX0_plan_5
def dkwX0_plan_3 : List UInt8 := [184, 0, 127, 153, 0, 40, 167, 0, 40, 27, 4, 160, 0, 18, 29, 133, 9, 20, 0, 149, 184, 0, 127]
abbrev dktX0_plan_3 : List UInt8 := dkwX0_plan_3 ++ dktX0_plan_4
def dkwX0_plan_2 : List UInt8 := [180, 0, 12, 28, 182, 0, 165, 154, 0, 5, 2, 172, 27, 154, 0, 20, 29, 133, 20, 0, 154, 20, 0, 156]
abbrev dktX0_plan_2 : List UInt8 := dkwX0_plan_2 ++ dktX0_plan_3
def dkwX0_plan_1 : List UInt8 := [153, 0, 33, 27, 4, 160, 0, 17, 42, 180, 0, 12, 28, 182, 0, 145, 153, 0, 17, 167, 0, 16, 42]
abbrev dktX0_plan_1 : List UInt8 := dkwX0_plan_1 ++ dktX0_plan_2
def dkwX0_plan_0 : List UInt8 := [27, 2, 160, 0, 13, 42, 180, 0, 12, 3, 181, 2, 43, 3, 172, 27, 133, 9, 20, 2, 5, 184, 0, 127]
abbrev dktX0_plan_0 : List UInt8 := dkwX0_plan_0 ++ dktX0_plan_1
theorem dksX0_plan_0 : cX0_plan.data.toList.drop 0 = dktX0_plan_0 := by decide +kernel
theorem dksX0_plan_1 : cX0_plan.data.toList.drop 24 = dktX0_plan_1 := dk_seg dksX0_plan_0 24 rfl rfl
theorem dksX0_plan_2 : cX0_plan.data.toList.drop 47 = dktX0_plan_2 := dk_seg dksX0_plan_1 23 rfl rfl
theorem dksX0_plan_3 : cX0_plan.data.toList.drop 71 = dktX0_plan_3 := dk_seg dksX0_plan_2 24 rfl rfl
theorem dksX0_plan_4 : cX0_plan.data.toList.drop 94 = dktX0_plan_4 := dk_seg dksX0_plan_3 23 rfl rfl
theorem dksX0_plan_5 : cX0_plan.data.toList.drop 118 = dktX0_plan_5 := dk_seg dksX0_plan_4 24 rfl rfl
theorem dksX0_plan_6 : cX0_plan.data.toList.drop 141 = dktX0_plan_6 := dk_seg dksX0_plan_5 23 rfl rfl
theorem dksX0_plan_7 : cX0_plan.data.toList.drop 165 = dktX0_plan_7 := dk_seg dksX0_plan_6 24 rfl rfl
theorem dksX0_plan_8 : cX0_plan.data.toList.drop 189 = dktX0_plan_8 := dk_seg dksX0_plan_7 24 rfl rfl
theorem dX0_plan_0 : decode cX0_plan 0 = .ok (.iload_n 1, 1) := dk_27 (dk_at dksX0_plan_0 0 rfl rfl)
theorem dX0_plan_1 : decode cX0_plan 1 = .ok (.iconst (-1), 1) := dk_2 (dk_at dksX0_plan_0 1 rfl rfl)
theorem dX0_plan_2 : decode cX0_plan 2 = .ok (.if_icmp .ne 13, 3) := dk_160 0 13 (dk_at dksX0_plan_0 2 rfl rfl)
theorem dX0_plan_5 : decode cX0_plan 5 = .ok (.aload_n 0, 1) := dk_42 (dk_at dksX0_plan_0 5 rfl rfl)
theorem dX0_plan_6 : decode cX0_plan 6 = .ok (.getfield 12, 3) := dk_180 0 12 (dk_at dksX0_plan_0 6 rfl rfl)
theorem dX0_plan_9 : decode cX0_plan 9 = .ok (.iconst 0, 1) := dk_3 (dk_at dksX0_plan_0 9 rfl rfl)
theorem dX0_plan_10 : decode cX0_plan 10 = .ok (.putfield 555, 3) := dk_181 2 43 (dk_at dksX0_plan_0 10 rfl rfl)
theorem dX0_plan_13 : decode cX0_plan 13 = .ok (.iconst 0, 1) := dk_3 (dk_at dksX0_plan_0 13 rfl rfl)
theorem dX0_plan_14 : decode cX0_plan 14 = .ok (.ireturn, 1) := dk_172 (dk_at dksX0_plan_0 14 rfl rfl)
theorem dX0_plan_15 : decode cX0_plan 15 = .ok (.iload_n 1, 1) := dk_27 (dk_at dksX0_plan_0 15 rfl rfl)
theorem dX0_plan_16 : decode cX0_plan 16 = .ok (.i2l, 1) := dk_133 (dk_at dksX0_plan_0 16 rfl rfl)
theorem dX0_plan_17 : decode cX0_plan 17 = .ok (.lconst 0, 1) := dk_9 (dk_at dksX0_plan_0 17 rfl rfl)
theorem dX0_plan_18 : decode cX0_plan 18 = .ok (.ldc2_w 517, 3) := dk_20 2 5 (dk_at dksX0_plan_0 18 rfl rfl)
theorem dX0_plan_21 : decode cX0_plan 21 = .ok (.invokestatic 127, 3) := dk_184 0 127 (dk_at dksX0_plan_0 21 rfl rfl)
theorem dX0_plan_24 : decode cX0_plan 24 = .ok (.ifCond .eq 33, 3) := dk_153 0 33 (dk_at dksX0_plan_1 0 rfl rfl)
theorem dX0_plan_27 : decode cX0_plan 27 = .ok (.iload_n 1, 1) := dk_27 (dk_at dksX0_plan_1 3 rfl rfl)
theorem dX0_plan_28 : decode cX0_plan 28 = .ok (.iconst 1, 1) := dk_4 (dk_at dksX0_plan_1 4 rfl rfl)
theorem dX0_plan_29 : decode cX0_plan 29 = .ok (.if_icmp .ne 17, 3) := dk_160 0 17 (dk_at dksX0_plan_1 5 rfl rfl)
theorem dX0_plan_32 : decode cX0_plan 32 = .ok (.aload_n 0, 1) := dk_42 (dk_at dksX0_plan_1 8 rfl rfl)
theorem dX0_plan_33 : decode cX0_plan 33 = .ok (.getfield 12, 3) := dk_180 0 12 (dk_at dksX0_plan_1 9 rfl rfl)
theorem dX0_plan_36 : decode cX0_plan 36 = .ok (.iload_n 2, 1) := dk_28 (dk_at dksX0_plan_1 12 rfl rfl)
theorem dX0_plan_37 : decode cX0_plan 37 = .ok (.invokevirtual 145, 3) := dk_182 0 145 (dk_at dksX0_plan_1 13 rfl rfl)
theorem dX0_plan_40 : decode cX0_plan 40 = .ok (.ifCond .eq 17, 3) := dk_153 0 17 (dk_at dksX0_plan_1 16 rfl rfl)
theorem dX0_plan_43 : decode cX0_plan 43 = .ok (.goto 16, 3) := dk_167 0 16 (dk_at dksX0_plan_1 19 rfl rfl)
theorem dX0_plan_46 : decode cX0_plan 46 = .ok (.aload_n 0, 1) := dk_42 (dk_at dksX0_plan_1 22 rfl rfl)
theorem dX0_plan_47 : decode cX0_plan 47 = .ok (.getfield 12, 3) := dk_180 0 12 (dk_at dksX0_plan_2 0 rfl rfl)
theorem dX0_plan_50 : decode cX0_plan 50 = .ok (.iload_n 2, 1) := dk_28 (dk_at dksX0_plan_2 3 rfl rfl)
theorem dX0_plan_51 : decode cX0_plan 51 = .ok (.invokevirtual 165, 3) := dk_182 0 165 (dk_at dksX0_plan_2 4 rfl rfl)
theorem dX0_plan_54 : decode cX0_plan 54 = .ok (.ifCond .ne 5, 3) := dk_154 0 5 (dk_at dksX0_plan_2 7 rfl rfl)
theorem dX0_plan_57 : decode cX0_plan 57 = .ok (.iconst (-1), 1) := dk_2 (dk_at dksX0_plan_2 10 rfl rfl)
theorem dX0_plan_58 : decode cX0_plan 58 = .ok (.ireturn, 1) := dk_172 (dk_at dksX0_plan_2 11 rfl rfl)
theorem dX0_plan_59 : decode cX0_plan 59 = .ok (.iload_n 1, 1) := dk_27 (dk_at dksX0_plan_2 12 rfl rfl)
theorem dX0_plan_60 : decode cX0_plan 60 = .ok (.ifCond .ne 20, 3) := dk_154 0 20 (dk_at dksX0_plan_2 13 rfl rfl)
theorem dX0_plan_63 : decode cX0_plan 63 = .ok (.iload_n 3, 1) := dk_29 (dk_at dksX0_plan_2 16 rfl rfl)
theorem dX0_plan_64 : decode cX0_plan 64 = .ok (.i2l, 1) := dk_133 (dk_at dksX0_plan_2 17 rfl rfl)
theorem dX0_plan_65 : decode cX0_plan 65 = .ok (.ldc2_w 154, 3) := dk_20 0 154 (dk_at dksX0_plan_2 18 rfl rfl)
theorem dX0_plan_68 : decode cX0_plan 68 = .ok (.ldc2_w 156, 3) := dk_20 0 156 (dk_at dksX0_plan_2 21 rfl rfl)
theorem dX0_plan_71 : decode cX0_plan 71 = .ok (.invokestatic 127, 3) := dk_184 0 127 (dk_at dksX0_plan_3 0 rfl rfl)
theorem dX0_plan_74 : decode cX0_plan 74 = .ok (.ifCond .eq 40, 3) := dk_153 0 40 (dk_at dksX0_plan_3 3 rfl rfl)
theorem dX0_plan_77 : decode cX0_plan 77 = .ok (.goto 40, 3) := dk_167 0 40 (dk_at dksX0_plan_3 6 rfl rfl)
theorem dX0_plan_80 : decode cX0_plan 80 = .ok (.iload_n 1, 1) := dk_27 (dk_at dksX0_plan_3 9 rfl rfl)
theorem dX0_plan_81 : decode cX0_plan 81 = .ok (.iconst 1, 1) := dk_4 (dk_at dksX0_plan_3 10 rfl rfl)
theorem dX0_plan_82 : decode cX0_plan 82 = .ok (.if_icmp .ne 18, 3) := dk_160 0 18 (dk_at dksX0_plan_3 11 rfl rfl)
theorem dX0_plan_85 : decode cX0_plan 85 = .ok (.iload_n 3, 1) := dk_29 (dk_at dksX0_plan_3 14 rfl rfl)
theorem dX0_plan_86 : decode cX0_plan 86 = .ok (.i2l, 1) := dk_133 (dk_at dksX0_plan_3 15 rfl rfl)
theorem dX0_plan_87 : decode cX0_plan 87 = .ok (.lconst 0, 1) := dk_9 (dk_at dksX0_plan_3 16 rfl rfl)
theorem dX0_plan_88 : decode cX0_plan 88 = .ok (.ldc2_w 149, 3) := dk_20 0 149 (dk_at dksX0_plan_3 17 rfl rfl)
theorem dX0_plan_91 : decode cX0_plan 91 = .ok (.invokestatic 127, 3) := dk_184 0 127 (dk_at dksX0_plan_3 20 rfl rfl)
theorem dX0_plan_94 : decode cX0_plan 94 = .ok (.ifCond .eq 20, 3) := dk_153 0 20 (dk_at dksX0_plan_4 0 rfl rfl)
theorem dX0_plan_97 : decode cX0_plan 97 = .ok (.goto 20, 3) := dk_167 0 20 (dk_at dksX0_plan_4 3 rfl rfl)
theorem dX0_plan_100 : decode cX0_plan 100 = .ok (.iload_n 3, 1) := dk_29 (dk_at dksX0_plan_4 6 rfl rfl)
theorem dX0_plan_101 : decode cX0_plan 101 = .ok (.i2l, 1) := dk_133 (dk_at dksX0_plan_4 7 rfl rfl)
theorem dX0_plan_102 : decode cX0_plan 102 = .ok (.ldc2_w 168, 3) := dk_20 0 168 (dk_at dksX0_plan_4 8 rfl rfl)
theorem dX0_plan_105 : decode cX0_plan 105 = .ok (.ldc2_w 170, 3) := dk_20 0 170 (dk_at dksX0_plan_4 11 rfl rfl)
theorem dX0_plan_108 : decode cX0_plan 108 = .ok (.invokestatic 127, 3) := dk_184 0 127 (dk_at dksX0_plan_4 14 rfl rfl)
theorem dX0_plan_111 : decode cX0_plan 111 = .ok (.ifCond .ne 6, 3) := dk_154 0 6 (dk_at dksX0_plan_4 17 rfl rfl)
theorem dX0_plan_114 : decode cX0_plan 114 = .ok (.bipush (-2), 2) := dk_16 254 (dk_at dksX0_plan_4 20 rfl rfl)
theorem dX0_plan_116 : decode cX0_plan 116 = .ok (.ireturn, 1) := dk_172 (dk_at dksX0_plan_4 22 rfl rfl)
theorem dX0_plan_117 : decode cX0_plan 117 = .ok (.aload_n 0, 1) := dk_42 (dk_at dksX0_plan_4 23 rfl rfl)
theorem dX0_plan_118 : decode cX0_plan 118 = .ok (.getfield 12, 3) := dk_180 0 12 (dk_at dksX0_plan_5 0 rfl rfl)
theorem dX0_plan_121 : decode cX0_plan 121 = .ok (.getfield 555, 3) := dk_180 2 43 (dk_at dksX0_plan_5 3 rfl rfl)
theorem dX0_plan_124 : decode cX0_plan 124 = .ok (.bipush 8, 2) := dk_16 8 (dk_at dksX0_plan_5 6 rfl rfl)
theorem dX0_plan_126 : decode cX0_plan 126 = .ok (.if_icmp .ne 6, 3) := dk_160 0 6 (dk_at dksX0_plan_5 8 rfl rfl)
theorem dX0_plan_129 : decode cX0_plan 129 = .ok (.bipush (-4), 2) := dk_16 252 (dk_at dksX0_plan_5 11 rfl rfl)
theorem dX0_plan_131 : decode cX0_plan 131 = .ok (.ireturn, 1) := dk_172 (dk_at dksX0_plan_5 13 rfl rfl)
theorem dX0_plan_132 : decode cX0_plan 132 = .ok (.aload_n 0, 1) := dk_42 (dk_at dksX0_plan_5 14 rfl rfl)
theorem dX0_plan_133 : decode cX0_plan 133 = .ok (.getfield 12, 3) := dk_180 0 12 (dk_at dksX0_plan_5 15 rfl rfl)
theorem dX0_plan_136 : decode cX0_plan 136 = .ok (.getfield 558, 3) := dk_180 2 46 (dk_at dksX0_plan_5 18 rfl rfl)
theorem dX0_plan_139 : decode cX0_plan 139 = .ok (.iconst 3, 1) := dk_6 (dk_at dksX0_plan_5 21 rfl rfl)
theorem dX0_plan_140 : decode cX0_plan 140 = .ok (.aload_n 0, 1) := dk_42 (dk_at dksX0_plan_5 22 rfl rfl)
theorem dX0_plan_141 : decode cX0_plan 141 = .ok (.getfield 12, 3) := dk_180 0 12 (dk_at dksX0_plan_6 0 rfl rfl)
theorem dX0_plan_144 : decode cX0_plan 144 = .ok (.getfield 555, 3) := dk_180 2 43 (dk_at dksX0_plan_6 3 rfl rfl)
theorem dX0_plan_147 : decode cX0_plan 147 = .ok (.imul, 1) := dk_104 (dk_at dksX0_plan_6 6 rfl rfl)
theorem dX0_plan_148 : decode cX0_plan 148 = .ok (.iload_n 1, 1) := dk_27 (dk_at dksX0_plan_6 7 rfl rfl)
theorem dX0_plan_149 : decode cX0_plan 149 = .ok (.iastore, 1) := dk_79 (dk_at dksX0_plan_6 8 rfl rfl)
theorem dX0_plan_150 : decode cX0_plan 150 = .ok (.aload_n 0, 1) := dk_42 (dk_at dksX0_plan_6 9 rfl rfl)
theorem dX0_plan_151 : decode cX0_plan 151 = .ok (.getfield 12, 3) := dk_180 0 12 (dk_at dksX0_plan_6 10 rfl rfl)
theorem dX0_plan_154 : decode cX0_plan 154 = .ok (.getfield 558, 3) := dk_180 2 46 (dk_at dksX0_plan_6 13 rfl rfl)
theorem dX0_plan_157 : decode cX0_plan 157 = .ok (.iconst 3, 1) := dk_6 (dk_at dksX0_plan_6 16 rfl rfl)
theorem dX0_plan_158 : decode cX0_plan 158 = .ok (.aload_n 0, 1) := dk_42 (dk_at dksX0_plan_6 17 rfl rfl)
theorem dX0_plan_159 : decode cX0_plan 159 = .ok (.getfield 12, 3) := dk_180 0 12 (dk_at dksX0_plan_6 18 rfl rfl)
theorem dX0_plan_162 : decode cX0_plan 162 = .ok (.getfield 555, 3) := dk_180 2 43 (dk_at dksX0_plan_6 21 rfl rfl)
theorem dX0_plan_165 : decode cX0_plan 165 = .ok (.imul, 1) := dk_104 (dk_at dksX0_plan_7 0 rfl rfl)
theorem dX0_plan_166 : decode cX0_plan 166 = .ok (.iconst 1, 1) := dk_4 (dk_at dksX0_plan_7 1 rfl rfl)
theorem dX0_plan_167 : decode cX0_plan 167 = .ok (.iadd, 1) := dk_96 (dk_at dksX0_plan_7 2 rfl rfl)
theorem dX0_plan_168 : decode cX0_plan 168 = .ok (.iload_n 2, 1) := dk_28 (dk_at dksX0_plan_7 3 rfl rfl)
theorem dX0_plan_169 : decode cX0_plan 169 = .ok (.iastore, 1) := dk_79 (dk_at dksX0_plan_7 4 rfl rfl)
theorem dX0_plan_170 : decode cX0_plan 170 = .ok (.aload_n 0, 1) := dk_42 (dk_at dksX0_plan_7 5 rfl rfl)
theorem dX0_plan_171 : decode cX0_plan 171 = .ok (.getfield 12, 3) := dk_180 0 12 (dk_at dksX0_plan_7 6 rfl rfl)
theorem dX0_plan_174 : decode cX0_plan 174 = .ok (.getfield 558, 3) := dk_180 2 46 (dk_at dksX0_plan_7 9 rfl rfl)
theorem dX0_plan_177 : decode cX0_plan 177 = .ok (.iconst 3, 1) := dk_6 (dk_at dksX0_plan_7 12 rfl rfl)
theorem dX0_plan_178 : decode cX0_plan 178 = .ok (.aload_n 0, 1) := dk_42 (dk_at dksX0_plan_7 13 rfl rfl)
theorem dX0_plan_179 : decode cX0_plan 179 = .ok (.getfield 12, 3) := dk_180 0 12 (dk_at dksX0_plan_7 14 rfl rfl)
theorem dX0_plan_182 : decode cX0_plan 182 = .ok (.getfield 555, 3) := dk_180 2 43 (dk_at dksX0_plan_7 17 rfl rfl)
theorem dX0_plan_185 : decode cX0_plan 185 = .ok (.imul, 1) := dk_104 (dk_at dksX0_plan_7 20 rfl rfl)
theorem dX0_plan_186 : decode cX0_plan 186 = .ok (.iconst 2, 1) := dk_5 (dk_at dksX0_plan_7 21 rfl rfl)
theorem dX0_plan_187 : decode cX0_plan 187 = .ok (.iadd, 1) := dk_96 (dk_at dksX0_plan_7 22 rfl rfl)
theorem dX0_plan_188 : decode cX0_plan 188 = .ok (.iload_n 3, 1) := dk_29 (dk_at dksX0_plan_7 23 rfl rfl)
theorem dX0_plan_189 : decode cX0_plan 189 = .ok (.iastore, 1) := dk_79 (dk_at dksX0_plan_8 0 rfl rfl)
theorem dX0_plan_190 : decode cX0_plan 190 = .ok (.aload_n 0, 1) := dk_42 (dk_at dksX0_plan_8 1 rfl rfl)
theorem dX0_plan_191 : decode cX0_plan 191 = .ok (.getfield 12, 3) := dk_180 0 12 (dk_at dksX0_plan_8 2 rfl rfl)
theorem dX0_plan_194 : decode cX0_plan 194 = .ok (.dup, 1) := dk_89 (dk_at dksX0_plan_8 5 rfl rfl)
theorem dX0_plan_195 : decode cX0_plan 195 = .ok (.getfield 555, 3) := dk_180 2 43 (dk_at dksX0_plan_8 6 rfl rfl)
theorem dX0_plan_198 : decode cX0_plan 198 = .ok (.iconst 1, 1) := dk_4 (dk_at dksX0_plan_8 9 rfl rfl)
theorem dX0_plan_199 : decode cX0_plan 199 = .ok (.iadd, 1) := dk_96 (dk_at dksX0_plan_8 10 rfl rfl)
theorem dX0_plan_200 : decode cX0_plan 200 = .ok (.putfield 555, 3) := dk_181 2 43 (dk_at dksX0_plan_8 11 rfl rfl)
theorem dX0_plan_203 : decode cX0_plan 203 = .ok (.aload_n 0, 1) := dk_42 (dk_at dksX0_plan_8 14 rfl rfl)
theorem dX0_plan_204 : decode cX0_plan 204 = .ok (.getfield 12, 3) := dk_180 0 12 (dk_at dksX0_plan_8 15 rfl rfl)
theorem dX0_plan_207 : decode cX0_plan 207 = .ok (.getfield 555, 3) := dk_180 2 43 (dk_at dksX0_plan_8 18 rfl rfl)
theorem dX0_plan_210 : decode cX0_plan 210 = .ok (.ireturn, 1) := dk_172 (dk_at dksX0_plan_8 21 rfl rfl)
abbrev cX0_ends : ByteArray := prog_1_method_68_code
def yX0_ends : MethodName := ⟨RX0, "ends", "()I"⟩
def dkwX0_ends_3 : List UInt8 := [185, 2, 49, 3, 0, 132, 2, 1, 167, 255, 195, 42, 180, 0, 31, 43, 182, 1, 216, 172]
abbrev dktX0_ends_3 : List UInt8 := dkwX0_ends_3 ++ []
def dkwX0_ends_2 : List UInt8 := [180, 2, 46, 6, 28, 104, 4, 96, 46, 42, 180, 0, 12, 180, 2, 46, 6, 28, 104, 5, 96, 46]
abbrev dktX0_ends_2 : List UInt8 := dkwX0_ends_2 ++ dktX0_ends_3
def dkwX0_ends_1 : List UInt8 := [162, 0, 56, 42, 180, 0, 52, 42, 180, 0, 12, 180, 2, 46, 6, 28, 104, 46, 50, 42, 180, 0, 12]
abbrev dktX0_ends_1 : List UInt8 := dkwX0_ends_1 ++ dktX0_ends_2
def dkwX0_ends_0 : List UInt8 := [42, 180, 0, 18, 42, 180, 0, 12, 182, 1, 213, 76, 3, 61, 28, 42, 180, 0, 12, 180, 2, 43]
abbrev dktX0_ends_0 : List UInt8 := dkwX0_ends_0 ++ dktX0_ends_1
theorem dksX0_ends_0 : cX0_ends.data.toList.drop 0 = dktX0_ends_0 := by decide +kernel
theorem dksX0_ends_1 : cX0_ends.data.toList.drop 22 = dktX0_ends_1 := dk_seg dksX0_ends_0 22 rfl rfl
theorem dksX0_ends_2 : cX0_ends.data.toList.drop 45 = dktX0_ends_2 := dk_seg dksX0_ends_1 23 rfl rfl
theorem dksX0_ends_3 : cX0_ends.data.toList.drop 67 = dktX0_ends_3 := dk_seg dksX0_ends_2 22 rfl rfl
theorem dX0_ends_0 : decode cX0_ends 0 = .ok (.aload_n 0, 1) := dk_42 (dk_at dksX0_ends_0 0 rfl rfl)
theorem dX0_ends_1 : decode cX0_ends 1 = .ok (.getfield 18, 3) := dk_180 0 18 (dk_at dksX0_ends_0 1 rfl rfl)
theorem dX0_ends_4 : decode cX0_ends 4 = .ok (.aload_n 0, 1) := dk_42 (dk_at dksX0_ends_0 4 rfl rfl)
theorem dX0_ends_5 : decode cX0_ends 5 = .ok (.getfield 12, 3) := dk_180 0 12 (dk_at dksX0_ends_0 5 rfl rfl)
theorem dX0_ends_8 : decode cX0_ends 8 = .ok (.invokevirtual 469, 3) := dk_182 1 213 (dk_at dksX0_ends_0 8 rfl rfl)
theorem dX0_ends_11 : decode cX0_ends 11 = .ok (.astore_n 1, 1) := dk_76 (dk_at dksX0_ends_0 11 rfl rfl)
theorem dX0_ends_12 : decode cX0_ends 12 = .ok (.iconst 0, 1) := dk_3 (dk_at dksX0_ends_0 12 rfl rfl)
theorem dX0_ends_13 : decode cX0_ends 13 = .ok (.istore_n 2, 1) := dk_61 (dk_at dksX0_ends_0 13 rfl rfl)
theorem dX0_ends_14 : decode cX0_ends 14 = .ok (.iload_n 2, 1) := dk_28 (dk_at dksX0_ends_0 14 rfl rfl)
theorem dX0_ends_15 : decode cX0_ends 15 = .ok (.aload_n 0, 1) := dk_42 (dk_at dksX0_ends_0 15 rfl rfl)
theorem dX0_ends_16 : decode cX0_ends 16 = .ok (.getfield 12, 3) := dk_180 0 12 (dk_at dksX0_ends_0 16 rfl rfl)
theorem dX0_ends_19 : decode cX0_ends 19 = .ok (.getfield 555, 3) := dk_180 2 43 (dk_at dksX0_ends_0 19 rfl rfl)
theorem dX0_ends_22 : decode cX0_ends 22 = .ok (.if_icmp .ge 56, 3) := dk_162 0 56 (dk_at dksX0_ends_1 0 rfl rfl)
theorem dX0_ends_25 : decode cX0_ends 25 = .ok (.aload_n 0, 1) := dk_42 (dk_at dksX0_ends_1 3 rfl rfl)
theorem dX0_ends_26 : decode cX0_ends 26 = .ok (.getfield 52, 3) := dk_180 0 52 (dk_at dksX0_ends_1 4 rfl rfl)
theorem dX0_ends_29 : decode cX0_ends 29 = .ok (.aload_n 0, 1) := dk_42 (dk_at dksX0_ends_1 7 rfl rfl)
theorem dX0_ends_30 : decode cX0_ends 30 = .ok (.getfield 12, 3) := dk_180 0 12 (dk_at dksX0_ends_1 8 rfl rfl)
theorem dX0_ends_33 : decode cX0_ends 33 = .ok (.getfield 558, 3) := dk_180 2 46 (dk_at dksX0_ends_1 11 rfl rfl)
theorem dX0_ends_36 : decode cX0_ends 36 = .ok (.iconst 3, 1) := dk_6 (dk_at dksX0_ends_1 14 rfl rfl)
theorem dX0_ends_37 : decode cX0_ends 37 = .ok (.iload_n 2, 1) := dk_28 (dk_at dksX0_ends_1 15 rfl rfl)
theorem dX0_ends_38 : decode cX0_ends 38 = .ok (.imul, 1) := dk_104 (dk_at dksX0_ends_1 16 rfl rfl)
theorem dX0_ends_39 : decode cX0_ends 39 = .ok (.iaload, 1) := dk_46 (dk_at dksX0_ends_1 17 rfl rfl)
theorem dX0_ends_40 : decode cX0_ends 40 = .ok (.aaload, 1) := dk_50 (dk_at dksX0_ends_1 18 rfl rfl)
theorem dX0_ends_41 : decode cX0_ends 41 = .ok (.aload_n 0, 1) := dk_42 (dk_at dksX0_ends_1 19 rfl rfl)
theorem dX0_ends_42 : decode cX0_ends 42 = .ok (.getfield 12, 3) := dk_180 0 12 (dk_at dksX0_ends_1 20 rfl rfl)
theorem dX0_ends_45 : decode cX0_ends 45 = .ok (.getfield 558, 3) := dk_180 2 46 (dk_at dksX0_ends_2 0 rfl rfl)
theorem dX0_ends_48 : decode cX0_ends 48 = .ok (.iconst 3, 1) := dk_6 (dk_at dksX0_ends_2 3 rfl rfl)
theorem dX0_ends_49 : decode cX0_ends 49 = .ok (.iload_n 2, 1) := dk_28 (dk_at dksX0_ends_2 4 rfl rfl)
theorem dX0_ends_50 : decode cX0_ends 50 = .ok (.imul, 1) := dk_104 (dk_at dksX0_ends_2 5 rfl rfl)
theorem dX0_ends_51 : decode cX0_ends 51 = .ok (.iconst 1, 1) := dk_4 (dk_at dksX0_ends_2 6 rfl rfl)
theorem dX0_ends_52 : decode cX0_ends 52 = .ok (.iadd, 1) := dk_96 (dk_at dksX0_ends_2 7 rfl rfl)
theorem dX0_ends_53 : decode cX0_ends 53 = .ok (.iaload, 1) := dk_46 (dk_at dksX0_ends_2 8 rfl rfl)
theorem dX0_ends_54 : decode cX0_ends 54 = .ok (.aload_n 0, 1) := dk_42 (dk_at dksX0_ends_2 9 rfl rfl)
theorem dX0_ends_55 : decode cX0_ends 55 = .ok (.getfield 12, 3) := dk_180 0 12 (dk_at dksX0_ends_2 10 rfl rfl)
theorem dX0_ends_58 : decode cX0_ends 58 = .ok (.getfield 558, 3) := dk_180 2 46 (dk_at dksX0_ends_2 13 rfl rfl)
theorem dX0_ends_61 : decode cX0_ends 61 = .ok (.iconst 3, 1) := dk_6 (dk_at dksX0_ends_2 16 rfl rfl)
theorem dX0_ends_62 : decode cX0_ends 62 = .ok (.iload_n 2, 1) := dk_28 (dk_at dksX0_ends_2 17 rfl rfl)
theorem dX0_ends_63 : decode cX0_ends 63 = .ok (.imul, 1) := dk_104 (dk_at dksX0_ends_2 18 rfl rfl)
theorem dX0_ends_64 : decode cX0_ends 64 = .ok (.iconst 2, 1) := dk_5 (dk_at dksX0_ends_2 19 rfl rfl)
theorem dX0_ends_65 : decode cX0_ends 65 = .ok (.iadd, 1) := dk_96 (dk_at dksX0_ends_2 20 rfl rfl)
theorem dX0_ends_66 : decode cX0_ends 66 = .ok (.iaload, 1) := dk_46 (dk_at dksX0_ends_2 21 rfl rfl)
theorem dX0_ends_67 : decode cX0_ends 67 = .ok (.invokeinterface 561 3, 5) := by decide +kernel
theorem dX0_ends_72 : decode cX0_ends 72 = .ok (.iinc 2 1, 3) := dk_132 2 1 (dk_at dksX0_ends_3 5 rfl rfl)
theorem dX0_ends_75 : decode cX0_ends 75 = .ok (.goto (-61), 3) := dk_167 255 195 (dk_at dksX0_ends_3 8 rfl rfl)
theorem dX0_ends_78 : decode cX0_ends 78 = .ok (.aload_n 0, 1) := dk_42 (dk_at dksX0_ends_3 11 rfl rfl)
theorem dX0_ends_79 : decode cX0_ends 79 = .ok (.getfield 31, 3) := dk_180 0 31 (dk_at dksX0_ends_3 12 rfl rfl)
theorem dX0_ends_82 : decode cX0_ends 82 = .ok (.aload_n 1, 1) := dk_43 (dk_at dksX0_ends_3 15 rfl rfl)
theorem dX0_ends_83 : decode cX0_ends 83 = .ok (.invokevirtual 472, 3) := dk_182 1 216 (dk_at dksX0_ends_3 16 rfl rfl)
theorem dX0_ends_86 : decode cX0_ends 86 = .ok (.ireturn, 1) := dk_172 (dk_at dksX0_ends_3 19 rfl rfl)
abbrev cX0_image : ByteArray := prog_1_method_70_code
def yX0_image : MethodName := ⟨RX0, "image", "()I"⟩
def dkwX0_image_1 : List UInt8 := [182, 1, 213, 180, 0, 158, 172]
abbrev dktX0_image_1 : List UInt8 := dkwX0_image_1 ++ []
def dkwX0_image_0 : List UInt8 := [42, 4, 181, 2, 51, 42, 180, 0, 41, 42, 180, 0, 37, 184, 2, 54, 42, 180, 0, 21, 42, 180, 0, 12]
abbrev dktX0_image_0 : List UInt8 := dkwX0_image_0 ++ dktX0_image_1
theorem dksX0_image_0 : cX0_image.data.toList.drop 0 = dktX0_image_0 := by decide +kernel
theorem dksX0_image_1 : cX0_image.data.toList.drop 24 = dktX0_image_1 := dk_seg dksX0_image_0 24 rfl rfl
theorem dX0_image_0 : decode cX0_image 0 = .ok (.aload_n 0, 1) := dk_42 (dk_at dksX0_image_0 0 rfl rfl)
theorem dX0_image_1 : decode cX0_image 1 = .ok (.iconst 1, 1) := dk_4 (dk_at dksX0_image_0 1 rfl rfl)
theorem dX0_image_2 : decode cX0_image 2 = .ok (.putfield 563, 3) := dk_181 2 51 (dk_at dksX0_image_0 2 rfl rfl)
theorem dX0_image_5 : decode cX0_image 5 = .ok (.aload_n 0, 1) := dk_42 (dk_at dksX0_image_0 5 rfl rfl)
theorem dX0_image_6 : decode cX0_image 6 = .ok (.getfield 41, 3) := dk_180 0 41 (dk_at dksX0_image_0 6 rfl rfl)
theorem dX0_image_9 : decode cX0_image 9 = .ok (.aload_n 0, 1) := dk_42 (dk_at dksX0_image_0 9 rfl rfl)
theorem dX0_image_10 : decode cX0_image 10 = .ok (.getfield 37, 3) := dk_180 0 37 (dk_at dksX0_image_0 10 rfl rfl)
theorem dX0_image_13 : decode cX0_image 13 = .ok (.invokestatic 566, 3) := dk_184 2 54 (dk_at dksX0_image_0 13 rfl rfl)
theorem dX0_image_16 : decode cX0_image 16 = .ok (.aload_n 0, 1) := dk_42 (dk_at dksX0_image_0 16 rfl rfl)
theorem dX0_image_17 : decode cX0_image 17 = .ok (.getfield 21, 3) := dk_180 0 21 (dk_at dksX0_image_0 17 rfl rfl)
theorem dX0_image_20 : decode cX0_image 20 = .ok (.aload_n 0, 1) := dk_42 (dk_at dksX0_image_0 20 rfl rfl)
theorem dX0_image_21 : decode cX0_image 21 = .ok (.getfield 12, 3) := dk_180 0 12 (dk_at dksX0_image_0 21 rfl rfl)
theorem dX0_image_24 : decode cX0_image 24 = .ok (.invokevirtual 469, 3) := dk_182 1 213 (dk_at dksX0_image_1 0 rfl rfl)
theorem dX0_image_27 : decode cX0_image 27 = .ok (.getfield 158, 3) := dk_180 0 158 (dk_at dksX0_image_1 3 rfl rfl)
theorem dX0_image_30 : decode cX0_image 30 = .ok (.ireturn, 1) := dk_172 (dk_at dksX0_image_1 6 rfl rfl)
abbrev cX0_like : ByteArray := prog_1_method_69_code
def yX0_like : MethodName := ⟨RX0, "like", "(Ljava/util/TreeMap;Ljava/util/TreeMap;)V"⟩
def dkwX0_like_2 : List UInt8 := [167, 255, 223, 177]
abbrev dktX0_like_2 : List UInt8 := dkwX0_like_2 ++ []
def dkwX0_like_1 : List UInt8 := [185, 2, 40, 1, 0, 192, 1, 243, 78, 42, 45, 43, 45, 182, 2, 15, 192, 1, 251, 182, 1, 254, 87]
abbrev dktX0_like_1 : List UInt8 := dkwX0_like_1 ++ dktX0_like_2
def dkwX0_like_0 : List UInt8 := [42, 182, 0, 138, 43, 182, 2, 25, 185, 2, 29, 1, 0, 77, 44, 185, 2, 35, 1, 0, 153, 0, 30, 44]
abbrev dktX0_like_0 : List UInt8 := dkwX0_like_0 ++ dktX0_like_1
theorem dksX0_like_0 : cX0_like.data.toList.drop 0 = dktX0_like_0 := by decide +kernel
theorem dksX0_like_1 : cX0_like.data.toList.drop 24 = dktX0_like_1 := dk_seg dksX0_like_0 24 rfl rfl
theorem dksX0_like_2 : cX0_like.data.toList.drop 47 = dktX0_like_2 := dk_seg dksX0_like_1 23 rfl rfl
theorem dX0_like_0 : decode cX0_like 0 = .ok (.aload_n 0, 1) := dk_42 (dk_at dksX0_like_0 0 rfl rfl)
theorem dX0_like_1 : decode cX0_like 1 = .ok (.invokevirtual 138, 3) := dk_182 0 138 (dk_at dksX0_like_0 1 rfl rfl)
theorem dX0_like_4 : decode cX0_like 4 = .ok (.aload_n 1, 1) := dk_43 (dk_at dksX0_like_0 4 rfl rfl)
theorem dX0_like_5 : decode cX0_like 5 = .ok (.invokevirtual 537, 3) := dk_182 2 25 (dk_at dksX0_like_0 5 rfl rfl)
theorem dX0_like_8 : decode cX0_like 8 = .ok (.invokeinterface 541 1, 5) := by decide +kernel
theorem dX0_like_13 : decode cX0_like 13 = .ok (.astore_n 2, 1) := dk_77 (dk_at dksX0_like_0 13 rfl rfl)
theorem dX0_like_14 : decode cX0_like 14 = .ok (.aload_n 2, 1) := dk_44 (dk_at dksX0_like_0 14 rfl rfl)
theorem dX0_like_15 : decode cX0_like 15 = .ok (.invokeinterface 547 1, 5) := by decide +kernel
theorem dX0_like_20 : decode cX0_like 20 = .ok (.ifCond .eq 30, 3) := dk_153 0 30 (dk_at dksX0_like_0 20 rfl rfl)
theorem dX0_like_23 : decode cX0_like 23 = .ok (.aload_n 2, 1) := dk_44 (dk_at dksX0_like_0 23 rfl rfl)
theorem dX0_like_24 : decode cX0_like 24 = .ok (.invokeinterface 552 1, 5) := by decide +kernel
theorem dX0_like_29 : decode cX0_like 29 = .ok (.checkcast 499, 3) := dk_192 1 243 (dk_at dksX0_like_1 5 rfl rfl)
theorem dX0_like_32 : decode cX0_like 32 = .ok (.astore_n 3, 1) := dk_78 (dk_at dksX0_like_1 8 rfl rfl)
theorem dX0_like_33 : decode cX0_like 33 = .ok (.aload_n 0, 1) := dk_42 (dk_at dksX0_like_1 9 rfl rfl)
theorem dX0_like_34 : decode cX0_like 34 = .ok (.aload_n 3, 1) := dk_45 (dk_at dksX0_like_1 10 rfl rfl)
theorem dX0_like_35 : decode cX0_like 35 = .ok (.aload_n 1, 1) := dk_43 (dk_at dksX0_like_1 11 rfl rfl)
theorem dX0_like_36 : decode cX0_like 36 = .ok (.aload_n 3, 1) := dk_45 (dk_at dksX0_like_1 12 rfl rfl)
theorem dX0_like_37 : decode cX0_like 37 = .ok (.invokevirtual 527, 3) := dk_182 2 15 (dk_at dksX0_like_1 13 rfl rfl)
theorem dX0_like_40 : decode cX0_like 40 = .ok (.checkcast 507, 3) := dk_192 1 251 (dk_at dksX0_like_1 16 rfl rfl)
theorem dX0_like_43 : decode cX0_like 43 = .ok (.invokevirtual 510, 3) := dk_182 1 254 (dk_at dksX0_like_1 19 rfl rfl)
theorem dX0_like_46 : decode cX0_like 46 = .ok (.pop, 1) := dk_87 (dk_at dksX0_like_1 22 rfl rfl)
theorem dX0_like_47 : decode cX0_like 47 = .ok (.goto (-33), 3) := dk_167 255 223 (dk_at dksX0_like_2 0 rfl rfl)
theorem dX0_like_50 : decode cX0_like 50 = .ok (.return_, 1) := dk_177 (dk_at dksX0_like_2 3 rfl rfl)
abbrev cX0_undo : ByteArray := prog_1_method_71_code
def yX0_undo : MethodName := ⟨RX0, "undo", "()I"⟩
def dkwX0_undo_1 : List UInt8 := [180, 0, 12, 42, 180, 0, 21, 182, 1, 213, 180, 0, 158, 182, 0, 141, 172]
abbrev dktX0_undo_1 : List UInt8 := dkwX0_undo_1 ++ []
def dkwX0_undo_0 : List UInt8 := [42, 180, 2, 51, 154, 0, 6, 16, 253, 172, 42, 180, 0, 37, 42, 180, 0, 41, 184, 2, 54, 42, 42]
abbrev dktX0_undo_0 : List UInt8 := dkwX0_undo_0 ++ dktX0_undo_1
theorem dksX0_undo_0 : cX0_undo.data.toList.drop 0 = dktX0_undo_0 := by decide +kernel
theorem dksX0_undo_1 : cX0_undo.data.toList.drop 23 = dktX0_undo_1 := dk_seg dksX0_undo_0 23 rfl rfl
theorem dX0_undo_0 : decode cX0_undo 0 = .ok (.aload_n 0, 1) := dk_42 (dk_at dksX0_undo_0 0 rfl rfl)
theorem dX0_undo_1 : decode cX0_undo 1 = .ok (.getfield 563, 3) := dk_180 2 51 (dk_at dksX0_undo_0 1 rfl rfl)
theorem dX0_undo_4 : decode cX0_undo 4 = .ok (.ifCond .ne 6, 3) := dk_154 0 6 (dk_at dksX0_undo_0 4 rfl rfl)
theorem dX0_undo_7 : decode cX0_undo 7 = .ok (.bipush (-3), 2) := dk_16 253 (dk_at dksX0_undo_0 7 rfl rfl)
theorem dX0_undo_9 : decode cX0_undo 9 = .ok (.ireturn, 1) := dk_172 (dk_at dksX0_undo_0 9 rfl rfl)
theorem dX0_undo_10 : decode cX0_undo 10 = .ok (.aload_n 0, 1) := dk_42 (dk_at dksX0_undo_0 10 rfl rfl)
theorem dX0_undo_11 : decode cX0_undo 11 = .ok (.getfield 37, 3) := dk_180 0 37 (dk_at dksX0_undo_0 11 rfl rfl)
theorem dX0_undo_14 : decode cX0_undo 14 = .ok (.aload_n 0, 1) := dk_42 (dk_at dksX0_undo_0 14 rfl rfl)
theorem dX0_undo_15 : decode cX0_undo 15 = .ok (.getfield 41, 3) := dk_180 0 41 (dk_at dksX0_undo_0 15 rfl rfl)
theorem dX0_undo_18 : decode cX0_undo 18 = .ok (.invokestatic 566, 3) := dk_184 2 54 (dk_at dksX0_undo_0 18 rfl rfl)
theorem dX0_undo_21 : decode cX0_undo 21 = .ok (.aload_n 0, 1) := dk_42 (dk_at dksX0_undo_0 21 rfl rfl)
theorem dX0_undo_22 : decode cX0_undo 22 = .ok (.aload_n 0, 1) := dk_42 (dk_at dksX0_undo_0 22 rfl rfl)
theorem dX0_undo_23 : decode cX0_undo 23 = .ok (.getfield 12, 3) := dk_180 0 12 (dk_at dksX0_undo_1 0 rfl rfl)
theorem dX0_undo_26 : decode cX0_undo 26 = .ok (.aload_n 0, 1) := dk_42 (dk_at dksX0_undo_1 3 rfl rfl)
theorem dX0_undo_27 : decode cX0_undo 27 = .ok (.getfield 21, 3) := dk_180 0 21 (dk_at dksX0_undo_1 4 rfl rfl)
theorem dX0_undo_30 : decode cX0_undo 30 = .ok (.invokevirtual 469, 3) := dk_182 1 213 (dk_at dksX0_undo_1 7 rfl rfl)
theorem dX0_undo_33 : decode cX0_undo 33 = .ok (.getfield 158, 3) := dk_180 0 158 (dk_at dksX0_undo_1 10 rfl rfl)
theorem dX0_undo_36 : decode cX0_undo 36 = .ok (.invokevirtual 141, 3) := dk_182 0 141 (dk_at dksX0_undo_1 13 rfl rfl)
theorem dX0_undo_39 : decode cX0_undo 39 = .ok (.ireturn, 1) := dk_172 (dk_at dksX0_undo_1 16 rfl rfl)
abbrev cX0_count : ByteArray := prog_1_method_72_code
def yX0_count : MethodName := ⟨RX0, "count", "(I)I"⟩
def dkwX0_count_6 : List UInt8 := [180, 0, 37, 182, 1, 247, 172, 42, 180, 0, 189, 172, 42, 180, 0, 12, 180, 1, 68, 172, 16, 254, 172]
abbrev dktX0_count_6 : List UInt8 := dkwX0_count_6 ++ []
def dkwX0_count_5 : List UInt8 := [167, 0, 4, 3, 172, 42, 180, 0, 12, 180, 1, 220, 172, 42, 180, 0, 12, 180, 2, 43, 172, 42]
abbrev dktX0_count_5 : List UInt8 := dkwX0_count_5 ++ dktX0_count_6
def dkwX0_count_4 : List UInt8 := [180, 1, 22, 167, 0, 4, 3, 172, 42, 180, 0, 121, 153, 0, 13, 42, 180, 0, 27, 180, 1, 165]
abbrev dktX0_count_4 : List UInt8 := dkwX0_count_4 ++ dktX0_count_5
def dkwX0_count_3 : List UInt8 := [180, 0, 27, 180, 0, 229, 167, 0, 4, 3, 172, 42, 180, 0, 121, 153, 0, 13, 42, 180, 0, 27]
abbrev dktX0_count_3 : List UInt8 := dkwX0_count_3 ++ dktX0_count_4
def dkwX0_count_2 : List UInt8 := [42, 180, 0, 12, 180, 0, 131, 172, 42, 180, 0, 12, 180, 0, 158, 172, 42, 180, 0, 121, 153, 0, 13, 42]
abbrev dktX0_count_2 : List UInt8 := dkwX0_count_2 ++ dktX0_count_3
def dkwX0_count_1 : List UInt8 := [170, 0, 0, 0, 0, 0, 165, 0, 0, 0, 0, 0, 0, 0, 9, 0, 0, 0, 55, 0, 0, 0, 63, 0, 0, 0, 71, 0, 0, 0, 90, 0, 0, 0, 109, 0, 0, 0, 128, 0, 0, 0, 136, 0, 0, 0, 144, 0, 0, 0, 152, 0, 0, 0, 157]
abbrev dktX0_count_1 : List UInt8 := dkwX0_count_1 ++ dktX0_count_2
def dkwX0_count_0 : List UInt8 := [27]
abbrev dktX0_count_0 : List UInt8 := dkwX0_count_0 ++ dktX0_count_1
theorem dksX0_count_0 : cX0_count.data.toList.drop 0 = dktX0_count_0 := by decide +kernel
theorem dksX0_count_1 : cX0_count.data.toList.drop 1 = dktX0_count_1 := dk_seg dksX0_count_0 1 rfl rfl
theorem dksX0_count_2 : cX0_count.data.toList.drop 56 = dktX0_count_2 := dk_seg dksX0_count_1 55 rfl rfl
theorem dksX0_count_3 : cX0_count.data.toList.drop 80 = dktX0_count_3 := dk_seg dksX0_count_2 24 rfl rfl
theorem dksX0_count_4 : cX0_count.data.toList.drop 102 = dktX0_count_4 := dk_seg dksX0_count_3 22 rfl rfl
theorem dksX0_count_5 : cX0_count.data.toList.drop 124 = dktX0_count_5 := dk_seg dksX0_count_4 22 rfl rfl
theorem dksX0_count_6 : cX0_count.data.toList.drop 146 = dktX0_count_6 := dk_seg dksX0_count_5 22 rfl rfl
theorem dX0_count_0 : decode cX0_count 0 = .ok (.iload_n 1, 1) := dk_27 (dk_at dksX0_count_0 0 rfl rfl)
theorem dX0_count_1 : decode cX0_count 1 = .ok (.tableswitch 165 0 9 #[55, 63, 71, 90, 109, 128, 136, 144, 152, 157], 55) := by decide +kernel
theorem dX0_count_56 : decode cX0_count 56 = .ok (.aload_n 0, 1) := dk_42 (dk_at dksX0_count_2 0 rfl rfl)
theorem dX0_count_57 : decode cX0_count 57 = .ok (.getfield 12, 3) := dk_180 0 12 (dk_at dksX0_count_2 1 rfl rfl)
theorem dX0_count_60 : decode cX0_count 60 = .ok (.getfield 131, 3) := dk_180 0 131 (dk_at dksX0_count_2 4 rfl rfl)
theorem dX0_count_63 : decode cX0_count 63 = .ok (.ireturn, 1) := dk_172 (dk_at dksX0_count_2 7 rfl rfl)
theorem dX0_count_64 : decode cX0_count 64 = .ok (.aload_n 0, 1) := dk_42 (dk_at dksX0_count_2 8 rfl rfl)
theorem dX0_count_65 : decode cX0_count 65 = .ok (.getfield 12, 3) := dk_180 0 12 (dk_at dksX0_count_2 9 rfl rfl)
theorem dX0_count_68 : decode cX0_count 68 = .ok (.getfield 158, 3) := dk_180 0 158 (dk_at dksX0_count_2 12 rfl rfl)
theorem dX0_count_71 : decode cX0_count 71 = .ok (.ireturn, 1) := dk_172 (dk_at dksX0_count_2 15 rfl rfl)
theorem dX0_count_72 : decode cX0_count 72 = .ok (.aload_n 0, 1) := dk_42 (dk_at dksX0_count_2 16 rfl rfl)
theorem dX0_count_73 : decode cX0_count 73 = .ok (.getfield 121, 3) := dk_180 0 121 (dk_at dksX0_count_2 17 rfl rfl)
theorem dX0_count_76 : decode cX0_count 76 = .ok (.ifCond .eq 13, 3) := dk_153 0 13 (dk_at dksX0_count_2 20 rfl rfl)
theorem dX0_count_79 : decode cX0_count 79 = .ok (.aload_n 0, 1) := dk_42 (dk_at dksX0_count_2 23 rfl rfl)
theorem dX0_count_80 : decode cX0_count 80 = .ok (.getfield 27, 3) := dk_180 0 27 (dk_at dksX0_count_3 0 rfl rfl)
theorem dX0_count_83 : decode cX0_count 83 = .ok (.getfield 229, 3) := dk_180 0 229 (dk_at dksX0_count_3 3 rfl rfl)
theorem dX0_count_86 : decode cX0_count 86 = .ok (.goto 4, 3) := dk_167 0 4 (dk_at dksX0_count_3 6 rfl rfl)
theorem dX0_count_89 : decode cX0_count 89 = .ok (.iconst 0, 1) := dk_3 (dk_at dksX0_count_3 9 rfl rfl)
theorem dX0_count_90 : decode cX0_count 90 = .ok (.ireturn, 1) := dk_172 (dk_at dksX0_count_3 10 rfl rfl)
theorem dX0_count_91 : decode cX0_count 91 = .ok (.aload_n 0, 1) := dk_42 (dk_at dksX0_count_3 11 rfl rfl)
theorem dX0_count_92 : decode cX0_count 92 = .ok (.getfield 121, 3) := dk_180 0 121 (dk_at dksX0_count_3 12 rfl rfl)
theorem dX0_count_95 : decode cX0_count 95 = .ok (.ifCond .eq 13, 3) := dk_153 0 13 (dk_at dksX0_count_3 15 rfl rfl)
theorem dX0_count_98 : decode cX0_count 98 = .ok (.aload_n 0, 1) := dk_42 (dk_at dksX0_count_3 18 rfl rfl)
theorem dX0_count_99 : decode cX0_count 99 = .ok (.getfield 27, 3) := dk_180 0 27 (dk_at dksX0_count_3 19 rfl rfl)
theorem dX0_count_102 : decode cX0_count 102 = .ok (.getfield 278, 3) := dk_180 1 22 (dk_at dksX0_count_4 0 rfl rfl)
theorem dX0_count_105 : decode cX0_count 105 = .ok (.goto 4, 3) := dk_167 0 4 (dk_at dksX0_count_4 3 rfl rfl)
theorem dX0_count_108 : decode cX0_count 108 = .ok (.iconst 0, 1) := dk_3 (dk_at dksX0_count_4 6 rfl rfl)
theorem dX0_count_109 : decode cX0_count 109 = .ok (.ireturn, 1) := dk_172 (dk_at dksX0_count_4 7 rfl rfl)
theorem dX0_count_110 : decode cX0_count 110 = .ok (.aload_n 0, 1) := dk_42 (dk_at dksX0_count_4 8 rfl rfl)
theorem dX0_count_111 : decode cX0_count 111 = .ok (.getfield 121, 3) := dk_180 0 121 (dk_at dksX0_count_4 9 rfl rfl)
theorem dX0_count_114 : decode cX0_count 114 = .ok (.ifCond .eq 13, 3) := dk_153 0 13 (dk_at dksX0_count_4 12 rfl rfl)
theorem dX0_count_117 : decode cX0_count 117 = .ok (.aload_n 0, 1) := dk_42 (dk_at dksX0_count_4 15 rfl rfl)
theorem dX0_count_118 : decode cX0_count 118 = .ok (.getfield 27, 3) := dk_180 0 27 (dk_at dksX0_count_4 16 rfl rfl)
theorem dX0_count_121 : decode cX0_count 121 = .ok (.getfield 421, 3) := dk_180 1 165 (dk_at dksX0_count_4 19 rfl rfl)
theorem dX0_count_124 : decode cX0_count 124 = .ok (.goto 4, 3) := dk_167 0 4 (dk_at dksX0_count_5 0 rfl rfl)
theorem dX0_count_127 : decode cX0_count 127 = .ok (.iconst 0, 1) := dk_3 (dk_at dksX0_count_5 3 rfl rfl)
theorem dX0_count_128 : decode cX0_count 128 = .ok (.ireturn, 1) := dk_172 (dk_at dksX0_count_5 4 rfl rfl)
theorem dX0_count_129 : decode cX0_count 129 = .ok (.aload_n 0, 1) := dk_42 (dk_at dksX0_count_5 5 rfl rfl)
theorem dX0_count_130 : decode cX0_count 130 = .ok (.getfield 12, 3) := dk_180 0 12 (dk_at dksX0_count_5 6 rfl rfl)
theorem dX0_count_133 : decode cX0_count 133 = .ok (.getfield 476, 3) := dk_180 1 220 (dk_at dksX0_count_5 9 rfl rfl)
theorem dX0_count_136 : decode cX0_count 136 = .ok (.ireturn, 1) := dk_172 (dk_at dksX0_count_5 12 rfl rfl)
theorem dX0_count_137 : decode cX0_count 137 = .ok (.aload_n 0, 1) := dk_42 (dk_at dksX0_count_5 13 rfl rfl)
theorem dX0_count_138 : decode cX0_count 138 = .ok (.getfield 12, 3) := dk_180 0 12 (dk_at dksX0_count_5 14 rfl rfl)
theorem dX0_count_141 : decode cX0_count 141 = .ok (.getfield 555, 3) := dk_180 2 43 (dk_at dksX0_count_5 17 rfl rfl)
theorem dX0_count_144 : decode cX0_count 144 = .ok (.ireturn, 1) := dk_172 (dk_at dksX0_count_5 20 rfl rfl)
theorem dX0_count_145 : decode cX0_count 145 = .ok (.aload_n 0, 1) := dk_42 (dk_at dksX0_count_5 21 rfl rfl)
theorem dX0_count_146 : decode cX0_count 146 = .ok (.getfield 37, 3) := dk_180 0 37 (dk_at dksX0_count_6 0 rfl rfl)
theorem dX0_count_149 : decode cX0_count 149 = .ok (.invokevirtual 503, 3) := dk_182 1 247 (dk_at dksX0_count_6 3 rfl rfl)
theorem dX0_count_152 : decode cX0_count 152 = .ok (.ireturn, 1) := dk_172 (dk_at dksX0_count_6 6 rfl rfl)
theorem dX0_count_153 : decode cX0_count 153 = .ok (.aload_n 0, 1) := dk_42 (dk_at dksX0_count_6 7 rfl rfl)
theorem dX0_count_154 : decode cX0_count 154 = .ok (.getfield 189, 3) := dk_180 0 189 (dk_at dksX0_count_6 8 rfl rfl)
theorem dX0_count_157 : decode cX0_count 157 = .ok (.ireturn, 1) := dk_172 (dk_at dksX0_count_6 11 rfl rfl)
theorem dX0_count_158 : decode cX0_count 158 = .ok (.aload_n 0, 1) := dk_42 (dk_at dksX0_count_6 12 rfl rfl)
theorem dX0_count_159 : decode cX0_count 159 = .ok (.getfield 12, 3) := dk_180 0 12 (dk_at dksX0_count_6 13 rfl rfl)
theorem dX0_count_162 : decode cX0_count 162 = .ok (.getfield 324, 3) := dk_180 1 68 (dk_at dksX0_count_6 16 rfl rfl)
theorem dX0_count_165 : decode cX0_count 165 = .ok (.ireturn, 1) := dk_172 (dk_at dksX0_count_6 19 rfl rfl)
theorem dX0_count_166 : decode cX0_count 166 = .ok (.bipush (-2), 2) := dk_16 254 (dk_at dksX0_count_6 20 rfl rfl)
theorem dX0_count_168 : decode cX0_count 168 = .ok (.ireturn, 1) := dk_172 (dk_at dksX0_count_6 22 rfl rfl)
abbrev cX0_judge : ByteArray := prog_1_method_74_code
def yX0_judge : MethodName := ⟨RX0, "judge", "(II)I"⟩
def dkwX0_judge_5 : List UInt8 := [153, 0, 6, 21, 4, 172, 132, 4, 1, 167, 255, 188, 16, 251, 172]
abbrev dktX0_judge_5 : List UInt8 := dkwX0_judge_5 ++ []
def dkwX0_judge_4 : List UInt8 := [96, 182, 2, 63, 42, 180, 0, 27, 21, 4, 182, 1, 11, 42, 180, 0, 27, 180, 0, 237, 109, 148]
abbrev dktX0_judge_4 : List UInt8 := dkwX0_judge_4 ++ dktX0_judge_5
def dkwX0_judge_3 : List UInt8 := [155, 0, 14, 21, 4, 45, 182, 2, 62, 28, 100, 161, 0, 9, 16, 100, 21, 4, 96, 172, 45, 28, 21, 4]
abbrev dktX0_judge_3 : List UInt8 := dkwX0_judge_3 ++ dktX0_judge_4
def dkwX0_judge_2 : List UInt8 := [159, 0, 6, 16, 253, 172, 3, 54, 4, 21, 4, 42, 180, 0, 12, 180, 0, 131, 162, 0, 62, 28]
abbrev dktX0_judge_2 : List UInt8 := dkwX0_judge_2 ++ dktX0_judge_3
def dkwX0_judge_1 : List UInt8 := [45, 182, 2, 60, 5, 159, 0, 6, 16, 244, 172, 42, 180, 0, 121, 153, 0, 11, 42, 180, 0, 224, 4]
abbrev dktX0_judge_1 : List UInt8 := dkwX0_judge_1 ++ dktX0_judge_2
def dkwX0_judge_0 : List UInt8 := [27, 184, 2, 57, 154, 0, 5, 2, 172, 42, 180, 0, 98, 27, 50, 78, 45, 182, 2, 60, 2, 159, 0, 14]
abbrev dktX0_judge_0 : List UInt8 := dkwX0_judge_0 ++ dktX0_judge_1
theorem dksX0_judge_0 : cX0_judge.data.toList.drop 0 = dktX0_judge_0 := by decide +kernel
theorem dksX0_judge_1 : cX0_judge.data.toList.drop 24 = dktX0_judge_1 := dk_seg dksX0_judge_0 24 rfl rfl
theorem dksX0_judge_2 : cX0_judge.data.toList.drop 47 = dktX0_judge_2 := dk_seg dksX0_judge_1 23 rfl rfl
theorem dksX0_judge_3 : cX0_judge.data.toList.drop 69 = dktX0_judge_3 := dk_seg dksX0_judge_2 22 rfl rfl
theorem dksX0_judge_4 : cX0_judge.data.toList.drop 93 = dktX0_judge_4 := dk_seg dksX0_judge_3 24 rfl rfl
theorem dksX0_judge_5 : cX0_judge.data.toList.drop 115 = dktX0_judge_5 := dk_seg dksX0_judge_4 22 rfl rfl
theorem dX0_judge_0 : decode cX0_judge 0 = .ok (.iload_n 1, 1) := dk_27 (dk_at dksX0_judge_0 0 rfl rfl)
theorem dX0_judge_1 : decode cX0_judge 1 = .ok (.invokestatic 569, 3) := dk_184 2 57 (dk_at dksX0_judge_0 1 rfl rfl)
theorem dX0_judge_4 : decode cX0_judge 4 = .ok (.ifCond .ne 5, 3) := dk_154 0 5 (dk_at dksX0_judge_0 4 rfl rfl)
theorem dX0_judge_7 : decode cX0_judge 7 = .ok (.iconst (-1), 1) := dk_2 (dk_at dksX0_judge_0 7 rfl rfl)
theorem dX0_judge_8 : decode cX0_judge 8 = .ok (.ireturn, 1) := dk_172 (dk_at dksX0_judge_0 8 rfl rfl)
theorem dX0_judge_9 : decode cX0_judge 9 = .ok (.aload_n 0, 1) := dk_42 (dk_at dksX0_judge_0 9 rfl rfl)
theorem dX0_judge_10 : decode cX0_judge 10 = .ok (.getfield 98, 3) := dk_180 0 98 (dk_at dksX0_judge_0 10 rfl rfl)
theorem dX0_judge_13 : decode cX0_judge 13 = .ok (.iload_n 1, 1) := dk_27 (dk_at dksX0_judge_0 13 rfl rfl)
theorem dX0_judge_14 : decode cX0_judge 14 = .ok (.aaload, 1) := dk_50 (dk_at dksX0_judge_0 14 rfl rfl)
theorem dX0_judge_15 : decode cX0_judge 15 = .ok (.astore_n 3, 1) := dk_78 (dk_at dksX0_judge_0 15 rfl rfl)
theorem dX0_judge_16 : decode cX0_judge 16 = .ok (.aload_n 3, 1) := dk_45 (dk_at dksX0_judge_0 16 rfl rfl)
theorem dX0_judge_17 : decode cX0_judge 17 = .ok (.invokevirtual 572, 3) := dk_182 2 60 (dk_at dksX0_judge_0 17 rfl rfl)
theorem dX0_judge_20 : decode cX0_judge 20 = .ok (.iconst (-1), 1) := dk_2 (dk_at dksX0_judge_0 20 rfl rfl)
theorem dX0_judge_21 : decode cX0_judge 21 = .ok (.if_icmp .eq 14, 3) := dk_159 0 14 (dk_at dksX0_judge_0 21 rfl rfl)
theorem dX0_judge_24 : decode cX0_judge 24 = .ok (.aload_n 3, 1) := dk_45 (dk_at dksX0_judge_1 0 rfl rfl)
theorem dX0_judge_25 : decode cX0_judge 25 = .ok (.invokevirtual 572, 3) := dk_182 2 60 (dk_at dksX0_judge_1 1 rfl rfl)
theorem dX0_judge_28 : decode cX0_judge 28 = .ok (.iconst 2, 1) := dk_5 (dk_at dksX0_judge_1 4 rfl rfl)
theorem dX0_judge_29 : decode cX0_judge 29 = .ok (.if_icmp .eq 6, 3) := dk_159 0 6 (dk_at dksX0_judge_1 5 rfl rfl)
theorem dX0_judge_32 : decode cX0_judge 32 = .ok (.bipush (-12), 2) := dk_16 244 (dk_at dksX0_judge_1 8 rfl rfl)
theorem dX0_judge_34 : decode cX0_judge 34 = .ok (.ireturn, 1) := dk_172 (dk_at dksX0_judge_1 10 rfl rfl)
theorem dX0_judge_35 : decode cX0_judge 35 = .ok (.aload_n 0, 1) := dk_42 (dk_at dksX0_judge_1 11 rfl rfl)
theorem dX0_judge_36 : decode cX0_judge 36 = .ok (.getfield 121, 3) := dk_180 0 121 (dk_at dksX0_judge_1 12 rfl rfl)
theorem dX0_judge_39 : decode cX0_judge 39 = .ok (.ifCond .eq 11, 3) := dk_153 0 11 (dk_at dksX0_judge_1 15 rfl rfl)
theorem dX0_judge_42 : decode cX0_judge 42 = .ok (.aload_n 0, 1) := dk_42 (dk_at dksX0_judge_1 18 rfl rfl)
theorem dX0_judge_43 : decode cX0_judge 43 = .ok (.getfield 224, 3) := dk_180 0 224 (dk_at dksX0_judge_1 19 rfl rfl)
theorem dX0_judge_46 : decode cX0_judge 46 = .ok (.iconst 1, 1) := dk_4 (dk_at dksX0_judge_1 22 rfl rfl)
theorem dX0_judge_47 : decode cX0_judge 47 = .ok (.if_icmp .eq 6, 3) := dk_159 0 6 (dk_at dksX0_judge_2 0 rfl rfl)
theorem dX0_judge_50 : decode cX0_judge 50 = .ok (.bipush (-3), 2) := dk_16 253 (dk_at dksX0_judge_2 3 rfl rfl)
theorem dX0_judge_52 : decode cX0_judge 52 = .ok (.ireturn, 1) := dk_172 (dk_at dksX0_judge_2 5 rfl rfl)
theorem dX0_judge_53 : decode cX0_judge 53 = .ok (.iconst 0, 1) := dk_3 (dk_at dksX0_judge_2 6 rfl rfl)
theorem dX0_judge_54 : decode cX0_judge 54 = .ok (.istore 4, 2) := dk_54 4 (dk_at dksX0_judge_2 7 rfl rfl)
theorem dX0_judge_56 : decode cX0_judge 56 = .ok (.iload 4, 2) := dk_21 4 (dk_at dksX0_judge_2 9 rfl rfl)
theorem dX0_judge_58 : decode cX0_judge 58 = .ok (.aload_n 0, 1) := dk_42 (dk_at dksX0_judge_2 11 rfl rfl)
theorem dX0_judge_59 : decode cX0_judge 59 = .ok (.getfield 12, 3) := dk_180 0 12 (dk_at dksX0_judge_2 12 rfl rfl)
theorem dX0_judge_62 : decode cX0_judge 62 = .ok (.getfield 131, 3) := dk_180 0 131 (dk_at dksX0_judge_2 15 rfl rfl)
theorem dX0_judge_65 : decode cX0_judge 65 = .ok (.if_icmp .ge 62, 3) := dk_162 0 62 (dk_at dksX0_judge_2 18 rfl rfl)
theorem dX0_judge_68 : decode cX0_judge 68 = .ok (.iload_n 2, 1) := dk_28 (dk_at dksX0_judge_2 21 rfl rfl)
theorem dX0_judge_69 : decode cX0_judge 69 = .ok (.ifCond .lt 14, 3) := dk_155 0 14 (dk_at dksX0_judge_3 0 rfl rfl)
theorem dX0_judge_72 : decode cX0_judge 72 = .ok (.iload 4, 2) := dk_21 4 (dk_at dksX0_judge_3 3 rfl rfl)
theorem dX0_judge_74 : decode cX0_judge 74 = .ok (.aload_n 3, 1) := dk_45 (dk_at dksX0_judge_3 5 rfl rfl)
theorem dX0_judge_75 : decode cX0_judge 75 = .ok (.invokevirtual 574, 3) := dk_182 2 62 (dk_at dksX0_judge_3 6 rfl rfl)
theorem dX0_judge_78 : decode cX0_judge 78 = .ok (.iload_n 2, 1) := dk_28 (dk_at dksX0_judge_3 9 rfl rfl)
theorem dX0_judge_79 : decode cX0_judge 79 = .ok (.isub, 1) := dk_100 (dk_at dksX0_judge_3 10 rfl rfl)
theorem dX0_judge_80 : decode cX0_judge 80 = .ok (.if_icmp .lt 9, 3) := dk_161 0 9 (dk_at dksX0_judge_3 11 rfl rfl)
theorem dX0_judge_83 : decode cX0_judge 83 = .ok (.bipush 100, 2) := dk_16 100 (dk_at dksX0_judge_3 14 rfl rfl)
theorem dX0_judge_85 : decode cX0_judge 85 = .ok (.iload 4, 2) := dk_21 4 (dk_at dksX0_judge_3 16 rfl rfl)
theorem dX0_judge_87 : decode cX0_judge 87 = .ok (.iadd, 1) := dk_96 (dk_at dksX0_judge_3 18 rfl rfl)
theorem dX0_judge_88 : decode cX0_judge 88 = .ok (.ireturn, 1) := dk_172 (dk_at dksX0_judge_3 19 rfl rfl)
theorem dX0_judge_89 : decode cX0_judge 89 = .ok (.aload_n 3, 1) := dk_45 (dk_at dksX0_judge_3 20 rfl rfl)
theorem dX0_judge_90 : decode cX0_judge 90 = .ok (.iload_n 2, 1) := dk_28 (dk_at dksX0_judge_3 21 rfl rfl)
theorem dX0_judge_91 : decode cX0_judge 91 = .ok (.iload 4, 2) := dk_21 4 (dk_at dksX0_judge_3 22 rfl rfl)
theorem dX0_judge_93 : decode cX0_judge 93 = .ok (.iadd, 1) := dk_96 (dk_at dksX0_judge_4 0 rfl rfl)
theorem dX0_judge_94 : decode cX0_judge 94 = .ok (.invokevirtual 575, 3) := dk_182 2 63 (dk_at dksX0_judge_4 1 rfl rfl)
theorem dX0_judge_97 : decode cX0_judge 97 = .ok (.aload_n 0, 1) := dk_42 (dk_at dksX0_judge_4 4 rfl rfl)
theorem dX0_judge_98 : decode cX0_judge 98 = .ok (.getfield 27, 3) := dk_180 0 27 (dk_at dksX0_judge_4 5 rfl rfl)
theorem dX0_judge_101 : decode cX0_judge 101 = .ok (.iload 4, 2) := dk_21 4 (dk_at dksX0_judge_4 8 rfl rfl)
theorem dX0_judge_103 : decode cX0_judge 103 = .ok (.invokevirtual 267, 3) := dk_182 1 11 (dk_at dksX0_judge_4 10 rfl rfl)
theorem dX0_judge_106 : decode cX0_judge 106 = .ok (.aload_n 0, 1) := dk_42 (dk_at dksX0_judge_4 13 rfl rfl)
theorem dX0_judge_107 : decode cX0_judge 107 = .ok (.getfield 27, 3) := dk_180 0 27 (dk_at dksX0_judge_4 14 rfl rfl)
theorem dX0_judge_110 : decode cX0_judge 110 = .ok (.getfield 237, 3) := dk_180 0 237 (dk_at dksX0_judge_4 17 rfl rfl)
theorem dX0_judge_113 : decode cX0_judge 113 = .ok (.ldiv, 1) := dk_109 (dk_at dksX0_judge_4 20 rfl rfl)
theorem dX0_judge_114 : decode cX0_judge 114 = .ok (.lcmp, 1) := dk_148 (dk_at dksX0_judge_4 21 rfl rfl)
theorem dX0_judge_115 : decode cX0_judge 115 = .ok (.ifCond .eq 6, 3) := dk_153 0 6 (dk_at dksX0_judge_5 0 rfl rfl)
theorem dX0_judge_118 : decode cX0_judge 118 = .ok (.iload 4, 2) := dk_21 4 (dk_at dksX0_judge_5 3 rfl rfl)
theorem dX0_judge_120 : decode cX0_judge 120 = .ok (.ireturn, 1) := dk_172 (dk_at dksX0_judge_5 5 rfl rfl)
theorem dX0_judge_121 : decode cX0_judge 121 = .ok (.iinc 4 1, 3) := dk_132 4 1 (dk_at dksX0_judge_5 6 rfl rfl)
theorem dX0_judge_124 : decode cX0_judge 124 = .ok (.goto (-68), 3) := dk_167 255 188 (dk_at dksX0_judge_5 9 rfl rfl)
theorem dX0_judge_127 : decode cX0_judge 127 = .ok (.bipush (-5), 2) := dk_16 251 (dk_at dksX0_judge_5 12 rfl rfl)
theorem dX0_judge_129 : decode cX0_judge 129 = .ok (.ireturn, 1) := dk_172 (dk_at dksX0_judge_5 14 rfl rfl)
abbrev cX0_isTape : ByteArray := prog_1_method_73_code
def yX0_isTape : MethodName := ⟨RX0, "isTape", "(I)Z"⟩
def dkwX0_isTape_0 : List UInt8 := [26, 133, 9, 20, 0, 125, 184, 0, 127, 172]
abbrev dktX0_isTape_0 : List UInt8 := dkwX0_isTape_0 ++ []
theorem dksX0_isTape_0 : cX0_isTape.data.toList.drop 0 = dktX0_isTape_0 := by decide +kernel
theorem dX0_isTape_0 : decode cX0_isTape 0 = .ok (.iload_n 0, 1) := dk_26 (dk_at dksX0_isTape_0 0 rfl rfl)
theorem dX0_isTape_1 : decode cX0_isTape 1 = .ok (.i2l, 1) := dk_133 (dk_at dksX0_isTape_0 1 rfl rfl)
theorem dX0_isTape_2 : decode cX0_isTape 2 = .ok (.lconst 0, 1) := dk_9 (dk_at dksX0_isTape_0 2 rfl rfl)
theorem dX0_isTape_3 : decode cX0_isTape 3 = .ok (.ldc2_w 125, 3) := dk_20 0 125 (dk_at dksX0_isTape_0 3 rfl rfl)
theorem dX0_isTape_6 : decode cX0_isTape 6 = .ok (.invokestatic 127, 3) := dk_184 0 127 (dk_at dksX0_isTape_0 6 rfl rfl)
theorem dX0_isTape_9 : decode cX0_isTape 9 = .ok (.ireturn, 1) := dk_172 (dk_at dksX0_isTape_0 9 rfl rfl)
abbrev cX0_tape : ByteArray := prog_1_method_75_code
def yX0_tape : MethodName := ⟨RX0, "tape", "(III)I"⟩
def dkwX0_tape_2 : List UInt8 := [167, 0, 8, 58, 4, 16, 242, 172, 4, 172]
abbrev dktX0_tape_2 : List UInt8 := dkwX0_tape_2 ++ []
def dkwX0_tape_1 : List UInt8 := [155, 0, 12, 29, 16, 60, 164, 0, 6, 16, 254, 172, 42, 180, 0, 98, 27, 50, 28, 29, 182, 2, 68]
abbrev dktX0_tape_1 : List UInt8 := dkwX0_tape_1 ++ dktX0_tape_2
def dkwX0_tape_0 : List UInt8 := [27, 184, 2, 57, 154, 0, 5, 2, 172, 28, 133, 20, 2, 66, 20, 1, 238, 184, 0, 127, 153, 0, 13, 28]
abbrev dktX0_tape_0 : List UInt8 := dkwX0_tape_0 ++ dktX0_tape_1
theorem dksX0_tape_0 : cX0_tape.data.toList.drop 0 = dktX0_tape_0 := by decide +kernel
theorem dksX0_tape_1 : cX0_tape.data.toList.drop 24 = dktX0_tape_1 := dk_seg dksX0_tape_0 24 rfl rfl
theorem dksX0_tape_2 : cX0_tape.data.toList.drop 47 = dktX0_tape_2 := dk_seg dksX0_tape_1 23 rfl rfl
theorem dX0_tape_0 : decode cX0_tape 0 = .ok (.iload_n 1, 1) := dk_27 (dk_at dksX0_tape_0 0 rfl rfl)
theorem dX0_tape_1 : decode cX0_tape 1 = .ok (.invokestatic 569, 3) := dk_184 2 57 (dk_at dksX0_tape_0 1 rfl rfl)
theorem dX0_tape_4 : decode cX0_tape 4 = .ok (.ifCond .ne 5, 3) := dk_154 0 5 (dk_at dksX0_tape_0 4 rfl rfl)
theorem dX0_tape_7 : decode cX0_tape 7 = .ok (.iconst (-1), 1) := dk_2 (dk_at dksX0_tape_0 7 rfl rfl)
theorem dX0_tape_8 : decode cX0_tape 8 = .ok (.ireturn, 1) := dk_172 (dk_at dksX0_tape_0 8 rfl rfl)
theorem dX0_tape_9 : decode cX0_tape 9 = .ok (.iload_n 2, 1) := dk_28 (dk_at dksX0_tape_0 9 rfl rfl)
theorem dX0_tape_10 : decode cX0_tape 10 = .ok (.i2l, 1) := dk_133 (dk_at dksX0_tape_0 10 rfl rfl)
theorem dX0_tape_11 : decode cX0_tape 11 = .ok (.ldc2_w 578, 3) := dk_20 2 66 (dk_at dksX0_tape_0 11 rfl rfl)
theorem dX0_tape_14 : decode cX0_tape 14 = .ok (.ldc2_w 494, 3) := dk_20 1 238 (dk_at dksX0_tape_0 14 rfl rfl)
theorem dX0_tape_17 : decode cX0_tape 17 = .ok (.invokestatic 127, 3) := dk_184 0 127 (dk_at dksX0_tape_0 17 rfl rfl)
theorem dX0_tape_20 : decode cX0_tape 20 = .ok (.ifCond .eq 13, 3) := dk_153 0 13 (dk_at dksX0_tape_0 20 rfl rfl)
theorem dX0_tape_23 : decode cX0_tape 23 = .ok (.iload_n 2, 1) := dk_28 (dk_at dksX0_tape_0 23 rfl rfl)
theorem dX0_tape_24 : decode cX0_tape 24 = .ok (.ifCond .lt 12, 3) := dk_155 0 12 (dk_at dksX0_tape_1 0 rfl rfl)
theorem dX0_tape_27 : decode cX0_tape 27 = .ok (.iload_n 3, 1) := dk_29 (dk_at dksX0_tape_1 3 rfl rfl)
theorem dX0_tape_28 : decode cX0_tape 28 = .ok (.bipush 60, 2) := dk_16 60 (dk_at dksX0_tape_1 4 rfl rfl)
theorem dX0_tape_30 : decode cX0_tape 30 = .ok (.if_icmp .le 6, 3) := dk_164 0 6 (dk_at dksX0_tape_1 6 rfl rfl)
theorem dX0_tape_33 : decode cX0_tape 33 = .ok (.bipush (-2), 2) := dk_16 254 (dk_at dksX0_tape_1 9 rfl rfl)
theorem dX0_tape_35 : decode cX0_tape 35 = .ok (.ireturn, 1) := dk_172 (dk_at dksX0_tape_1 11 rfl rfl)
theorem dX0_tape_36 : decode cX0_tape 36 = .ok (.aload_n 0, 1) := dk_42 (dk_at dksX0_tape_1 12 rfl rfl)
theorem dX0_tape_37 : decode cX0_tape 37 = .ok (.getfield 98, 3) := dk_180 0 98 (dk_at dksX0_tape_1 13 rfl rfl)
theorem dX0_tape_40 : decode cX0_tape 40 = .ok (.iload_n 1, 1) := dk_27 (dk_at dksX0_tape_1 16 rfl rfl)
theorem dX0_tape_41 : decode cX0_tape 41 = .ok (.aaload, 1) := dk_50 (dk_at dksX0_tape_1 17 rfl rfl)
theorem dX0_tape_42 : decode cX0_tape 42 = .ok (.iload_n 2, 1) := dk_28 (dk_at dksX0_tape_1 18 rfl rfl)
theorem dX0_tape_43 : decode cX0_tape 43 = .ok (.iload_n 3, 1) := dk_29 (dk_at dksX0_tape_1 19 rfl rfl)
theorem dX0_tape_44 : decode cX0_tape 44 = .ok (.invokevirtual 580, 3) := dk_182 2 68 (dk_at dksX0_tape_1 20 rfl rfl)
theorem dX0_tape_47 : decode cX0_tape 47 = .ok (.goto 8, 3) := dk_167 0 8 (dk_at dksX0_tape_2 0 rfl rfl)
theorem dX0_tape_50 : decode cX0_tape 50 = .ok (.astore 4, 2) := dk_58 4 (dk_at dksX0_tape_2 3 rfl rfl)
theorem dX0_tape_52 : decode cX0_tape 52 = .ok (.bipush (-14), 2) := dk_16 242 (dk_at dksX0_tape_2 5 rfl rfl)
theorem dX0_tape_54 : decode cX0_tape 54 = .ok (.ireturn, 1) := dk_172 (dk_at dksX0_tape_2 7 rfl rfl)
theorem dX0_tape_55 : decode cX0_tape 55 = .ok (.iconst 1, 1) := dk_4 (dk_at dksX0_tape_2 8 rfl rfl)
theorem dX0_tape_56 : decode cX0_tape 56 = .ok (.ireturn, 1) := dk_172 (dk_at dksX0_tape_2 9 rfl rfl)
abbrev cX0_item : ByteArray := prog_1_method_76_code
def yX0_item : MethodName := ⟨RX0, "item", "(IIJ)I"⟩
def dkwX0_item_1 : List UInt8 := [42, 180, 0, 98, 27, 50, 28, 33, 182, 2, 77, 167, 0, 8, 58, 5, 16, 243, 172, 4, 172]
abbrev dktX0_item_1 : List UInt8 := dkwX0_item_1 ++ []
def dkwX0_item_0 : List UInt8 := [27, 184, 2, 57, 154, 0, 5, 2, 172, 42, 180, 0, 98, 27, 50, 180, 2, 73, 199, 0, 6, 16, 245, 172]
abbrev dktX0_item_0 : List UInt8 := dkwX0_item_0 ++ dktX0_item_1
theorem dksX0_item_0 : cX0_item.data.toList.drop 0 = dktX0_item_0 := by decide +kernel
theorem dksX0_item_1 : cX0_item.data.toList.drop 24 = dktX0_item_1 := dk_seg dksX0_item_0 24 rfl rfl
theorem dX0_item_0 : decode cX0_item 0 = .ok (.iload_n 1, 1) := dk_27 (dk_at dksX0_item_0 0 rfl rfl)
theorem dX0_item_1 : decode cX0_item 1 = .ok (.invokestatic 569, 3) := dk_184 2 57 (dk_at dksX0_item_0 1 rfl rfl)
theorem dX0_item_4 : decode cX0_item 4 = .ok (.ifCond .ne 5, 3) := dk_154 0 5 (dk_at dksX0_item_0 4 rfl rfl)
theorem dX0_item_7 : decode cX0_item 7 = .ok (.iconst (-1), 1) := dk_2 (dk_at dksX0_item_0 7 rfl rfl)
theorem dX0_item_8 : decode cX0_item 8 = .ok (.ireturn, 1) := dk_172 (dk_at dksX0_item_0 8 rfl rfl)
theorem dX0_item_9 : decode cX0_item 9 = .ok (.aload_n 0, 1) := dk_42 (dk_at dksX0_item_0 9 rfl rfl)
theorem dX0_item_10 : decode cX0_item 10 = .ok (.getfield 98, 3) := dk_180 0 98 (dk_at dksX0_item_0 10 rfl rfl)
theorem dX0_item_13 : decode cX0_item 13 = .ok (.iload_n 1, 1) := dk_27 (dk_at dksX0_item_0 13 rfl rfl)
theorem dX0_item_14 : decode cX0_item 14 = .ok (.aaload, 1) := dk_50 (dk_at dksX0_item_0 14 rfl rfl)
theorem dX0_item_15 : decode cX0_item 15 = .ok (.getfield 585, 3) := dk_180 2 73 (dk_at dksX0_item_0 15 rfl rfl)
theorem dX0_item_18 : decode cX0_item 18 = .ok (.ifnonnull 6, 3) := dk_199 0 6 (dk_at dksX0_item_0 18 rfl rfl)
theorem dX0_item_21 : decode cX0_item 21 = .ok (.bipush (-11), 2) := dk_16 245 (dk_at dksX0_item_0 21 rfl rfl)
theorem dX0_item_23 : decode cX0_item 23 = .ok (.ireturn, 1) := dk_172 (dk_at dksX0_item_0 23 rfl rfl)
theorem dX0_item_24 : decode cX0_item 24 = .ok (.aload_n 0, 1) := dk_42 (dk_at dksX0_item_1 0 rfl rfl)
theorem dX0_item_25 : decode cX0_item 25 = .ok (.getfield 98, 3) := dk_180 0 98 (dk_at dksX0_item_1 1 rfl rfl)
theorem dX0_item_28 : decode cX0_item 28 = .ok (.iload_n 1, 1) := dk_27 (dk_at dksX0_item_1 4 rfl rfl)
theorem dX0_item_29 : decode cX0_item 29 = .ok (.aaload, 1) := dk_50 (dk_at dksX0_item_1 5 rfl rfl)
theorem dX0_item_30 : decode cX0_item 30 = .ok (.iload_n 2, 1) := dk_28 (dk_at dksX0_item_1 6 rfl rfl)
theorem dX0_item_31 : decode cX0_item 31 = .ok (.lload_n 3, 1) := dk_33 (dk_at dksX0_item_1 7 rfl rfl)
theorem dX0_item_32 : decode cX0_item 32 = .ok (.invokevirtual 589, 3) := dk_182 2 77 (dk_at dksX0_item_1 8 rfl rfl)
theorem dX0_item_35 : decode cX0_item 35 = .ok (.goto 8, 3) := dk_167 0 8 (dk_at dksX0_item_1 11 rfl rfl)
theorem dX0_item_38 : decode cX0_item 38 = .ok (.astore 5, 2) := dk_58 5 (dk_at dksX0_item_1 14 rfl rfl)
theorem dX0_item_40 : decode cX0_item 40 = .ok (.bipush (-13), 2) := dk_16 243 (dk_at dksX0_item_1 16 rfl rfl)
theorem dX0_item_42 : decode cX0_item 42 = .ok (.ireturn, 1) := dk_172 (dk_at dksX0_item_1 18 rfl rfl)
theorem dX0_item_43 : decode cX0_item 43 = .ok (.iconst 1, 1) := dk_4 (dk_at dksX0_item_1 19 rfl rfl)
theorem dX0_item_44 : decode cX0_item 44 = .ok (.ireturn, 1) := dk_172 (dk_at dksX0_item_1 20 rfl rfl)
abbrev cX0_peek : ByteArray := prog_1_method_77_code
def yX0_peek : MethodName := ⟨RX0, "peek", "(II)J"⟩
def dkwX0_peek_1 : List UInt8 := [184, 0, 127, 153, 0, 16, 42, 180, 0, 98, 27, 50, 28, 182, 2, 63, 167, 0, 6, 20, 0, 232, 173]
abbrev dktX0_peek_1 : List UInt8 := dkwX0_peek_1 ++ []
def dkwX0_peek_0 : List UInt8 := [27, 184, 2, 57, 153, 0, 37, 28, 133, 9, 42, 180, 0, 98, 27, 50, 182, 2, 62, 4, 100, 133]
abbrev dktX0_peek_0 : List UInt8 := dkwX0_peek_0 ++ dktX0_peek_1
theorem dksX0_peek_0 : cX0_peek.data.toList.drop 0 = dktX0_peek_0 := by decide +kernel
theorem dksX0_peek_1 : cX0_peek.data.toList.drop 22 = dktX0_peek_1 := dk_seg dksX0_peek_0 22 rfl rfl
theorem dX0_peek_0 : decode cX0_peek 0 = .ok (.iload_n 1, 1) := dk_27 (dk_at dksX0_peek_0 0 rfl rfl)
theorem dX0_peek_1 : decode cX0_peek 1 = .ok (.invokestatic 569, 3) := dk_184 2 57 (dk_at dksX0_peek_0 1 rfl rfl)
theorem dX0_peek_4 : decode cX0_peek 4 = .ok (.ifCond .eq 37, 3) := dk_153 0 37 (dk_at dksX0_peek_0 4 rfl rfl)
theorem dX0_peek_7 : decode cX0_peek 7 = .ok (.iload_n 2, 1) := dk_28 (dk_at dksX0_peek_0 7 rfl rfl)
theorem dX0_peek_8 : decode cX0_peek 8 = .ok (.i2l, 1) := dk_133 (dk_at dksX0_peek_0 8 rfl rfl)
theorem dX0_peek_9 : decode cX0_peek 9 = .ok (.lconst 0, 1) := dk_9 (dk_at dksX0_peek_0 9 rfl rfl)
theorem dX0_peek_10 : decode cX0_peek 10 = .ok (.aload_n 0, 1) := dk_42 (dk_at dksX0_peek_0 10 rfl rfl)
theorem dX0_peek_11 : decode cX0_peek 11 = .ok (.getfield 98, 3) := dk_180 0 98 (dk_at dksX0_peek_0 11 rfl rfl)
theorem dX0_peek_14 : decode cX0_peek 14 = .ok (.iload_n 1, 1) := dk_27 (dk_at dksX0_peek_0 14 rfl rfl)
theorem dX0_peek_15 : decode cX0_peek 15 = .ok (.aaload, 1) := dk_50 (dk_at dksX0_peek_0 15 rfl rfl)
theorem dX0_peek_16 : decode cX0_peek 16 = .ok (.invokevirtual 574, 3) := dk_182 2 62 (dk_at dksX0_peek_0 16 rfl rfl)
theorem dX0_peek_19 : decode cX0_peek 19 = .ok (.iconst 1, 1) := dk_4 (dk_at dksX0_peek_0 19 rfl rfl)
theorem dX0_peek_20 : decode cX0_peek 20 = .ok (.isub, 1) := dk_100 (dk_at dksX0_peek_0 20 rfl rfl)
theorem dX0_peek_21 : decode cX0_peek 21 = .ok (.i2l, 1) := dk_133 (dk_at dksX0_peek_0 21 rfl rfl)
theorem dX0_peek_22 : decode cX0_peek 22 = .ok (.invokestatic 127, 3) := dk_184 0 127 (dk_at dksX0_peek_1 0 rfl rfl)
theorem dX0_peek_25 : decode cX0_peek 25 = .ok (.ifCond .eq 16, 3) := dk_153 0 16 (dk_at dksX0_peek_1 3 rfl rfl)
theorem dX0_peek_28 : decode cX0_peek 28 = .ok (.aload_n 0, 1) := dk_42 (dk_at dksX0_peek_1 6 rfl rfl)
theorem dX0_peek_29 : decode cX0_peek 29 = .ok (.getfield 98, 3) := dk_180 0 98 (dk_at dksX0_peek_1 7 rfl rfl)
theorem dX0_peek_32 : decode cX0_peek 32 = .ok (.iload_n 1, 1) := dk_27 (dk_at dksX0_peek_1 10 rfl rfl)
theorem dX0_peek_33 : decode cX0_peek 33 = .ok (.aaload, 1) := dk_50 (dk_at dksX0_peek_1 11 rfl rfl)
theorem dX0_peek_34 : decode cX0_peek 34 = .ok (.iload_n 2, 1) := dk_28 (dk_at dksX0_peek_1 12 rfl rfl)
theorem dX0_peek_35 : decode cX0_peek 35 = .ok (.invokevirtual 575, 3) := dk_182 2 63 (dk_at dksX0_peek_1 13 rfl rfl)
theorem dX0_peek_38 : decode cX0_peek 38 = .ok (.goto 6, 3) := dk_167 0 6 (dk_at dksX0_peek_1 16 rfl rfl)
theorem dX0_peek_41 : decode cX0_peek 41 = .ok (.ldc2_w 232, 3) := dk_20 0 232 (dk_at dksX0_peek_1 19 rfl rfl)
theorem dX0_peek_44 : decode cX0_peek 44 = .ok (.lreturn, 1) := dk_173 (dk_at dksX0_peek_1 22 rfl rfl)
abbrev cX0_shift : ByteArray := prog_1_method_78_code
def yX0_shift : MethodName := ⟨RX0, "shift", "(IIIII)I"⟩
def dkwX0_shift_3 : List UInt8 := [184, 2, 83, 167, 0, 13, 58, 6, 16, 244, 172, 58, 6, 16, 243, 172, 21, 5, 172]
abbrev dktX0_shift_3 : List UInt8 := dkwX0_shift_3 ++ []
def dkwX0_shift_2 : List UInt8 := [180, 0, 98, 27, 50, 180, 2, 73, 28, 42, 180, 0, 98, 29, 50, 180, 2, 73, 21, 4, 21, 5]
abbrev dktX0_shift_2 : List UInt8 := dkwX0_shift_2 ++ dktX0_shift_3
def dkwX0_shift_1 : List UInt8 := [180, 2, 73, 198, 0, 15, 42, 180, 0, 98, 29, 50, 180, 2, 73, 199, 0, 6, 16, 245, 172, 42]
abbrev dktX0_shift_1 : List UInt8 := dkwX0_shift_1 ++ dktX0_shift_2
def dkwX0_shift_0 : List UInt8 := [27, 184, 2, 57, 153, 0, 10, 29, 184, 2, 57, 154, 0, 5, 2, 172, 42, 180, 0, 98, 27, 50]
abbrev dktX0_shift_0 : List UInt8 := dkwX0_shift_0 ++ dktX0_shift_1
theorem dksX0_shift_0 : cX0_shift.data.toList.drop 0 = dktX0_shift_0 := by decide +kernel
theorem dksX0_shift_1 : cX0_shift.data.toList.drop 22 = dktX0_shift_1 := dk_seg dksX0_shift_0 22 rfl rfl
theorem dksX0_shift_2 : cX0_shift.data.toList.drop 44 = dktX0_shift_2 := dk_seg dksX0_shift_1 22 rfl rfl
theorem dksX0_shift_3 : cX0_shift.data.toList.drop 66 = dktX0_shift_3 := dk_seg dksX0_shift_2 22 rfl rfl
theorem dX0_shift_0 : decode cX0_shift 0 = .ok (.iload_n 1, 1) := dk_27 (dk_at dksX0_shift_0 0 rfl rfl)
theorem dX0_shift_1 : decode cX0_shift 1 = .ok (.invokestatic 569, 3) := dk_184 2 57 (dk_at dksX0_shift_0 1 rfl rfl)
theorem dX0_shift_4 : decode cX0_shift 4 = .ok (.ifCond .eq 10, 3) := dk_153 0 10 (dk_at dksX0_shift_0 4 rfl rfl)
theorem dX0_shift_7 : decode cX0_shift 7 = .ok (.iload_n 3, 1) := dk_29 (dk_at dksX0_shift_0 7 rfl rfl)
theorem dX0_shift_8 : decode cX0_shift 8 = .ok (.invokestatic 569, 3) := dk_184 2 57 (dk_at dksX0_shift_0 8 rfl rfl)
theorem dX0_shift_11 : decode cX0_shift 11 = .ok (.ifCond .ne 5, 3) := dk_154 0 5 (dk_at dksX0_shift_0 11 rfl rfl)
theorem dX0_shift_14 : decode cX0_shift 14 = .ok (.iconst (-1), 1) := dk_2 (dk_at dksX0_shift_0 14 rfl rfl)
theorem dX0_shift_15 : decode cX0_shift 15 = .ok (.ireturn, 1) := dk_172 (dk_at dksX0_shift_0 15 rfl rfl)
theorem dX0_shift_16 : decode cX0_shift 16 = .ok (.aload_n 0, 1) := dk_42 (dk_at dksX0_shift_0 16 rfl rfl)
theorem dX0_shift_17 : decode cX0_shift 17 = .ok (.getfield 98, 3) := dk_180 0 98 (dk_at dksX0_shift_0 17 rfl rfl)
theorem dX0_shift_20 : decode cX0_shift 20 = .ok (.iload_n 1, 1) := dk_27 (dk_at dksX0_shift_0 20 rfl rfl)
theorem dX0_shift_21 : decode cX0_shift 21 = .ok (.aaload, 1) := dk_50 (dk_at dksX0_shift_0 21 rfl rfl)
theorem dX0_shift_22 : decode cX0_shift 22 = .ok (.getfield 585, 3) := dk_180 2 73 (dk_at dksX0_shift_1 0 rfl rfl)
theorem dX0_shift_25 : decode cX0_shift 25 = .ok (.ifnull 15, 3) := dk_198 0 15 (dk_at dksX0_shift_1 3 rfl rfl)
theorem dX0_shift_28 : decode cX0_shift 28 = .ok (.aload_n 0, 1) := dk_42 (dk_at dksX0_shift_1 6 rfl rfl)
theorem dX0_shift_29 : decode cX0_shift 29 = .ok (.getfield 98, 3) := dk_180 0 98 (dk_at dksX0_shift_1 7 rfl rfl)
theorem dX0_shift_32 : decode cX0_shift 32 = .ok (.iload_n 3, 1) := dk_29 (dk_at dksX0_shift_1 10 rfl rfl)
theorem dX0_shift_33 : decode cX0_shift 33 = .ok (.aaload, 1) := dk_50 (dk_at dksX0_shift_1 11 rfl rfl)
theorem dX0_shift_34 : decode cX0_shift 34 = .ok (.getfield 585, 3) := dk_180 2 73 (dk_at dksX0_shift_1 12 rfl rfl)
theorem dX0_shift_37 : decode cX0_shift 37 = .ok (.ifnonnull 6, 3) := dk_199 0 6 (dk_at dksX0_shift_1 15 rfl rfl)
theorem dX0_shift_40 : decode cX0_shift 40 = .ok (.bipush (-11), 2) := dk_16 245 (dk_at dksX0_shift_1 18 rfl rfl)
theorem dX0_shift_42 : decode cX0_shift 42 = .ok (.ireturn, 1) := dk_172 (dk_at dksX0_shift_1 20 rfl rfl)
theorem dX0_shift_43 : decode cX0_shift 43 = .ok (.aload_n 0, 1) := dk_42 (dk_at dksX0_shift_1 21 rfl rfl)
theorem dX0_shift_44 : decode cX0_shift 44 = .ok (.getfield 98, 3) := dk_180 0 98 (dk_at dksX0_shift_2 0 rfl rfl)
theorem dX0_shift_47 : decode cX0_shift 47 = .ok (.iload_n 1, 1) := dk_27 (dk_at dksX0_shift_2 3 rfl rfl)
theorem dX0_shift_48 : decode cX0_shift 48 = .ok (.aaload, 1) := dk_50 (dk_at dksX0_shift_2 4 rfl rfl)
theorem dX0_shift_49 : decode cX0_shift 49 = .ok (.getfield 585, 3) := dk_180 2 73 (dk_at dksX0_shift_2 5 rfl rfl)
theorem dX0_shift_52 : decode cX0_shift 52 = .ok (.iload_n 2, 1) := dk_28 (dk_at dksX0_shift_2 8 rfl rfl)
theorem dX0_shift_53 : decode cX0_shift 53 = .ok (.aload_n 0, 1) := dk_42 (dk_at dksX0_shift_2 9 rfl rfl)
theorem dX0_shift_54 : decode cX0_shift 54 = .ok (.getfield 98, 3) := dk_180 0 98 (dk_at dksX0_shift_2 10 rfl rfl)
theorem dX0_shift_57 : decode cX0_shift 57 = .ok (.iload_n 3, 1) := dk_29 (dk_at dksX0_shift_2 13 rfl rfl)
theorem dX0_shift_58 : decode cX0_shift 58 = .ok (.aaload, 1) := dk_50 (dk_at dksX0_shift_2 14 rfl rfl)
theorem dX0_shift_59 : decode cX0_shift 59 = .ok (.getfield 585, 3) := dk_180 2 73 (dk_at dksX0_shift_2 15 rfl rfl)
theorem dX0_shift_62 : decode cX0_shift 62 = .ok (.iload 4, 2) := dk_21 4 (dk_at dksX0_shift_2 18 rfl rfl)
theorem dX0_shift_64 : decode cX0_shift 64 = .ok (.iload 5, 2) := dk_21 5 (dk_at dksX0_shift_2 20 rfl rfl)
theorem dX0_shift_66 : decode cX0_shift 66 = .ok (.invokestatic 595, 3) := dk_184 2 83 (dk_at dksX0_shift_3 0 rfl rfl)
theorem dX0_shift_69 : decode cX0_shift 69 = .ok (.goto 13, 3) := dk_167 0 13 (dk_at dksX0_shift_3 3 rfl rfl)
theorem dX0_shift_72 : decode cX0_shift 72 = .ok (.astore 6, 2) := dk_58 6 (dk_at dksX0_shift_3 6 rfl rfl)
theorem dX0_shift_74 : decode cX0_shift 74 = .ok (.bipush (-12), 2) := dk_16 244 (dk_at dksX0_shift_3 8 rfl rfl)
theorem dX0_shift_76 : decode cX0_shift 76 = .ok (.ireturn, 1) := dk_172 (dk_at dksX0_shift_3 10 rfl rfl)
theorem dX0_shift_77 : decode cX0_shift 77 = .ok (.astore 6, 2) := dk_58 6 (dk_at dksX0_shift_3 11 rfl rfl)
theorem dX0_shift_79 : decode cX0_shift 79 = .ok (.bipush (-13), 2) := dk_16 243 (dk_at dksX0_shift_3 13 rfl rfl)
theorem dX0_shift_81 : decode cX0_shift 81 = .ok (.ireturn, 1) := dk_172 (dk_at dksX0_shift_3 15 rfl rfl)
theorem dX0_shift_82 : decode cX0_shift 82 = .ok (.iload 5, 2) := dk_21 5 (dk_at dksX0_shift_3 16 rfl rfl)
theorem dX0_shift_84 : decode cX0_shift 84 = .ok (.ireturn, 1) := dk_172 (dk_at dksX0_shift_3 18 rfl rfl)
theorem q114 : (Jvm.Cond.initialized "WholePacks") ∈ lw_all := lw_g (lw_at lw_m1 1 rfl) rfl
theorem q154 : (Jvm.Cond.instantiable "WholePacks" (25 : Nat)) ∈ lw_all := lw_g (lw_at lw_m1 41 rfl) rfl
theorem q156 : (Jvm.Cond.instanceMethod ({ cls := "WholePacks", name := "<init>", desc := "()V" } : Jvm.MethodName)) ∈ lw_all := lw_g (lw_at lw_m1 43 rfl) rfl
theorem q157 : (Jvm.Cond.code ({ cls := "WholePacks", name := "<init>", desc := "()V" } : Jvm.MethodName) prog_1_method_1_code (2 : Nat) (Option.none : Option Jvm.ClassFile.FieldType)) ∈ lw_all := lw_g (lw_at lw_m1 44 rfl) rfl
theorem q158 : (Jvm.Cond.methodLink "WholePacks" (3 : Nat) ({ cls := "java/lang/Object", name := "<init>", desc := "()V" } : Jvm.MethodName)) ∈ lw_all := lw_g (lw_at lw_m1 45 rfl) rfl
theorem q161 : (Jvm.Cond.classLink "WholePacks" (9 : Nat) "WholePacks$Desk") ∈ lw_all := lw_g (lw_at lw_m1 48 rfl) rfl
theorem q163 : (Jvm.Cond.methodLink "WholePacks" (11 : Nat) ({ cls := "WholePacks$Desk", name := "<init>", desc := "()V" } : Jvm.MethodName)) ∈ lw_all := lw_g (lw_at lw_m1 50 rfl) rfl
theorem q176 : (Jvm.Cond.fieldLinkNest "WholePacks" (215 : Nat) "WholePacks$Rule" "sort" "I" "WholePacks") ∈ lw_tbl := lw_at lw_m1 63 rfl
theorem q179 : (Jvm.Cond.fieldLinkNest "WholePacks" (181 : Nat) "WholePacks$Rule" "bound" "I" "WholePacks") ∈ lw_tbl := lw_at lw_m1 66 rfl
theorem q182 : (Jvm.Cond.fieldLinkNest "WholePacks" (176 : Nat) "WholePacks$Rule" "factors" "[I" "WholePacks") ∈ lw_tbl := lw_at lw_m1 69 rfl
theorem q193 : (Jvm.Cond.fieldLinkNest "WholePacks" (131 : Nat) "WholePacks$Desk" "n" "I" "WholePacks") ∈ lw_tbl := lw_at lw_m1 80 rfl
theorem q196 : (Jvm.Cond.fieldLinkNest "WholePacks" (158 : Nat) "WholePacks$Desk" "ruleMany" "I" "WholePacks") ∈ lw_tbl := lw_at lw_m1 83 rfl
theorem q198 : (Jvm.Cond.fieldLinkNest "WholePacks" (316 : Nat) "WholePacks$Desk" "by" "I" "WholePacks") ∈ lw_tbl := lw_at lw_m1 85 rfl
theorem q200 : (Jvm.Cond.fieldLinkNest "WholePacks" (324 : Nat) "WholePacks$Desk" "box" "I" "WholePacks") ∈ lw_tbl := lw_at lw_m1 87 rfl
theorem q202 : (Jvm.Cond.fieldLinkNest "WholePacks" (476 : Nat) "WholePacks$Desk" "seenMany" "I" "WholePacks") ∈ lw_tbl := lw_at lw_m1 89 rfl
theorem q204 : (Jvm.Cond.fieldLinkNest "WholePacks" (555 : Nat) "WholePacks$Desk" "planMany" "I" "WholePacks") ∈ lw_tbl := lw_at lw_m1 91 rfl
theorem q207 : (Jvm.Cond.fieldLinkNest "WholePacks" (151 : Nat) "WholePacks$Desk" "costs" "[I" "WholePacks") ∈ lw_tbl := lw_at lw_m1 94 rfl
theorem q210 : (Jvm.Cond.fieldLinkNest "WholePacks" (172 : Nat) "WholePacks$Desk" "rules" "[LWholePacks$Rule;" "WholePacks") ∈ lw_tbl := lw_at lw_m1 97 rfl
theorem q212 : (Jvm.Cond.fieldLinkNest "WholePacks" (184 : Nat) "WholePacks$Desk" "hands" "[I" "WholePacks") ∈ lw_tbl := lw_at lw_m1 99 rfl
theorem q214 : (Jvm.Cond.fieldLinkNest "WholePacks" (479 : Nat) "WholePacks$Desk" "seen" "[I" "WholePacks") ∈ lw_tbl := lw_at lw_m1 101 rfl
theorem q216 : (Jvm.Cond.fieldLinkNest "WholePacks" (558 : Nat) "WholePacks$Desk" "plans" "[I" "WholePacks") ∈ lw_tbl := lw_at lw_m1 103 rfl
theorem q240 : (Jvm.Cond.classLink "WholePacks" (24 : Nat) "WholePacks$Table") ∈ lw_all := lw_g (lw_at lw_m1 127 rfl) rfl
theorem q242 : (Jvm.Cond.methodLink "WholePacks" (26 : Nat) ({ cls := "WholePacks$Table", name := "<init>", desc := "()V" } : Jvm.MethodName)) ∈ lw_all := lw_g (lw_at lw_m1 129 rfl) rfl
theorem q255 : (Jvm.Cond.fieldLinkNest "WholePacks" (293 : Nat) "WholePacks$Cut" "points" "[J" "WholePacks") ∈ lw_tbl := lw_at lw_m1 142 rfl
theorem q258 : (Jvm.Cond.fieldLinkNest "WholePacks" (288 : Nat) "WholePacks$Cut" "limit" "J" "WholePacks") ∈ lw_tbl := lw_at lw_m1 145 rfl
theorem q260 : (Jvm.Cond.fieldLinkNest "WholePacks" (301 : Nat) "WholePacks$Cut" "below" "J" "WholePacks") ∈ lw_tbl := lw_at lw_m1 147 rfl
theorem q263 : (Jvm.Cond.fieldLinkNest "WholePacks" (298 : Nat) "WholePacks$Cut" "weights" "[J" "WholePacks") ∈ lw_tbl := lw_at lw_m1 150 rfl
theorem q277 : (Jvm.Cond.fieldLinkNest "WholePacks" (229 : Nat) "WholePacks$Table" "rows" "I" "WholePacks") ∈ lw_tbl := lw_at lw_m1 164 rfl
theorem q279 : (Jvm.Cond.fieldLinkNest "WholePacks" (421 : Nat) "WholePacks$Table" "pivots" "I" "WholePacks") ∈ lw_tbl := lw_at lw_m1 166 rfl
theorem q281 : (Jvm.Cond.fieldLinkNest "WholePacks" (278 : Nat) "WholePacks$Table" "cutMany" "I" "WholePacks") ∈ lw_tbl := lw_at lw_m1 168 rfl
theorem q284 : (Jvm.Cond.fieldLinkNest "WholePacks" (237 : Nat) "WholePacks$Table" "below" "J" "WholePacks") ∈ lw_tbl := lw_at lw_m1 171 rfl
theorem q287 : (Jvm.Cond.fieldLinkNest "WholePacks" (241 : Nat) "WholePacks$Table" "base" "J" "WholePacks") ∈ lw_tbl := lw_at lw_m1 174 rfl
theorem q290 : (Jvm.Cond.fieldLinkNest "WholePacks" (251 : Nat) "WholePacks$Table" "rights" "[J" "WholePacks") ∈ lw_tbl := lw_at lw_m1 177 rfl
theorem q292 : (Jvm.Cond.fieldLinkNest "WholePacks" (244 : Nat) "WholePacks$Table" "rises" "[J" "WholePacks") ∈ lw_tbl := lw_at lw_m1 179 rfl
theorem q294 : (Jvm.Cond.fieldLinkNest "WholePacks" (248 : Nat) "WholePacks$Table" "rowOwners" "[I" "WholePacks") ∈ lw_tbl := lw_at lw_m1 181 rfl
theorem q296 : (Jvm.Cond.fieldLinkNest "WholePacks" (234 : Nat) "WholePacks$Table" "columnOwners" "[I" "WholePacks") ∈ lw_tbl := lw_at lw_m1 183 rfl
theorem q298 : (Jvm.Cond.fieldLinkNest "WholePacks" (284 : Nat) "WholePacks$Table" "cuts" "[LWholePacks$Cut;" "WholePacks") ∈ lw_tbl := lw_at lw_m1 185 rfl
theorem q324 : (Jvm.Cond.classLink "WholePacks" (34 : Nat) "java/util/TreeMap") ∈ lw_all := lw_g (lw_at lw_m1 211 rfl) rfl
theorem q326 : (Jvm.Cond.methodLink "WholePacks" (36 : Nat) ({ cls := "java/util/TreeMap", name := "<init>", desc := "()V" } : Jvm.MethodName)) ∈ lw_all := lw_g (lw_at lw_m1 213 rfl) rfl
theorem q358 : (Jvm.Cond.classLink "WholePacks" (44 : Nat) "WholePacks$Left") ∈ lw_all := lw_g (lw_at lw_m2 5 rfl) rfl
theorem q360 : (Jvm.Cond.classLink "WholePacks" (50 : Nat) "WholePacks$Change") ∈ lw_all := lw_g (lw_at lw_m2 7 rfl) rfl
theorem q362 : (Jvm.Cond.classLink "WholePacks" (64 : Nat) "WholePacks$Found") ∈ lw_all := lw_g (lw_at lw_m2 9 rfl) rfl
theorem q364 : (Jvm.Cond.classLink "WholePacks" (70 : Nat) "java/util/PriorityQueue") ∈ lw_all := lw_g (lw_at lw_m2 11 rfl) rfl
theorem q366 : (Jvm.Cond.classLink "WholePacks" (72 : Nat) "WholePacks$Dearer") ∈ lw_all := lw_g (lw_at lw_m2 13 rfl) rfl
theorem q368 : (Jvm.Cond.methodLinkNest "WholePacks" (74 : Nat) ({ cls := "WholePacks$Dearer", name := "<init>", desc := "()V" } : Jvm.MethodName) "WholePacks") ∈ lw_tbl := lw_at lw_m2 15 rfl
theorem q374 : (Jvm.Cond.methodLink "WholePacks" (75 : Nat) ({ cls := "java/util/PriorityQueue", name := "<init>", desc := "(Ljava/util/Comparator;)V" } : Jvm.MethodName)) ∈ lw_all := lw_g (lw_at lw_m2 21 rfl) rfl
theorem q402 : (Jvm.Cond.classLink "WholePacks" (85 : Nat) "WholePacks$Node") ∈ lw_all := lw_g (lw_at lw_m2 49 rfl) rfl
theorem q404 : (Jvm.Cond.methodLink "WholePacks" (91 : Nat) ({ cls := "java/util/PriorityQueue", name := "<init>", desc := "()V" } : Jvm.MethodName)) ∈ lw_all := lw_g (lw_at lw_m2 51 rfl) rfl
theorem q407 : (Jvm.Cond.classLink "WholePacks" (95 : Nat) "WholePacks$Tape") ∈ lw_all := lw_g (lw_at lw_m2 54 rfl) rfl
theorem q410 : (Jvm.Cond.methodLinkNest "WholePacks" (97 : Nat) ({ cls := "WholePacks$Tape", name := "<init>", desc := "()V" } : Jvm.MethodName) "WholePacks") ∈ lw_tbl := lw_at lw_m2 57 rfl
theorem q415 : (Jvm.Cond.fieldLinkNest "WholePacks" (585 : Nat) "WholePacks$Tape" "row" "Ljava/lang/Object;" "WholePacks") ∈ lw_tbl := lw_at lw_m2 62 rfl
theorem q419 : (Jvm.Cond.static ({ cls := "WholePacks", name := "lambda$new$0", desc := "(JJ)J" } : Jvm.MethodName)) ∈ lw_all := lw_g (lw_at lw_m2 66 rfl) rfl
theorem q420 : (Jvm.Cond.code ({ cls := "WholePacks", name := "lambda$new$0", desc := "(JJ)J" } : Jvm.MethodName) prog_1_method_84_code (4 : Nat) (Option.some Jvm.ClassFile.FieldType.long)) ∈ lw_all := lw_g (lw_at lw_m2 67 rfl) rfl
theorem q421 : (Jvm.Cond.static ({ cls := "WholePacks", name := "lambda$new$1", desc := "(JJ)J" } : Jvm.MethodName)) ∈ lw_all := lw_g (lw_at lw_m2 68 rfl) rfl
theorem q422 : (Jvm.Cond.code ({ cls := "WholePacks", name := "lambda$new$1", desc := "(JJ)J" } : Jvm.MethodName) prog_1_method_83_code (4 : Nat) (Option.some Jvm.ClassFile.FieldType.long)) ∈ lw_all := lw_g (lw_at lw_m2 69 rfl) rfl
theorem q423 : (Jvm.Cond.privateMethod ({ cls := "WholePacks", name := "bounds", desc := "(II)V" } : Jvm.MethodName)) ∈ lw_tbl := lw_at lw_m2 70 rfl
theorem q424 : (Jvm.Cond.instanceMethod ({ cls := "WholePacks", name := "bounds", desc := "(II)V" } : Jvm.MethodName)) ∈ lw_all := lw_g (lw_at lw_m2 71 rfl) rfl
theorem q425 : (Jvm.Cond.code ({ cls := "WholePacks", name := "bounds", desc := "(II)V" } : Jvm.MethodName) prog_1_method_66_code (3 : Nat) (Option.none : Option Jvm.ClassFile.FieldType)) ∈ lw_all := lw_g (lw_at lw_m2 72 rfl) rfl
theorem q426 : (Jvm.Cond.methodLink "WholePacks" (165 : Nat) ({ cls := "WholePacks$Desk", name := "hasRule", desc := "(I)Z" } : Jvm.MethodName)) ∈ lw_all := lw_g (lw_at lw_m2 73 rfl) rfl
theorem q431 : (Jvm.Cond.static ({ cls := "WholePacks", name := "in", desc := "(JJJ)Z" } : Jvm.MethodName)) ∈ lw_all := lw_g (lw_at lw_m2 78 rfl) rfl
theorem q432 : (Jvm.Cond.code ({ cls := "WholePacks", name := "in", desc := "(JJJ)Z" } : Jvm.MethodName) prog_1_method_2_code (6 : Nat) (Option.some Jvm.ClassFile.FieldType.boolean)) ∈ lw_all := lw_g (lw_at lw_m2 79 rfl) rfl
theorem q433 : (Jvm.Cond.privateMethod ({ cls := "WholePacks", name := "lambda$new$2", desc := "(II)V" } : Jvm.MethodName)) ∈ lw_tbl := lw_at lw_m2 80 rfl
theorem q434 : (Jvm.Cond.instanceMethod ({ cls := "WholePacks", name := "lambda$new$2", desc := "(II)V" } : Jvm.MethodName)) ∈ lw_all := lw_g (lw_at lw_m2 81 rfl) rfl
theorem q435 : (Jvm.Cond.code ({ cls := "WholePacks", name := "lambda$new$2", desc := "(II)V" } : Jvm.MethodName) prog_1_method_82_code (3 : Nat) (Option.none : Option Jvm.ClassFile.FieldType)) ∈ lw_all := lw_g (lw_at lw_m2 82 rfl) rfl
theorem q436 : (Jvm.Cond.methodLink "WholePacks" (145 : Nat) ({ cls := "WholePacks$Desk", name := "hasPack", desc := "(I)Z" } : Jvm.MethodName)) ∈ lw_all := lw_g (lw_at lw_m2 83 rfl) rfl
theorem q440 : (Jvm.Cond.privateMethod ({ cls := "WholePacks", name := "factors", desc := "(II)V" } : Jvm.MethodName)) ∈ lw_tbl := lw_at lw_m2 87 rfl
theorem q441 : (Jvm.Cond.instanceMethod ({ cls := "WholePacks", name := "factors", desc := "(II)V" } : Jvm.MethodName)) ∈ lw_all := lw_g (lw_at lw_m2 88 rfl) rfl
theorem q442 : (Jvm.Cond.code ({ cls := "WholePacks", name := "factors", desc := "(II)V" } : Jvm.MethodName) prog_1_method_67_code (3 : Nat) (Option.none : Option Jvm.ClassFile.FieldType)) ∈ lw_all := lw_g (lw_at lw_m2 89 rfl) rfl
theorem q444 : (Jvm.Cond.methodLinkNest "WholePacks" (113 : Nat) ({ cls := "WholePacks$Found", name := "<init>", desc := "()V" } : Jvm.MethodName) "WholePacks") ∈ lw_tbl := lw_at lw_m2 91 rfl
theorem q452 : (Jvm.Cond.fieldLinkNest "WholePacks" (386 : Nat) "WholePacks$Found" "code" "I" "WholePacks") ∈ lw_tbl := lw_at lw_m2 99 rfl
theorem q459 : (Jvm.Cond.methodLink "WholePacks" (114 : Nat) ({ cls := "WholePacks$Node", name := "<init>", desc := "(I)V" } : Jvm.MethodName)) ∈ lw_all := lw_g (lw_at lw_m2 106 rfl) rfl
theorem q465 : (Jvm.Cond.fieldLinkNest "WholePacks" (462 : Nat) "WholePacks$Node" "depth" "I" "WholePacks") ∈ lw_tbl := lw_at lw_m2 112 rfl
theorem q467 : (Jvm.Cond.fieldLinkNest "WholePacks" (460 : Nat) "WholePacks$Node" "base" "J" "WholePacks") ∈ lw_tbl := lw_at lw_m2 114 rfl
theorem q469 : (Jvm.Cond.fieldLinkNest "WholePacks" (461 : Nat) "WholePacks$Node" "below" "J" "WholePacks") ∈ lw_tbl := lw_at lw_m2 116 rfl
theorem q471 : (Jvm.Cond.fieldLinkNest "WholePacks" (433 : Nat) "WholePacks$Node" "broken" "I" "WholePacks") ∈ lw_tbl := lw_at lw_m2 118 rfl
theorem q473 : (Jvm.Cond.fieldLinkNest "WholePacks" (402 : Nat) "WholePacks$Node" "leasts" "[I" "WholePacks") ∈ lw_tbl := lw_at lw_m2 120 rfl
theorem q475 : (Jvm.Cond.fieldLinkNest "WholePacks" (409 : Nat) "WholePacks$Node" "mosts" "[I" "WholePacks") ∈ lw_tbl := lw_at lw_m2 122 rfl
theorem q477 : (Jvm.Cond.fieldLinkNest "WholePacks" (443 : Nat) "WholePacks$Node" "amounts" "[I" "WholePacks") ∈ lw_tbl := lw_at lw_m2 124 rfl
theorem q495 : (Jvm.Cond.fieldLink "WholePacks" (12 : Nat) "WholePacks" "w" "LWholePacks$Desk;") ∈ lw_all := lw_g (lw_at lw_m2 142 rfl) rfl
theorem q497 : (Jvm.Cond.fieldLink "WholePacks" (18 : Nat) "WholePacks" "trial" "LWholePacks$Desk;") ∈ lw_all := lw_g (lw_at lw_m2 144 rfl) rfl
theorem q498 : (Jvm.Cond.fieldLink "WholePacks" (21 : Nat) "WholePacks" "kept" "LWholePacks$Desk;") ∈ lw_all := lw_g (lw_at lw_m2 145 rfl) rfl
theorem q499 : (Jvm.Cond.fieldLink "WholePacks" (27 : Nat) "WholePacks" "table" "LWholePacks$Table;") ∈ lw_all := lw_g (lw_at lw_m2 146 rfl) rfl
theorem q500 : (Jvm.Cond.fieldLink "WholePacks" (31 : Nat) "WholePacks" "thought" "LWholePacks$Table;") ∈ lw_all := lw_g (lw_at lw_m2 147 rfl) rfl
theorem q501 : (Jvm.Cond.fieldLink "WholePacks" (224 : Nat) "WholePacks" "solved" "I") ∈ lw_all := lw_g (lw_at lw_m2 148 rfl) rfl
theorem q502 : (Jvm.Cond.fieldLink "WholePacks" (121 : Nat) "WholePacks" "hasTable" "Z") ∈ lw_all := lw_g (lw_at lw_m2 149 rfl) rfl
theorem q503 : (Jvm.Cond.fieldLink "WholePacks" (37 : Nat) "WholePacks" "offers" "Ljava/util/TreeMap;") ∈ lw_all := lw_g (lw_at lw_m2 150 rfl) rfl
theorem q504 : (Jvm.Cond.fieldLink "WholePacks" (41 : Nat) "WholePacks" "keptOffers" "Ljava/util/TreeMap;") ∈ lw_all := lw_g (lw_at lw_m2 151 rfl) rfl
theorem q505 : (Jvm.Cond.fieldLink "WholePacks" (46 : Nat) "WholePacks" "lefts" "[LWholePacks$Left;") ∈ lw_all := lw_g (lw_at lw_m2 152 rfl) rfl
theorem q506 : (Jvm.Cond.fieldLink "WholePacks" (52 : Nat) "WholePacks" "changes" "[LWholePacks$Change;") ∈ lw_all := lw_g (lw_at lw_m2 153 rfl) rfl
theorem q507 : (Jvm.Cond.fieldLink "WholePacks" (56 : Nat) "WholePacks" "text" "[B") ∈ lw_all := lw_g (lw_at lw_m2 154 rfl) rfl
theorem q510 : (Jvm.Cond.fieldLink "WholePacks" (189 : Nat) "WholePacks" "texted" "I") ∈ lw_all := lw_g (lw_at lw_m2 157 rfl) rfl
theorem q511 : (Jvm.Cond.fieldLink "WholePacks" (60 : Nat) "WholePacks" "mix" "[I") ∈ lw_all := lw_g (lw_at lw_m2 158 rfl) rfl
theorem q512 : (Jvm.Cond.fieldLink "WholePacks" (66 : Nat) "WholePacks" "founds" "[LWholePacks$Found;") ∈ lw_all := lw_g (lw_at lw_m2 159 rfl) rfl
theorem q513 : (Jvm.Cond.fieldLink "WholePacks" (78 : Nat) "WholePacks" "cheapest" "Ljava/util/PriorityQueue;") ∈ lw_all := lw_g (lw_at lw_m2 160 rfl) rfl
theorem q514 : (Jvm.Cond.fieldLink "WholePacks" (389 : Nat) "WholePacks" "seenSo" "I") ∈ lw_all := lw_g (lw_at lw_m2 161 rfl) rfl
theorem q515 : (Jvm.Cond.fieldLink "WholePacks" (82 : Nat) "WholePacks" "asked" "[I") ∈ lw_all := lw_g (lw_at lw_m2 162 rfl) rfl
theorem q516 : (Jvm.Cond.fieldLink "WholePacks" (87 : Nat) "WholePacks" "nodes" "[LWholePacks$Node;") ∈ lw_all := lw_g (lw_at lw_m2 163 rfl) rfl
theorem q517 : (Jvm.Cond.fieldLink "WholePacks" (92 : Nat) "WholePacks" "waits" "Ljava/util/PriorityQueue;") ∈ lw_all := lw_g (lw_at lw_m2 164 rfl) rfl
theorem q518 : (Jvm.Cond.fieldLink "WholePacks" (429 : Nat) "WholePacks" "nodeMany" "I") ∈ lw_all := lw_g (lw_at lw_m2 165 rfl) rfl
theorem q519 : (Jvm.Cond.fieldLink "WholePacks" (418 : Nat) "WholePacks" "pivoted" "I") ∈ lw_all := lw_g (lw_at lw_m2 166 rfl) rfl
theorem q520 : (Jvm.Cond.fieldLink "WholePacks" (490 : Nat) "WholePacks" "z" "I") ∈ lw_all := lw_g (lw_at lw_m2 167 rfl) rfl
theorem q521 : (Jvm.Cond.fieldLink "WholePacks" (563 : Nat) "WholePacks" "hasImage" "Z") ∈ lw_all := lw_g (lw_at lw_m2 168 rfl) rfl
theorem q522 : (Jvm.Cond.fieldLink "WholePacks" (98 : Nat) "WholePacks" "tapes" "[LWholePacks$Tape;") ∈ lw_all := lw_g (lw_at lw_m2 169 rfl) rfl
theorem q523 : (Jvm.Cond.laysFinal "WholePacks" "WholePacks" "w" "LWholePacks$Desk;") ∈ lw_all := lw_g (lw_at lw_m2 170 rfl) rfl
theorem q524 : (Jvm.Cond.soleField "WholePacks" "w") ∈ lw_all := lw_g (lw_at lw_m2 171 rfl) rfl
theorem q525 : (Jvm.Cond.laysFinal "WholePacks" "WholePacks" "trial" "LWholePacks$Desk;") ∈ lw_all := lw_g (lw_at lw_m2 172 rfl) rfl
theorem q526 : (Jvm.Cond.soleField "WholePacks" "trial") ∈ lw_all := lw_g (lw_at lw_m2 173 rfl) rfl
theorem q527 : (Jvm.Cond.laysFinal "WholePacks" "WholePacks" "kept" "LWholePacks$Desk;") ∈ lw_all := lw_g (lw_at lw_m2 174 rfl) rfl
theorem q528 : (Jvm.Cond.soleField "WholePacks" "kept") ∈ lw_all := lw_g (lw_at lw_m2 175 rfl) rfl
theorem q529 : (Jvm.Cond.laysFinal "WholePacks" "WholePacks" "table" "LWholePacks$Table;") ∈ lw_all := lw_g (lw_at lw_m2 176 rfl) rfl
theorem q530 : (Jvm.Cond.soleField "WholePacks" "table") ∈ lw_all := lw_g (lw_at lw_m2 177 rfl) rfl
theorem q531 : (Jvm.Cond.laysFinal "WholePacks" "WholePacks" "thought" "LWholePacks$Table;") ∈ lw_all := lw_g (lw_at lw_m2 178 rfl) rfl
theorem q532 : (Jvm.Cond.soleField "WholePacks" "thought") ∈ lw_all := lw_g (lw_at lw_m2 179 rfl) rfl
theorem q533 : (Jvm.Cond.lays "WholePacks" "WholePacks" "solved" "I") ∈ lw_all := lw_g (lw_at lw_m2 180 rfl) rfl
theorem q534 : (Jvm.Cond.soleField "WholePacks" "solved") ∈ lw_all := lw_g (lw_at lw_m2 181 rfl) rfl
theorem q535 : (Jvm.Cond.lays "WholePacks" "WholePacks" "hasTable" "Z") ∈ lw_all := lw_g (lw_at lw_m2 182 rfl) rfl
theorem q536 : (Jvm.Cond.soleField "WholePacks" "hasTable") ∈ lw_all := lw_g (lw_at lw_m2 183 rfl) rfl
theorem q537 : (Jvm.Cond.laysFinal "WholePacks" "WholePacks" "offers" "Ljava/util/TreeMap;") ∈ lw_all := lw_g (lw_at lw_m2 184 rfl) rfl
theorem q538 : (Jvm.Cond.soleField "WholePacks" "offers") ∈ lw_all := lw_g (lw_at lw_m2 185 rfl) rfl
theorem q539 : (Jvm.Cond.laysFinal "WholePacks" "WholePacks" "keptOffers" "Ljava/util/TreeMap;") ∈ lw_all := lw_g (lw_at lw_m2 186 rfl) rfl
theorem q540 : (Jvm.Cond.soleField "WholePacks" "keptOffers") ∈ lw_all := lw_g (lw_at lw_m2 187 rfl) rfl
theorem q541 : (Jvm.Cond.laysFinal "WholePacks" "WholePacks" "lefts" "[LWholePacks$Left;") ∈ lw_all := lw_g (lw_at lw_m2 188 rfl) rfl
theorem q542 : (Jvm.Cond.soleField "WholePacks" "lefts") ∈ lw_all := lw_g (lw_at lw_m2 189 rfl) rfl
theorem q543 : (Jvm.Cond.laysFinal "WholePacks" "WholePacks" "changes" "[LWholePacks$Change;") ∈ lw_all := lw_g (lw_at lw_m2 190 rfl) rfl
theorem q544 : (Jvm.Cond.soleField "WholePacks" "changes") ∈ lw_all := lw_g (lw_at lw_m2 191 rfl) rfl
theorem q545 : (Jvm.Cond.laysFinal "WholePacks" "WholePacks" "text" "[B") ∈ lw_all := lw_g (lw_at lw_m2 192 rfl) rfl
theorem q546 : (Jvm.Cond.soleField "WholePacks" "text") ∈ lw_all := lw_g (lw_at lw_m2 193 rfl) rfl
theorem q547 : (Jvm.Cond.lays "WholePacks" "WholePacks" "texted" "I") ∈ lw_all := lw_g (lw_at lw_m2 194 rfl) rfl
theorem q548 : (Jvm.Cond.soleField "WholePacks" "texted") ∈ lw_all := lw_g (lw_at lw_m2 195 rfl) rfl
theorem q549 : (Jvm.Cond.laysFinal "WholePacks" "WholePacks" "mix" "[I") ∈ lw_all := lw_g (lw_at lw_m2 196 rfl) rfl
theorem q550 : (Jvm.Cond.soleField "WholePacks" "mix") ∈ lw_all := lw_g (lw_at lw_m2 197 rfl) rfl
theorem q551 : (Jvm.Cond.laysFinal "WholePacks" "WholePacks" "founds" "[LWholePacks$Found;") ∈ lw_all := lw_g (lw_at lw_m2 198 rfl) rfl
theorem q552 : (Jvm.Cond.soleField "WholePacks" "founds") ∈ lw_all := lw_g (lw_at lw_m2 199 rfl) rfl
theorem q553 : (Jvm.Cond.laysFinal "WholePacks" "WholePacks" "cheapest" "Ljava/util/PriorityQueue;") ∈ lw_all := lw_g (lw_at lw_m2 200 rfl) rfl
theorem q554 : (Jvm.Cond.soleField "WholePacks" "cheapest") ∈ lw_all := lw_g (lw_at lw_m2 201 rfl) rfl
theorem q555 : (Jvm.Cond.lays "WholePacks" "WholePacks" "seenSo" "I") ∈ lw_all := lw_g (lw_at lw_m2 202 rfl) rfl
theorem q556 : (Jvm.Cond.soleField "WholePacks" "seenSo") ∈ lw_all := lw_g (lw_at lw_m2 203 rfl) rfl
theorem q557 : (Jvm.Cond.laysFinal "WholePacks" "WholePacks" "asked" "[I") ∈ lw_all := lw_g (lw_at lw_m2 204 rfl) rfl
theorem q558 : (Jvm.Cond.soleField "WholePacks" "asked") ∈ lw_all := lw_g (lw_at lw_m2 205 rfl) rfl
theorem q559 : (Jvm.Cond.laysFinal "WholePacks" "WholePacks" "nodes" "[LWholePacks$Node;") ∈ lw_all := lw_g (lw_at lw_m2 206 rfl) rfl
theorem q560 : (Jvm.Cond.soleField "WholePacks" "nodes") ∈ lw_all := lw_g (lw_at lw_m2 207 rfl) rfl
theorem q561 : (Jvm.Cond.laysFinal "WholePacks" "WholePacks" "waits" "Ljava/util/PriorityQueue;") ∈ lw_all := lw_g (lw_at lw_m2 208 rfl) rfl
theorem q562 : (Jvm.Cond.soleField "WholePacks" "waits") ∈ lw_all := lw_g (lw_at lw_m2 209 rfl) rfl
theorem q563 : (Jvm.Cond.lays "WholePacks" "WholePacks" "nodeMany" "I") ∈ lw_all := lw_g (lw_at lw_m2 210 rfl) rfl
theorem q564 : (Jvm.Cond.soleField "WholePacks" "nodeMany") ∈ lw_all := lw_g (lw_at lw_m2 211 rfl) rfl
theorem q565 : (Jvm.Cond.lays "WholePacks" "WholePacks" "pivoted" "I") ∈ lw_all := lw_g (lw_at lw_m2 212 rfl) rfl
theorem q566 : (Jvm.Cond.soleField "WholePacks" "pivoted") ∈ lw_all := lw_g (lw_at lw_m2 213 rfl) rfl
theorem q567 : (Jvm.Cond.lays "WholePacks" "WholePacks" "z" "I") ∈ lw_all := lw_g (lw_at lw_m2 214 rfl) rfl
theorem q568 : (Jvm.Cond.soleField "WholePacks" "z") ∈ lw_all := lw_g (lw_at lw_m2 215 rfl) rfl
theorem q569 : (Jvm.Cond.lays "WholePacks" "WholePacks" "hasImage" "Z") ∈ lw_all := lw_g (lw_at lw_m2 216 rfl) rfl
theorem q570 : (Jvm.Cond.soleField "WholePacks" "hasImage") ∈ lw_all := lw_g (lw_at lw_m2 217 rfl) rfl
theorem q571 : (Jvm.Cond.laysFinal "WholePacks" "WholePacks" "tapes" "[LWholePacks$Tape;") ∈ lw_all := lw_g (lw_at lw_m2 218 rfl) rfl
theorem q572 : (Jvm.Cond.soleField "WholePacks" "tapes") ∈ lw_all := lw_g (lw_at lw_m2 219 rfl) rfl
theorem q573 : (Jvm.Cond.superclass "WholePacks" "java/lang/Object") ∈ lw_all := lw_g (lw_at lw_m2 220 rfl) rfl
theorem q575 : (Jvm.Cond.instanceMethod ({ cls := "WholePacks", name := "size", desc := "(I)I" } : Jvm.MethodName)) ∈ lw_all := lw_g (lw_at lw_m2 222 rfl) rfl
theorem q576 : (Jvm.Cond.selects "WholePacks" ({ cls := "WholePacks", name := "size", desc := "(I)I" } : Jvm.MethodName) ({ cls := "WholePacks", name := "size", desc := "(I)I" } : Jvm.MethodName)) ∈ lw_all := lw_g (lw_at lw_m2 223 rfl) rfl
theorem q577 : (Jvm.Cond.code ({ cls := "WholePacks", name := "size", desc := "(I)I" } : Jvm.MethodName) prog_1_method_6_code (3 : Nat) (Option.some Jvm.ClassFile.FieldType.int)) ∈ lw_all := lw_g (lw_at lw_m2 224 rfl) rfl
theorem q578 : (Jvm.Cond.constantLong "WholePacks" (125 : Nat) (5 : Int64)) ∈ lw_all := lw_g (lw_at lw_m2 225 rfl) rfl
theorem q579 : (Jvm.Cond.methodLink "WholePacks" (127 : Nat) ({ cls := "WholePacks", name := "in", desc := "(JJJ)Z" } : Jvm.MethodName)) ∈ lw_all := lw_g (lw_at lw_m2 226 rfl) rfl
theorem q580 : (Jvm.Cond.methodLink "WholePacks" (135 : Nat) ({ cls := "WholePacks$Desk", name := "begins", desc := "(I)V" } : Jvm.MethodName)) ∈ lw_all := lw_g (lw_at lw_m2 227 rfl) rfl
theorem q584 : (Jvm.Cond.methodLink "WholePacks" (138 : Nat) ({ cls := "java/util/TreeMap", name := "clear", desc := "()V" } : Jvm.MethodName)) ∈ lw_all := lw_g (lw_at lw_m2 231 rfl) rfl
theorem q588 : (Jvm.Cond.methodLink "WholePacks" (141 : Nat) ({ cls := "WholePacks", name := "told", desc := "(I)I" } : Jvm.MethodName)) ∈ lw_all := lw_g (lw_at lw_m2 235 rfl) rfl
theorem q589 : (Jvm.Cond.privateMethod ({ cls := "WholePacks", name := "told", desc := "(I)I" } : Jvm.MethodName)) ∈ lw_tbl := lw_at lw_m2 236 rfl
theorem q590 : (Jvm.Cond.instanceMethod ({ cls := "WholePacks", name := "told", desc := "(I)I" } : Jvm.MethodName)) ∈ lw_all := lw_g (lw_at lw_m2 237 rfl) rfl
theorem q591 : (Jvm.Cond.code ({ cls := "WholePacks", name := "told", desc := "(I)I" } : Jvm.MethodName) prog_1_method_5_code (2 : Nat) (Option.some Jvm.ClassFile.FieldType.int)) ∈ lw_all := lw_g (lw_at lw_m2 238 rfl) rfl
theorem q593 : (Jvm.Cond.instanceMethod ({ cls := "WholePacks", name := "cost", desc := "(II)I" } : Jvm.MethodName)) ∈ lw_all := lw_g (lw_at lw_m3 0 rfl) rfl
theorem q594 : (Jvm.Cond.selects "WholePacks" ({ cls := "WholePacks", name := "cost", desc := "(II)I" } : Jvm.MethodName) ({ cls := "WholePacks", name := "cost", desc := "(II)I" } : Jvm.MethodName)) ∈ lw_all := lw_g (lw_at lw_m3 1 rfl) rfl
theorem q595 : (Jvm.Cond.code ({ cls := "WholePacks", name := "cost", desc := "(II)I" } : Jvm.MethodName) prog_1_method_7_code (4 : Nat) (Option.some Jvm.ClassFile.FieldType.int)) ∈ lw_all := lw_g (lw_at lw_m3 2 rfl) rfl
theorem q596 : (Jvm.Cond.constantLong "WholePacks" (149 : Nat) (99 : Int64)) ∈ lw_all := lw_g (lw_at lw_m3 3 rfl) rfl
theorem q598 : (Jvm.Cond.instanceMethod ({ cls := "WholePacks", name := "rule", desc := "(II)I" } : Jvm.MethodName)) ∈ lw_all := lw_g (lw_at lw_m3 5 rfl) rfl
theorem q599 : (Jvm.Cond.selects "WholePacks" ({ cls := "WholePacks", name := "rule", desc := "(II)I" } : Jvm.MethodName) ({ cls := "WholePacks", name := "rule", desc := "(II)I" } : Jvm.MethodName)) ∈ lw_all := lw_g (lw_at lw_m3 6 rfl) rfl
theorem q600 : (Jvm.Cond.code ({ cls := "WholePacks", name := "rule", desc := "(II)I" } : Jvm.MethodName) prog_1_method_8_code (4 : Nat) (Option.some Jvm.ClassFile.FieldType.int)) ∈ lw_all := lw_g (lw_at lw_m3 7 rfl) rfl
theorem q601 : (Jvm.Cond.constantLong "WholePacks" (154 : Nat) (-99 : Int64)) ∈ lw_all := lw_g (lw_at lw_m3 8 rfl) rfl
theorem q602 : (Jvm.Cond.constantLong "WholePacks" (156 : Nat) (999 : Int64)) ∈ lw_all := lw_g (lw_at lw_m3 9 rfl) rfl
theorem q603 : (Jvm.Cond.methodLink "WholePacks" (161 : Nat) ({ cls := "WholePacks$Desk", name := "comes", desc := "(II)LWholePacks$Rule;" } : Jvm.MethodName)) ∈ lw_all := lw_g (lw_at lw_m3 10 rfl) rfl
theorem q612 : (Jvm.Cond.instanceMethod ({ cls := "WholePacks", name := "factor", desc := "(III)I" } : Jvm.MethodName)) ∈ lw_all := lw_g (lw_at lw_m3 19 rfl) rfl
theorem q613 : (Jvm.Cond.selects "WholePacks" ({ cls := "WholePacks", name := "factor", desc := "(III)I" } : Jvm.MethodName) ({ cls := "WholePacks", name := "factor", desc := "(III)I" } : Jvm.MethodName)) ∈ lw_all := lw_g (lw_at lw_m3 20 rfl) rfl
theorem q614 : (Jvm.Cond.code ({ cls := "WholePacks", name := "factor", desc := "(III)I" } : Jvm.MethodName) prog_1_method_9_code (5 : Nat) (Option.some Jvm.ClassFile.FieldType.int)) ∈ lw_all := lw_g (lw_at lw_m3 21 rfl) rfl
theorem q615 : (Jvm.Cond.constantLong "WholePacks" (168 : Nat) (-9 : Int64)) ∈ lw_all := lw_g (lw_at lw_m3 22 rfl) rfl
theorem q616 : (Jvm.Cond.constantLong "WholePacks" (170 : Nat) (9 : Int64)) ∈ lw_all := lw_g (lw_at lw_m3 23 rfl) rfl
theorem q618 : (Jvm.Cond.instanceMethod ({ cls := "WholePacks", name := "bound", desc := "(II)I" } : Jvm.MethodName)) ∈ lw_all := lw_g (lw_at lw_m3 25 rfl) rfl
theorem q619 : (Jvm.Cond.selects "WholePacks" ({ cls := "WholePacks", name := "bound", desc := "(II)I" } : Jvm.MethodName) ({ cls := "WholePacks", name := "bound", desc := "(II)I" } : Jvm.MethodName)) ∈ lw_all := lw_g (lw_at lw_m3 26 rfl) rfl
theorem q620 : (Jvm.Cond.code ({ cls := "WholePacks", name := "bound", desc := "(II)I" } : Jvm.MethodName) prog_1_method_10_code (4 : Nat) (Option.some Jvm.ClassFile.FieldType.int)) ∈ lw_all := lw_g (lw_at lw_m3 27 rfl) rfl
theorem q622 : (Jvm.Cond.instanceMethod ({ cls := "WholePacks", name := "less", desc := "()I" } : Jvm.MethodName)) ∈ lw_all := lw_g (lw_at lw_m3 29 rfl) rfl
theorem q623 : (Jvm.Cond.selects "WholePacks" ({ cls := "WholePacks", name := "less", desc := "()I" } : Jvm.MethodName) ({ cls := "WholePacks", name := "less", desc := "()I" } : Jvm.MethodName)) ∈ lw_all := lw_g (lw_at lw_m3 30 rfl) rfl
theorem q624 : (Jvm.Cond.code ({ cls := "WholePacks", name := "less", desc := "()I" } : Jvm.MethodName) prog_1_method_11_code (1 : Nat) (Option.some Jvm.ClassFile.FieldType.int)) ∈ lw_all := lw_g (lw_at lw_m3 31 rfl) rfl
theorem q626 : (Jvm.Cond.instanceMethod ({ cls := "WholePacks", name := "feed", desc := "(I)I" } : Jvm.MethodName)) ∈ lw_all := lw_g (lw_at lw_m3 33 rfl) rfl
theorem q627 : (Jvm.Cond.selects "WholePacks" ({ cls := "WholePacks", name := "feed", desc := "(I)I" } : Jvm.MethodName) ({ cls := "WholePacks", name := "feed", desc := "(I)I" } : Jvm.MethodName)) ∈ lw_all := lw_g (lw_at lw_m3 34 rfl) rfl
theorem q628 : (Jvm.Cond.code ({ cls := "WholePacks", name := "feed", desc := "(I)I" } : Jvm.MethodName) prog_1_method_12_code (2 : Nat) (Option.some Jvm.ClassFile.FieldType.int)) ∈ lw_all := lw_g (lw_at lw_m3 35 rfl) rfl
theorem q629 : (Jvm.Cond.constantLong "WholePacks" (187 : Nat) (127 : Int64)) ∈ lw_all := lw_g (lw_at lw_m3 36 rfl) rfl
theorem q631 : (Jvm.Cond.instanceMethod ({ cls := "WholePacks", name := "read", desc := "()I" } : Jvm.MethodName)) ∈ lw_all := lw_g (lw_at lw_m3 38 rfl) rfl
theorem q632 : (Jvm.Cond.selects "WholePacks" ({ cls := "WholePacks", name := "read", desc := "()I" } : Jvm.MethodName) ({ cls := "WholePacks", name := "read", desc := "()I" } : Jvm.MethodName)) ∈ lw_all := lw_g (lw_at lw_m3 39 rfl) rfl
theorem q633 : (Jvm.Cond.codeWith ({ cls := "WholePacks", name := "read", desc := "()I" } : Jvm.MethodName) prog_1_method_13_code (5 : Nat) (Option.some Jvm.ClassFile.FieldType.int) [((9 : Nat), (33 : Nat), (109 : Nat), (210 : Nat)), ((40 : Nat), (102 : Nat), (109 : Nat), (210 : Nat)), ((9 : Nat), (33 : Nat), (125 : Nat), (0 : Nat)), ((40 : Nat), (102 : Nat), (125 : Nat), (0 : Nat)), ((109 : Nat), (118 : Nat), (125 : Nat), (0 : Nat)), ((125 : Nat), (127 : Nat), (125 : Nat), (0 : Nat))]) ∈ lw_all := lw_g (lw_at lw_m3 40 rfl) rfl
theorem q634 : (Jvm.Cond.classLink "WholePacks" (210 : Nat) "WholePacks$Fault") ∈ lw_all := lw_g (lw_at lw_m3 41 rfl) rfl
theorem q635 : (Jvm.Cond.classLink "WholePacks" (192 : Nat) "WholePacks$Reader") ∈ lw_all := lw_g (lw_at lw_m3 42 rfl) rfl
theorem q637 : (Jvm.Cond.methodLink "WholePacks" (194 : Nat) ({ cls := "WholePacks$Reader", name := "<init>", desc := "(LWholePacks;)V" } : Jvm.MethodName)) ∈ lw_all := lw_g (lw_at lw_m3 44 rfl) rfl
theorem q644 : (Jvm.Cond.fieldLinkNest "WholePacks" (203 : Nat) "WholePacks$Reader" "read" "[LWholePacks$Rule;" "WholePacks") ∈ lw_tbl := lw_at lw_m3 51 rfl
theorem q646 : (Jvm.Cond.fieldLinkNest "WholePacks" (200 : Nat) "WholePacks$Reader" "many" "I" "WholePacks") ∈ lw_tbl := lw_at lw_m3 53 rfl
theorem q658 : (Jvm.Cond.methodLink "WholePacks" (197 : Nat) ({ cls := "WholePacks$Reader", name := "reads", desc := "()V" } : Jvm.MethodName)) ∈ lw_all := lw_g (lw_at lw_m3 65 rfl) rfl
theorem q734 : (Jvm.Cond.fieldLinkNest "WholePacks" (212 : Nat) "WholePacks$Fault" "place" "I" "WholePacks") ∈ lw_tbl := lw_at lw_m3 141 rfl
theorem q756 : (Jvm.Cond.methodLink "WholePacks" (206 : Nat) ({ cls := "WholePacks$Rule", name := "like", desc := "(LWholePacks$Rule;)V" } : Jvm.MethodName)) ∈ lw_all := lw_g (lw_at lw_m3 163 rfl) rfl
theorem q764 : (Jvm.Cond.instanceMethod ({ cls := "WholePacks", name := "ruleOf", desc := "(II)I" } : Jvm.MethodName)) ∈ lw_all := lw_g (lw_at lw_m3 171 rfl) rfl
theorem q765 : (Jvm.Cond.selects "WholePacks" ({ cls := "WholePacks", name := "ruleOf", desc := "(II)I" } : Jvm.MethodName) ({ cls := "WholePacks", name := "ruleOf", desc := "(II)I" } : Jvm.MethodName)) ∈ lw_all := lw_g (lw_at lw_m3 172 rfl) rfl
theorem q766 : (Jvm.Cond.code ({ cls := "WholePacks", name := "ruleOf", desc := "(II)I" } : Jvm.MethodName) prog_1_method_14_code (4 : Nat) (Option.some Jvm.ClassFile.FieldType.int)) ∈ lw_all := lw_g (lw_at lw_m3 173 rfl) rfl
theorem q768 : (Jvm.Cond.instanceMethod ({ cls := "WholePacks", name := "solve", desc := "(I)I" } : Jvm.MethodName)) ∈ lw_all := lw_g (lw_at lw_m3 175 rfl) rfl
theorem q769 : (Jvm.Cond.selects "WholePacks" ({ cls := "WholePacks", name := "solve", desc := "(I)I" } : Jvm.MethodName) ({ cls := "WholePacks", name := "solve", desc := "(I)I" } : Jvm.MethodName)) ∈ lw_all := lw_g (lw_at lw_m3 176 rfl) rfl
theorem q770 : (Jvm.Cond.code ({ cls := "WholePacks", name := "solve", desc := "(I)I" } : Jvm.MethodName) prog_1_method_15_code (2 : Nat) (Option.some Jvm.ClassFile.FieldType.int)) ∈ lw_all := lw_g (lw_at lw_m3 177 rfl) rfl
theorem q771 : (Jvm.Cond.constantLong "WholePacks" (218 : Nat) (12 : Int64)) ∈ lw_all := lw_g (lw_at lw_m3 178 rfl) rfl
theorem q772 : (Jvm.Cond.methodLink "WholePacks" (220 : Nat) ({ cls := "WholePacks$Table", name := "solves", desc := "(LWholePacks$Desk;I)I" } : Jvm.MethodName)) ∈ lw_all := lw_g (lw_at lw_m3 179 rfl) rfl
theorem q831 : (Jvm.Cond.fieldLinkNest "WholePacks" (426 : Nat) "WholePacks$Stuck" "answer" "I" "WholePacks") ∈ lw_tbl := lw_at lw_m3 238 rfl
theorem q889 : (Jvm.Cond.instanceMethod ({ cls := "WholePacks", name := "entry", desc := "(II)J" } : Jvm.MethodName)) ∈ lw_all := lw_g (lw_at lw_m4 56 rfl) rfl
theorem q890 : (Jvm.Cond.selects "WholePacks" ({ cls := "WholePacks", name := "entry", desc := "(II)J" } : Jvm.MethodName) ({ cls := "WholePacks", name := "entry", desc := "(II)J" } : Jvm.MethodName)) ∈ lw_all := lw_g (lw_at lw_m4 57 rfl) rfl
theorem q891 : (Jvm.Cond.code ({ cls := "WholePacks", name := "entry", desc := "(II)J" } : Jvm.MethodName) prog_1_method_16_code (4 : Nat) (Option.some Jvm.ClassFile.FieldType.long)) ∈ lw_all := lw_g (lw_at lw_m4 58 rfl) rfl
theorem q892 : (Jvm.Cond.constantLong "WholePacks" (227 : Nat) (-2 : Int64)) ∈ lw_all := lw_g (lw_at lw_m4 59 rfl) rfl
theorem q893 : (Jvm.Cond.constantLong "WholePacks" (232 : Nat) (-9223372036854775808 : Int64)) ∈ lw_all := lw_g (lw_at lw_m4 60 rfl) rfl
theorem q894 : (Jvm.Cond.methodLink "WholePacks" (254 : Nat) ({ cls := "WholePacks$Table", name := "entry", desc := "(II)J" } : Jvm.MethodName)) ∈ lw_all := lw_g (lw_at lw_m4 61 rfl) rfl
theorem q896 : (Jvm.Cond.instanceMethod ({ cls := "WholePacks", name := "amount", desc := "(II)J" } : Jvm.MethodName)) ∈ lw_all := lw_g (lw_at lw_m4 63 rfl) rfl
theorem q897 : (Jvm.Cond.selects "WholePacks" ({ cls := "WholePacks", name := "amount", desc := "(II)J" } : Jvm.MethodName) ({ cls := "WholePacks", name := "amount", desc := "(II)J" } : Jvm.MethodName)) ∈ lw_all := lw_g (lw_at lw_m4 64 rfl) rfl
theorem q898 : (Jvm.Cond.code ({ cls := "WholePacks", name := "amount", desc := "(II)J" } : Jvm.MethodName) prog_1_method_19_code (3 : Nat) (Option.some Jvm.ClassFile.FieldType.long)) ∈ lw_all := lw_g (lw_at lw_m4 65 rfl) rfl
theorem q899 : (Jvm.Cond.methodLink "WholePacks" (264 : Nat) ({ cls := "WholePacks", name := "isPart", desc := "(I)Z" } : Jvm.MethodName)) ∈ lw_all := lw_g (lw_at lw_m4 66 rfl) rfl
theorem q900 : (Jvm.Cond.static ({ cls := "WholePacks", name := "isPart", desc := "(I)Z" } : Jvm.MethodName)) ∈ lw_all := lw_g (lw_at lw_m4 67 rfl) rfl
theorem q901 : (Jvm.Cond.code ({ cls := "WholePacks", name := "isPart", desc := "(I)Z" } : Jvm.MethodName) prog_1_method_17_code (1 : Nat) (Option.some Jvm.ClassFile.FieldType.boolean)) ∈ lw_all := lw_g (lw_at lw_m4 68 rfl) rfl
theorem q902 : (Jvm.Cond.methodLink "WholePacks" (267 : Nat) ({ cls := "WholePacks$Table", name := "right", desc := "(I)J" } : Jvm.MethodName)) ∈ lw_all := lw_g (lw_at lw_m4 69 rfl) rfl
theorem q910 : (Jvm.Cond.methodLink "WholePacks" (271 : Nat) ({ cls := "WholePacks", name := "share", desc := "(JJI)J" } : Jvm.MethodName)) ∈ lw_all := lw_g (lw_at lw_m4 77 rfl) rfl
theorem q911 : (Jvm.Cond.static ({ cls := "WholePacks", name := "share", desc := "(JJI)J" } : Jvm.MethodName)) ∈ lw_all := lw_g (lw_at lw_m4 78 rfl) rfl
theorem q912 : (Jvm.Cond.code ({ cls := "WholePacks", name := "share", desc := "(JJI)J" } : Jvm.MethodName) prog_1_method_18_code (7 : Nat) (Option.some Jvm.ClassFile.FieldType.long)) ∈ lw_all := lw_g (lw_at lw_m4 79 rfl) rfl
theorem q913 : (Jvm.Cond.methodLink "WholePacks" (258 : Nat) ({ cls := "java/lang/Math", name := "abs", desc := "(J)J" } : Jvm.MethodName)) ∈ lw_all := lw_g (lw_at lw_m4 80 rfl) rfl
theorem q916 : (Jvm.Cond.methodLink "WholePacks" (117 : Nat) ({ cls := "WholePacks", name := "divisor", desc := "(JJ)J" } : Jvm.MethodName)) ∈ lw_all := lw_g (lw_at lw_m4 83 rfl) rfl
theorem q917 : (Jvm.Cond.static ({ cls := "WholePacks", name := "divisor", desc := "(JJ)J" } : Jvm.MethodName)) ∈ lw_all := lw_g (lw_at lw_m4 84 rfl) rfl
theorem q918 : (Jvm.Cond.code ({ cls := "WholePacks", name := "divisor", desc := "(JJ)J" } : Jvm.MethodName) prog_1_method_3_code (10 : Nat) (Option.some Jvm.ClassFile.FieldType.long)) ∈ lw_all := lw_g (lw_at lw_m4 85 rfl) rfl
theorem q920 : (Jvm.Cond.instanceMethod ({ cls := "WholePacks", name := "value", desc := "(I)J" } : Jvm.MethodName)) ∈ lw_all := lw_g (lw_at lw_m4 87 rfl) rfl
theorem q921 : (Jvm.Cond.selects "WholePacks" ({ cls := "WholePacks", name := "value", desc := "(I)J" } : Jvm.MethodName) ({ cls := "WholePacks", name := "value", desc := "(I)J" } : Jvm.MethodName)) ∈ lw_all := lw_g (lw_at lw_m4 88 rfl) rfl
theorem q922 : (Jvm.Cond.code ({ cls := "WholePacks", name := "value", desc := "(I)J" } : Jvm.MethodName) prog_1_method_20_code (2 : Nat) (Option.some Jvm.ClassFile.FieldType.long)) ∈ lw_all := lw_g (lw_at lw_m4 89 rfl) rfl
theorem q924 : (Jvm.Cond.instanceMethod ({ cls := "WholePacks", name := "price", desc := "(II)J" } : Jvm.MethodName)) ∈ lw_all := lw_g (lw_at lw_m4 91 rfl) rfl
theorem q925 : (Jvm.Cond.selects "WholePacks" ({ cls := "WholePacks", name := "price", desc := "(II)J" } : Jvm.MethodName) ({ cls := "WholePacks", name := "price", desc := "(II)J" } : Jvm.MethodName)) ∈ lw_all := lw_g (lw_at lw_m4 92 rfl) rfl
theorem q926 : (Jvm.Cond.code ({ cls := "WholePacks", name := "price", desc := "(II)J" } : Jvm.MethodName) prog_1_method_21_code (3 : Nat) (Option.some Jvm.ClassFile.FieldType.long)) ∈ lw_all := lw_g (lw_at lw_m4 93 rfl) rfl
theorem q927 : (Jvm.Cond.methodLink "WholePacks" (275 : Nat) ({ cls := "WholePacks$Table", name := "rise", desc := "(I)J" } : Jvm.MethodName)) ∈ lw_all := lw_g (lw_at lw_m4 94 rfl) rfl
theorem q932 : (Jvm.Cond.instanceMethod ({ cls := "WholePacks", name := "cut", desc := "(II)J" } : Jvm.MethodName)) ∈ lw_all := lw_g (lw_at lw_m4 99 rfl) rfl
theorem q933 : (Jvm.Cond.selects "WholePacks" ({ cls := "WholePacks", name := "cut", desc := "(II)J" } : Jvm.MethodName) ({ cls := "WholePacks", name := "cut", desc := "(II)J" } : Jvm.MethodName)) ∈ lw_all := lw_g (lw_at lw_m4 100 rfl) rfl
theorem q934 : (Jvm.Cond.code ({ cls := "WholePacks", name := "cut", desc := "(II)J" } : Jvm.MethodName) prog_1_method_23_code (3 : Nat) (Option.some Jvm.ClassFile.FieldType.long)) ∈ lw_all := lw_g (lw_at lw_m4 101 rfl) rfl
theorem q935 : (Jvm.Cond.methodLink "WholePacks" (281 : Nat) ({ cls := "WholePacks", name := "isCut", desc := "(I)Z" } : Jvm.MethodName)) ∈ lw_all := lw_g (lw_at lw_m4 102 rfl) rfl
theorem q936 : (Jvm.Cond.privateMethod ({ cls := "WholePacks", name := "isCut", desc := "(I)Z" } : Jvm.MethodName)) ∈ lw_tbl := lw_at lw_m4 103 rfl
theorem q937 : (Jvm.Cond.instanceMethod ({ cls := "WholePacks", name := "isCut", desc := "(I)Z" } : Jvm.MethodName)) ∈ lw_all := lw_g (lw_at lw_m4 104 rfl) rfl
theorem q938 : (Jvm.Cond.code ({ cls := "WholePacks", name := "isCut", desc := "(I)Z" } : Jvm.MethodName) prog_1_method_22_code (2 : Nat) (Option.some Jvm.ClassFile.FieldType.boolean)) ∈ lw_all := lw_g (lw_at lw_m4 105 rfl) rfl
theorem q940 : (Jvm.Cond.instanceMethod ({ cls := "WholePacks", name := "weight", desc := "(III)J" } : Jvm.MethodName)) ∈ lw_all := lw_g (lw_at lw_m4 107 rfl) rfl
theorem q941 : (Jvm.Cond.selects "WholePacks" ({ cls := "WholePacks", name := "weight", desc := "(III)J" } : Jvm.MethodName) ({ cls := "WholePacks", name := "weight", desc := "(III)J" } : Jvm.MethodName)) ∈ lw_all := lw_g (lw_at lw_m4 108 rfl) rfl
theorem q942 : (Jvm.Cond.code ({ cls := "WholePacks", name := "weight", desc := "(III)J" } : Jvm.MethodName) prog_1_method_24_code (6 : Nat) (Option.some Jvm.ClassFile.FieldType.long)) ∈ lw_all := lw_g (lw_at lw_m4 109 rfl) rfl
theorem q943 : (Jvm.Cond.constantLong "WholePacks" (296 : Nat) (20 : Int64)) ∈ lw_all := lw_g (lw_at lw_m4 110 rfl) rfl
theorem q945 : (Jvm.Cond.instanceMethod ({ cls := "WholePacks", name := "proved", desc := "(I)I" } : Jvm.MethodName)) ∈ lw_all := lw_g (lw_at lw_m4 112 rfl) rfl
theorem q946 : (Jvm.Cond.selects "WholePacks" ({ cls := "WholePacks", name := "proved", desc := "(I)I" } : Jvm.MethodName) ({ cls := "WholePacks", name := "proved", desc := "(I)I" } : Jvm.MethodName)) ∈ lw_all := lw_g (lw_at lw_m4 113 rfl) rfl
theorem q947 : (Jvm.Cond.code ({ cls := "WholePacks", name := "proved", desc := "(I)I" } : Jvm.MethodName) prog_1_method_26_code (4 : Nat) (Option.some Jvm.ClassFile.FieldType.int)) ∈ lw_all := lw_g (lw_at lw_m4 114 rfl) rfl
theorem q948 : (Jvm.Cond.methodLink "WholePacks" (310 : Nat) ({ cls := "WholePacks", name := "byWeights", desc := "(LWholePacks$Cut;II)J" } : Jvm.MethodName)) ∈ lw_all := lw_g (lw_at lw_m4 115 rfl) rfl
theorem q949 : (Jvm.Cond.privateMethod ({ cls := "WholePacks", name := "byWeights", desc := "(LWholePacks$Cut;II)J" } : Jvm.MethodName)) ∈ lw_tbl := lw_at lw_m4 116 rfl
theorem q950 : (Jvm.Cond.instanceMethod ({ cls := "WholePacks", name := "byWeights", desc := "(LWholePacks$Cut;II)J" } : Jvm.MethodName)) ∈ lw_all := lw_g (lw_at lw_m4 117 rfl) rfl
theorem q951 : (Jvm.Cond.code ({ cls := "WholePacks", name := "byWeights", desc := "(LWholePacks$Cut;II)J" } : Jvm.MethodName) prog_1_method_25_code (7 : Nat) (Option.some Jvm.ClassFile.FieldType.long)) ∈ lw_all := lw_g (lw_at lw_m4 118 rfl) rfl
theorem q952 : (Jvm.Cond.methodLink "WholePacks" (302 : Nat) ({ cls := "WholePacks$Rule", name := "limit", desc := "()J" } : Jvm.MethodName)) ∈ lw_all := lw_g (lw_at lw_m4 119 rfl) rfl
theorem q953 : (Jvm.Cond.methodLink "WholePacks" (305 : Nat) ({ cls := "WholePacks$Rule", name := "points", desc := "(I)J" } : Jvm.MethodName)) ∈ lw_all := lw_g (lw_at lw_m4 120 rfl) rfl
theorem q954 : (Jvm.Cond.methodLink "WholePacks" (307 : Nat) ({ cls := "java/lang/Math", name := "floorDiv", desc := "(JJ)J" } : Jvm.MethodName)) ∈ lw_all := lw_g (lw_at lw_m4 121 rfl) rfl
theorem q956 : (Jvm.Cond.instanceMethod ({ cls := "WholePacks", name := "hand", desc := "(II)I" } : Jvm.MethodName)) ∈ lw_all := lw_g (lw_at lw_m4 123 rfl) rfl
theorem q957 : (Jvm.Cond.selects "WholePacks" ({ cls := "WholePacks", name := "hand", desc := "(II)I" } : Jvm.MethodName) ({ cls := "WholePacks", name := "hand", desc := "(II)I" } : Jvm.MethodName)) ∈ lw_all := lw_g (lw_at lw_m4 124 rfl) rfl
theorem q958 : (Jvm.Cond.code ({ cls := "WholePacks", name := "hand", desc := "(II)I" } : Jvm.MethodName) prog_1_method_27_code (4 : Nat) (Option.some Jvm.ClassFile.FieldType.int)) ∈ lw_all := lw_g (lw_at lw_m4 125 rfl) rfl
theorem q960 : (Jvm.Cond.instanceMethod ({ cls := "WholePacks", name := "by", desc := "(I)I" } : Jvm.MethodName)) ∈ lw_all := lw_g (lw_at lw_m4 127 rfl) rfl
theorem q961 : (Jvm.Cond.selects "WholePacks" ({ cls := "WholePacks", name := "by", desc := "(I)I" } : Jvm.MethodName) ({ cls := "WholePacks", name := "by", desc := "(I)I" } : Jvm.MethodName)) ∈ lw_all := lw_g (lw_at lw_m4 128 rfl) rfl
theorem q962 : (Jvm.Cond.code ({ cls := "WholePacks", name := "by", desc := "(I)I" } : Jvm.MethodName) prog_1_method_28_code (3 : Nat) (Option.some Jvm.ClassFile.FieldType.int)) ∈ lw_all := lw_g (lw_at lw_m4 129 rfl) rfl
theorem q963 : (Jvm.Cond.constantLong "WholePacks" (314 : Nat) (10 : Int64)) ∈ lw_all := lw_g (lw_at lw_m4 130 rfl) rfl
theorem q965 : (Jvm.Cond.instanceMethod ({ cls := "WholePacks", name := "points", desc := "(I)J" } : Jvm.MethodName)) ∈ lw_all := lw_g (lw_at lw_m4 132 rfl) rfl
theorem q966 : (Jvm.Cond.selects "WholePacks" ({ cls := "WholePacks", name := "points", desc := "(I)J" } : Jvm.MethodName) ({ cls := "WholePacks", name := "points", desc := "(I)J" } : Jvm.MethodName)) ∈ lw_all := lw_g (lw_at lw_m4 133 rfl) rfl
theorem q967 : (Jvm.Cond.code ({ cls := "WholePacks", name := "points", desc := "(I)J" } : Jvm.MethodName) prog_1_method_29_code (2 : Nat) (Option.some Jvm.ClassFile.FieldType.long)) ∈ lw_all := lw_g (lw_at lw_m4 134 rfl) rfl
theorem q968 : (Jvm.Cond.methodLink "WholePacks" (319 : Nat) ({ cls := "WholePacks$Desk", name := "handPoints", desc := "(I)J" } : Jvm.MethodName)) ∈ lw_all := lw_g (lw_at lw_m4 135 rfl) rfl
theorem q976 : (Jvm.Cond.instanceMethod ({ cls := "WholePacks", name := "bites", desc := "()I" } : Jvm.MethodName)) ∈ lw_all := lw_g (lw_at lw_m4 143 rfl) rfl
theorem q977 : (Jvm.Cond.selects "WholePacks" ({ cls := "WholePacks", name := "bites", desc := "()I" } : Jvm.MethodName) ({ cls := "WholePacks", name := "bites", desc := "()I" } : Jvm.MethodName)) ∈ lw_all := lw_g (lw_at lw_m4 144 rfl) rfl
theorem q978 : (Jvm.Cond.code ({ cls := "WholePacks", name := "bites", desc := "()I" } : Jvm.MethodName) prog_1_method_30_code (4 : Nat) (Option.some Jvm.ClassFile.FieldType.int)) ∈ lw_all := lw_g (lw_at lw_m4 145 rfl) rfl
theorem q980 : (Jvm.Cond.instanceMethod ({ cls := "WholePacks", name := "box", desc := "(I)I" } : Jvm.MethodName)) ∈ lw_all := lw_g (lw_at lw_m4 147 rfl) rfl
theorem q981 : (Jvm.Cond.selects "WholePacks" ({ cls := "WholePacks", name := "box", desc := "(I)I" } : Jvm.MethodName) ({ cls := "WholePacks", name := "box", desc := "(I)I" } : Jvm.MethodName)) ∈ lw_all := lw_g (lw_at lw_m4 148 rfl) rfl
theorem q982 : (Jvm.Cond.code ({ cls := "WholePacks", name := "box", desc := "(I)I" } : Jvm.MethodName) prog_1_method_31_code (3 : Nat) (Option.some Jvm.ClassFile.FieldType.int)) ∈ lw_all := lw_g (lw_at lw_m4 149 rfl) rfl
theorem q983 : (Jvm.Cond.constantLong "WholePacks" (322 : Nat) (6 : Int64)) ∈ lw_all := lw_g (lw_at lw_m4 150 rfl) rfl
theorem q985 : (Jvm.Cond.instanceMethod ({ cls := "WholePacks", name := "nth", desc := "(I)I" } : Jvm.MethodName)) ∈ lw_all := lw_g (lw_at lw_m4 152 rfl) rfl
theorem q986 : (Jvm.Cond.selects "WholePacks" ({ cls := "WholePacks", name := "nth", desc := "(I)I" } : Jvm.MethodName) ({ cls := "WholePacks", name := "nth", desc := "(I)I" } : Jvm.MethodName)) ∈ lw_all := lw_g (lw_at lw_m4 153 rfl) rfl
theorem q987 : (Jvm.Cond.code ({ cls := "WholePacks", name := "nth", desc := "(I)I" } : Jvm.MethodName) prog_1_method_39_code (2 : Nat) (Option.some Jvm.ClassFile.FieldType.int)) ∈ lw_all := lw_g (lw_at lw_m4 154 rfl) rfl
theorem q988 : (Jvm.Cond.constantLong "WholePacks" (376 : Nat) (19 : Int64)) ∈ lw_all := lw_g (lw_at lw_m4 155 rfl) rfl
theorem q989 : (Jvm.Cond.methodLink "WholePacks" (378 : Nat) ({ cls := "java/util/PriorityQueue", name := "clear", desc := "()V" } : Jvm.MethodName)) ∈ lw_all := lw_g (lw_at lw_m4 156 rfl) rfl
theorem q993 : (Jvm.Cond.privateMethod ({ cls := "WholePacks", name := "lambda$nth$3", desc := "(IIII)Z" } : Jvm.MethodName)) ∈ lw_tbl := lw_at lw_m4 160 rfl
theorem q994 : (Jvm.Cond.instanceMethod ({ cls := "WholePacks", name := "lambda$nth$3", desc := "(IIII)Z" } : Jvm.MethodName)) ∈ lw_all := lw_g (lw_at lw_m4 161 rfl) rfl
theorem q995 : (Jvm.Cond.code ({ cls := "WholePacks", name := "lambda$nth$3", desc := "(IIII)Z" } : Jvm.MethodName) prog_1_method_81_code (5 : Nat) (Option.some Jvm.ClassFile.FieldType.boolean)) ∈ lw_all := lw_g (lw_at lw_m4 162 rfl) rfl
theorem q996 : (Jvm.Cond.methodLink "WholePacks" (611 : Nat) ({ cls := "WholePacks", name := "keeps", desc := "(III)Z" } : Jvm.MethodName)) ∈ lw_all := lw_g (lw_at lw_m4 163 rfl) rfl
theorem q997 : (Jvm.Cond.privateMethod ({ cls := "WholePacks", name := "keeps", desc := "(III)Z" } : Jvm.MethodName)) ∈ lw_tbl := lw_at lw_m4 164 rfl
theorem q998 : (Jvm.Cond.instanceMethod ({ cls := "WholePacks", name := "keeps", desc := "(III)Z" } : Jvm.MethodName)) ∈ lw_all := lw_g (lw_at lw_m4 165 rfl) rfl
theorem q999 : (Jvm.Cond.code ({ cls := "WholePacks", name := "keeps", desc := "(III)Z" } : Jvm.MethodName) prog_1_method_38_code (5 : Nat) (Option.some Jvm.ClassFile.FieldType.boolean)) ∈ lw_all := lw_g (lw_at lw_m4 166 rfl) rfl
theorem q1000 : (Jvm.Cond.methodLink "WholePacks" (353 : Nat) ({ cls := "java/util/PriorityQueue", name := "size", desc := "()I" } : Jvm.MethodName)) ∈ lw_all := lw_g (lw_at lw_m4 167 rfl) rfl
theorem q1004 : (Jvm.Cond.methodLink "WholePacks" (357 : Nat) ({ cls := "WholePacks$Found", name := "is", desc := "(II)V" } : Jvm.MethodName)) ∈ lw_all := lw_g (lw_at lw_m4 171 rfl) rfl
theorem q1008 : (Jvm.Cond.methodLink "WholePacks" (361 : Nat) ({ cls := "java/util/PriorityQueue", name := "add", desc := "(Ljava/lang/Object;)Z" } : Jvm.MethodName)) ∈ lw_all := lw_g (lw_at lw_m4 175 rfl) rfl
theorem q1036 : (Jvm.Cond.selects "WholePacks" ({ cls := "java/lang/Object", name := "getClass", desc := "()Ljava/lang/Class;" } : Jvm.MethodName) ({ cls := "java/lang/Object", name := "getClass", desc := "()Ljava/lang/Class;" } : Jvm.MethodName)) ∈ lw_all := lw_g (lw_at lw_m4 203 rfl) rfl
theorem q1126 : (Jvm.Cond.methodLink "WholePacks" (365 : Nat) ({ cls := "java/util/PriorityQueue", name := "peek", desc := "()Ljava/lang/Object;" } : Jvm.MethodName)) ∈ lw_all := lw_g (lw_at lw_m5 53 rfl) rfl
theorem q1130 : (Jvm.Cond.methodLink "WholePacks" (369 : Nat) ({ cls := "WholePacks$Found", name := "isBehind", desc := "(II)Z" } : Jvm.MethodName)) ∈ lw_all := lw_g (lw_at lw_m5 57 rfl) rfl
theorem q1131 : (Jvm.Cond.methodLink "WholePacks" (373 : Nat) ({ cls := "java/util/PriorityQueue", name := "poll", desc := "()Ljava/lang/Object;" } : Jvm.MethodName)) ∈ lw_all := lw_g (lw_at lw_m5 58 rfl) rfl
theorem q1141 : (Jvm.Cond.methodLink "WholePacks" (382 : Nat) ({ cls := "WholePacks", name := "goesThrough", desc := "(LWholePacks$Look;)V" } : Jvm.MethodName)) ∈ lw_all := lw_g (lw_at lw_m5 68 rfl) rfl
theorem q1142 : (Jvm.Cond.privateMethod ({ cls := "WholePacks", name := "goesThrough", desc := "(LWholePacks$Look;)V" } : Jvm.MethodName)) ∈ lw_tbl := lw_at lw_m5 69 rfl
theorem q1143 : (Jvm.Cond.instanceMethod ({ cls := "WholePacks", name := "goesThrough", desc := "(LWholePacks$Look;)V" } : Jvm.MethodName)) ∈ lw_all := lw_g (lw_at lw_m5 70 rfl) rfl
theorem q1144 : (Jvm.Cond.code ({ cls := "WholePacks", name := "goesThrough", desc := "(LWholePacks$Look;)V" } : Jvm.MethodName) prog_1_method_37_code (3 : Nat) (Option.none : Option Jvm.ClassFile.FieldType)) ∈ lw_all := lw_g (lw_at lw_m5 71 rfl) rfl
theorem q1145 : (Jvm.Cond.methodLink "WholePacks" (333 : Nat) ({ cls := "WholePacks", name := "brokenBy", desc := "([I)I" } : Jvm.MethodName)) ∈ lw_all := lw_g (lw_at lw_m5 72 rfl) rfl
theorem q1146 : (Jvm.Cond.privateMethod ({ cls := "WholePacks", name := "brokenBy", desc := "([I)I" } : Jvm.MethodName)) ∈ lw_tbl := lw_at lw_m5 73 rfl
theorem q1147 : (Jvm.Cond.instanceMethod ({ cls := "WholePacks", name := "brokenBy", desc := "([I)I" } : Jvm.MethodName)) ∈ lw_all := lw_g (lw_at lw_m5 74 rfl) rfl
theorem q1148 : (Jvm.Cond.code ({ cls := "WholePacks", name := "brokenBy", desc := "([I)I" } : Jvm.MethodName) prog_1_method_34_code (4 : Nat) (Option.some Jvm.ClassFile.FieldType.int)) ∈ lw_all := lw_g (lw_at lw_m5 75 rfl) rfl
theorem q1149 : (Jvm.Cond.methodLink "WholePacks" (329 : Nat) ({ cls := "WholePacks", name := "isBroken", desc := "(LWholePacks$Rule;[I)Z" } : Jvm.MethodName)) ∈ lw_all := lw_g (lw_at lw_m5 76 rfl) rfl
theorem q1150 : (Jvm.Cond.privateMethod ({ cls := "WholePacks", name := "isBroken", desc := "(LWholePacks$Rule;[I)Z" } : Jvm.MethodName)) ∈ lw_tbl := lw_at lw_m5 77 rfl
theorem q1151 : (Jvm.Cond.instanceMethod ({ cls := "WholePacks", name := "isBroken", desc := "(LWholePacks$Rule;[I)Z" } : Jvm.MethodName)) ∈ lw_all := lw_g (lw_at lw_m5 78 rfl) rfl
theorem q1152 : (Jvm.Cond.code ({ cls := "WholePacks", name := "isBroken", desc := "(LWholePacks$Rule;[I)Z" } : Jvm.MethodName) prog_1_method_33_code (6 : Nat) (Option.some Jvm.ClassFile.FieldType.boolean)) ∈ lw_all := lw_g (lw_at lw_m5 79 rfl) rfl
theorem q1153 : (Jvm.Cond.interfaceEntry "WholePacks" (327 : Nat)) ∈ lw_tbl := lw_at lw_m5 80 rfl
theorem q1154 : (Jvm.Cond.methodLink "WholePacks" (327 : Nat) ({ cls := "WholePacks$Left", name := "of", desc := "(JJ)J" } : Jvm.MethodName)) ∈ lw_all := lw_g (lw_at lw_m5 81 rfl) rfl
theorem q1157 : (Jvm.Cond.interfaceEntry "WholePacks" (337 : Nat)) ∈ lw_tbl := lw_at lw_m5 84 rfl
theorem q1158 : (Jvm.Cond.methodLink "WholePacks" (337 : Nat) ({ cls := "WholePacks$Look", name := "goesOn", desc := "(III)Z" } : Jvm.MethodName)) ∈ lw_all := lw_g (lw_at lw_m5 85 rfl) rfl
theorem q1161 : (Jvm.Cond.methodLink "WholePacks" (343 : Nat) ({ cls := "WholePacks", name := "nextMix", desc := "()Z" } : Jvm.MethodName)) ∈ lw_all := lw_g (lw_at lw_m5 88 rfl) rfl
theorem q1162 : (Jvm.Cond.privateMethod ({ cls := "WholePacks", name := "nextMix", desc := "()Z" } : Jvm.MethodName)) ∈ lw_tbl := lw_at lw_m5 89 rfl
theorem q1163 : (Jvm.Cond.instanceMethod ({ cls := "WholePacks", name := "nextMix", desc := "()Z" } : Jvm.MethodName)) ∈ lw_all := lw_g (lw_at lw_m5 90 rfl) rfl
theorem q1164 : (Jvm.Cond.code ({ cls := "WholePacks", name := "nextMix", desc := "()Z" } : Jvm.MethodName) prog_1_method_36_code (2 : Nat) (Option.some Jvm.ClassFile.FieldType.boolean)) ∈ lw_all := lw_g (lw_at lw_m5 91 rfl) rfl
theorem q1165 : (Jvm.Cond.methodLink "WholePacks" (347 : Nat) ({ cls := "WholePacks", name := "codeOf", desc := "([I)I" } : Jvm.MethodName)) ∈ lw_all := lw_g (lw_at lw_m5 92 rfl) rfl
theorem q1166 : (Jvm.Cond.privateMethod ({ cls := "WholePacks", name := "codeOf", desc := "([I)I" } : Jvm.MethodName)) ∈ lw_tbl := lw_at lw_m5 93 rfl
theorem q1167 : (Jvm.Cond.instanceMethod ({ cls := "WholePacks", name := "codeOf", desc := "([I)I" } : Jvm.MethodName)) ∈ lw_all := lw_g (lw_at lw_m5 94 rfl) rfl
theorem q1168 : (Jvm.Cond.code ({ cls := "WholePacks", name := "codeOf", desc := "([I)I" } : Jvm.MethodName) prog_1_method_35_code (4 : Nat) (Option.some Jvm.ClassFile.FieldType.int)) ∈ lw_all := lw_g (lw_at lw_m5 95 rfl) rfl
theorem q1169 : (Jvm.Cond.methodLink "WholePacks" (350 : Nat) ({ cls := "WholePacks", name := "costOf", desc := "([I)I" } : Jvm.MethodName)) ∈ lw_all := lw_g (lw_at lw_m5 96 rfl) rfl
theorem q1170 : (Jvm.Cond.privateMethod ({ cls := "WholePacks", name := "costOf", desc := "([I)I" } : Jvm.MethodName)) ∈ lw_tbl := lw_at lw_m5 97 rfl
theorem q1171 : (Jvm.Cond.instanceMethod ({ cls := "WholePacks", name := "costOf", desc := "([I)I" } : Jvm.MethodName)) ∈ lw_all := lw_g (lw_at lw_m5 98 rfl) rfl
theorem q1172 : (Jvm.Cond.code ({ cls := "WholePacks", name := "costOf", desc := "([I)I" } : Jvm.MethodName) prog_1_method_32_code (4 : Nat) (Option.some Jvm.ClassFile.FieldType.int)) ∈ lw_all := lw_g (lw_at lw_m5 99 rfl) rfl
theorem q1174 : (Jvm.Cond.instanceMethod ({ cls := "WholePacks", name := "many", desc := "(I)I" } : Jvm.MethodName)) ∈ lw_all := lw_g (lw_at lw_m5 101 rfl) rfl
theorem q1175 : (Jvm.Cond.selects "WholePacks" ({ cls := "WholePacks", name := "many", desc := "(I)I" } : Jvm.MethodName) ({ cls := "WholePacks", name := "many", desc := "(I)I" } : Jvm.MethodName)) ∈ lw_all := lw_g (lw_at lw_m5 102 rfl) rfl
theorem q1176 : (Jvm.Cond.code ({ cls := "WholePacks", name := "many", desc := "(I)I" } : Jvm.MethodName) prog_1_method_41_code (2 : Nat) (Option.some Jvm.ClassFile.FieldType.int)) ∈ lw_all := lw_g (lw_at lw_m5 103 rfl) rfl
theorem q1177 : (Jvm.Cond.privateMethod ({ cls := "WholePacks", name := "lambda$many$4", desc := "(IIII)Z" } : Jvm.MethodName)) ∈ lw_tbl := lw_at lw_m5 104 rfl
theorem q1178 : (Jvm.Cond.instanceMethod ({ cls := "WholePacks", name := "lambda$many$4", desc := "(IIII)Z" } : Jvm.MethodName)) ∈ lw_all := lw_g (lw_at lw_m5 105 rfl) rfl
theorem q1179 : (Jvm.Cond.code ({ cls := "WholePacks", name := "lambda$many$4", desc := "(IIII)Z" } : Jvm.MethodName) prog_1_method_80_code (5 : Nat) (Option.some Jvm.ClassFile.FieldType.boolean)) ∈ lw_all := lw_g (lw_at lw_m5 106 rfl) rfl
theorem q1180 : (Jvm.Cond.methodLink "WholePacks" (608 : Nat) ({ cls := "WholePacks", name := "counts", desc := "(II)Z" } : Jvm.MethodName)) ∈ lw_all := lw_g (lw_at lw_m5 107 rfl) rfl
theorem q1181 : (Jvm.Cond.privateMethod ({ cls := "WholePacks", name := "counts", desc := "(II)Z" } : Jvm.MethodName)) ∈ lw_tbl := lw_at lw_m5 108 rfl
theorem q1182 : (Jvm.Cond.instanceMethod ({ cls := "WholePacks", name := "counts", desc := "(II)Z" } : Jvm.MethodName)) ∈ lw_all := lw_g (lw_at lw_m5 109 rfl) rfl
theorem q1183 : (Jvm.Cond.code ({ cls := "WholePacks", name := "counts", desc := "(II)Z" } : Jvm.MethodName) prog_1_method_40_code (3 : Nat) (Option.some Jvm.ClassFile.FieldType.boolean)) ∈ lw_all := lw_g (lw_at lw_m5 110 rfl) rfl
theorem q1185 : (Jvm.Cond.instanceMethod ({ cls := "WholePacks", name := "breaks", desc := "(I)I" } : Jvm.MethodName)) ∈ lw_all := lw_g (lw_at lw_m5 112 rfl) rfl
theorem q1186 : (Jvm.Cond.selects "WholePacks" ({ cls := "WholePacks", name := "breaks", desc := "(I)I" } : Jvm.MethodName) ({ cls := "WholePacks", name := "breaks", desc := "(I)I" } : Jvm.MethodName)) ∈ lw_all := lw_g (lw_at lw_m5 113 rfl) rfl
theorem q1187 : (Jvm.Cond.code ({ cls := "WholePacks", name := "breaks", desc := "(I)I" } : Jvm.MethodName) prog_1_method_43_code (3 : Nat) (Option.some Jvm.ClassFile.FieldType.int)) ∈ lw_all := lw_g (lw_at lw_m5 114 rfl) rfl
theorem q1188 : (Jvm.Cond.methodLink "WholePacks" (393 : Nat) ({ cls := "WholePacks", name := "reads", desc := "(I)Z" } : Jvm.MethodName)) ∈ lw_all := lw_g (lw_at lw_m5 115 rfl) rfl
theorem q1189 : (Jvm.Cond.privateMethod ({ cls := "WholePacks", name := "reads", desc := "(I)Z" } : Jvm.MethodName)) ∈ lw_tbl := lw_at lw_m5 116 rfl
theorem q1190 : (Jvm.Cond.instanceMethod ({ cls := "WholePacks", name := "reads", desc := "(I)Z" } : Jvm.MethodName)) ∈ lw_all := lw_g (lw_at lw_m5 117 rfl) rfl
theorem q1191 : (Jvm.Cond.code ({ cls := "WholePacks", name := "reads", desc := "(I)Z" } : Jvm.MethodName) prog_1_method_42_code (5 : Nat) (Option.some Jvm.ClassFile.FieldType.boolean)) ∈ lw_all := lw_g (lw_at lw_m5 118 rfl) rfl
theorem q1193 : (Jvm.Cond.instanceMethod ({ cls := "WholePacks", name := "lost", desc := "(I)I" } : Jvm.MethodName)) ∈ lw_all := lw_g (lw_at lw_m5 120 rfl) rfl
theorem q1194 : (Jvm.Cond.selects "WholePacks" ({ cls := "WholePacks", name := "lost", desc := "(I)I" } : Jvm.MethodName) ({ cls := "WholePacks", name := "lost", desc := "(I)I" } : Jvm.MethodName)) ∈ lw_all := lw_g (lw_at lw_m5 121 rfl) rfl
theorem q1195 : (Jvm.Cond.code ({ cls := "WholePacks", name := "lost", desc := "(I)I" } : Jvm.MethodName) prog_1_method_46_code (2 : Nat) (Option.some Jvm.ClassFile.FieldType.int)) ∈ lw_all := lw_g (lw_at lw_m5 122 rfl) rfl
theorem q1196 : (Jvm.Cond.privateMethod ({ cls := "WholePacks", name := "lambda$lost$5", desc := "(IIII)Z" } : Jvm.MethodName)) ∈ lw_tbl := lw_at lw_m5 123 rfl
theorem q1197 : (Jvm.Cond.instanceMethod ({ cls := "WholePacks", name := "lambda$lost$5", desc := "(IIII)Z" } : Jvm.MethodName)) ∈ lw_all := lw_g (lw_at lw_m5 124 rfl) rfl
theorem q1198 : (Jvm.Cond.code ({ cls := "WholePacks", name := "lambda$lost$5", desc := "(IIII)Z" } : Jvm.MethodName) prog_1_method_79_code (5 : Nat) (Option.some Jvm.ClassFile.FieldType.boolean)) ∈ lw_all := lw_g (lw_at lw_m5 125 rfl) rfl
theorem q1199 : (Jvm.Cond.methodLink "WholePacks" (605 : Nat) ({ cls := "WholePacks", name := "isKept", desc := "(II)Z" } : Jvm.MethodName)) ∈ lw_all := lw_g (lw_at lw_m5 126 rfl) rfl
theorem q1200 : (Jvm.Cond.privateMethod ({ cls := "WholePacks", name := "isKept", desc := "(II)Z" } : Jvm.MethodName)) ∈ lw_tbl := lw_at lw_m5 127 rfl
theorem q1201 : (Jvm.Cond.instanceMethod ({ cls := "WholePacks", name := "isKept", desc := "(II)Z" } : Jvm.MethodName)) ∈ lw_all := lw_g (lw_at lw_m5 128 rfl) rfl
theorem q1202 : (Jvm.Cond.code ({ cls := "WholePacks", name := "isKept", desc := "(II)Z" } : Jvm.MethodName) prog_1_method_45_code (3 : Nat) (Option.some Jvm.ClassFile.FieldType.boolean)) ∈ lw_all := lw_g (lw_at lw_m5 129 rfl) rfl
theorem q1203 : (Jvm.Cond.methodLink "WholePacks" (395 : Nat) ({ cls := "WholePacks", name := "isWithin", desc := "(I)Z" } : Jvm.MethodName)) ∈ lw_all := lw_g (lw_at lw_m5 130 rfl) rfl
theorem q1204 : (Jvm.Cond.privateMethod ({ cls := "WholePacks", name := "isWithin", desc := "(I)Z" } : Jvm.MethodName)) ∈ lw_tbl := lw_at lw_m5 131 rfl
theorem q1205 : (Jvm.Cond.instanceMethod ({ cls := "WholePacks", name := "isWithin", desc := "(I)Z" } : Jvm.MethodName)) ∈ lw_all := lw_g (lw_at lw_m5 132 rfl) rfl
theorem q1206 : (Jvm.Cond.code ({ cls := "WholePacks", name := "isWithin", desc := "(I)Z" } : Jvm.MethodName) prog_1_method_44_code (5 : Nat) (Option.some Jvm.ClassFile.FieldType.boolean)) ∈ lw_all := lw_g (lw_at lw_m5 133 rfl) rfl
theorem q1208 : (Jvm.Cond.instanceMethod ({ cls := "WholePacks", name := "branch", desc := "(I)I" } : Jvm.MethodName)) ∈ lw_all := lw_g (lw_at lw_m5 135 rfl) rfl
theorem q1209 : (Jvm.Cond.selects "WholePacks" ({ cls := "WholePacks", name := "branch", desc := "(I)I" } : Jvm.MethodName) ({ cls := "WholePacks", name := "branch", desc := "(I)I" } : Jvm.MethodName)) ∈ lw_all := lw_g (lw_at lw_m5 136 rfl) rfl
theorem q1210 : (Jvm.Cond.codeWith ({ cls := "WholePacks", name := "branch", desc := "(I)I" } : Jvm.MethodName) prog_1_method_51_code (3 : Nat) (Option.some Jvm.ClassFile.FieldType.int) [((21 : Nat), (66 : Nat), (91 : Nat), (424 : Nat)), ((67 : Nat), (71 : Nat), (91 : Nat), (424 : Nat)), ((72 : Nat), (76 : Nat), (91 : Nat), (424 : Nat)), ((77 : Nat), (81 : Nat), (91 : Nat), (424 : Nat)), ((82 : Nat), (90 : Nat), (91 : Nat), (424 : Nat))]) ∈ lw_all := lw_g (lw_at lw_m5 137 rfl) rfl
theorem q1211 : (Jvm.Cond.classLink "WholePacks" (424 : Nat) "WholePacks$Stuck") ∈ lw_all := lw_g (lw_at lw_m5 138 rfl) rfl
theorem q1212 : (Jvm.Cond.methodLink "WholePacks" (457 : Nat) ({ cls := "WholePacks", name := "branched", desc := "()LWholePacks$Node;" } : Jvm.MethodName)) ∈ lw_all := lw_g (lw_at lw_m5 139 rfl) rfl
theorem q1213 : (Jvm.Cond.privateMethod ({ cls := "WholePacks", name := "branched", desc := "()LWholePacks$Node;" } : Jvm.MethodName)) ∈ lw_tbl := lw_at lw_m5 140 rfl
theorem q1214 : (Jvm.Cond.instanceMethod ({ cls := "WholePacks", name := "branched", desc := "()LWholePacks$Node;" } : Jvm.MethodName)) ∈ lw_all := lw_g (lw_at lw_m5 141 rfl) rfl
theorem q1215 : (Jvm.Cond.code ({ cls := "WholePacks", name := "branched", desc := "()LWholePacks$Node;" } : Jvm.MethodName) prog_1_method_50_code (3 : Nat) (Option.some (Jvm.ClassFile.FieldType.object "WholePacks$Node"))) ∈ lw_all := lw_g (lw_at lw_m5 142 rfl) rfl
theorem q1216 : (Jvm.Cond.methodLink "WholePacks" (436 : Nat) ({ cls := "WholePacks", name := "nextNode", desc := "()LWholePacks$Node;" } : Jvm.MethodName)) ∈ lw_all := lw_g (lw_at lw_m5 143 rfl) rfl
theorem q1217 : (Jvm.Cond.privateMethod ({ cls := "WholePacks", name := "nextNode", desc := "()LWholePacks$Node;" } : Jvm.MethodName)) ∈ lw_tbl := lw_at lw_m5 144 rfl
theorem q1218 : (Jvm.Cond.instanceMethod ({ cls := "WholePacks", name := "nextNode", desc := "()LWholePacks$Node;" } : Jvm.MethodName)) ∈ lw_all := lw_g (lw_at lw_m5 145 rfl) rfl
theorem q1219 : (Jvm.Cond.code ({ cls := "WholePacks", name := "nextNode", desc := "()LWholePacks$Node;" } : Jvm.MethodName) prog_1_method_48_code (1 : Nat) (Option.some (Jvm.ClassFile.FieldType.object "WholePacks$Node"))) ∈ lw_all := lw_g (lw_at lw_m5 146 rfl) rfl
theorem q1220 : (Jvm.Cond.methodLink "WholePacks" (432 : Nat) ({ cls := "WholePacks$Stuck", name := "<init>", desc := "(I)V" } : Jvm.MethodName)) ∈ lw_all := lw_g (lw_at lw_m5 147 rfl) rfl
theorem q1221 : (Jvm.Cond.methodLink "WholePacks" (449 : Nat) ({ cls := "WholePacks$Node", name := "begins", desc := "()V" } : Jvm.MethodName)) ∈ lw_all := lw_g (lw_at lw_m5 148 rfl) rfl
theorem q1225 : (Jvm.Cond.methodLink "WholePacks" (446 : Nat) ({ cls := "WholePacks", name := "relaxes", desc := "(LWholePacks$Node;)V" } : Jvm.MethodName)) ∈ lw_all := lw_g (lw_at lw_m5 152 rfl) rfl
theorem q1226 : (Jvm.Cond.privateMethod ({ cls := "WholePacks", name := "relaxes", desc := "(LWholePacks$Node;)V" } : Jvm.MethodName)) ∈ lw_tbl := lw_at lw_m5 153 rfl
theorem q1227 : (Jvm.Cond.instanceMethod ({ cls := "WholePacks", name := "relaxes", desc := "(LWholePacks$Node;)V" } : Jvm.MethodName)) ∈ lw_all := lw_g (lw_at lw_m5 154 rfl) rfl
theorem q1228 : (Jvm.Cond.codeWith ({ cls := "WholePacks", name := "relaxes", desc := "(LWholePacks$Node;)V" } : Jvm.MethodName) prog_1_method_47_code (4 : Nat) (Option.none : Option Jvm.ClassFile.FieldType) [((79 : Nat), (103 : Nat), (122 : Nat), (424 : Nat)), ((79 : Nat), (103 : Nat), (153 : Nat), (0 : Nat)), ((122 : Nat), (134 : Nat), (153 : Nat), (0 : Nat))]) ∈ lw_all := lw_g (lw_at lw_m5 155 rfl) rfl
theorem q1229 : (Jvm.Cond.methodLink "WholePacks" (399 : Nat) ({ cls := "WholePacks$Table", name := "begins", desc := "(LWholePacks$Desk;)V" } : Jvm.MethodName)) ∈ lw_all := lw_g (lw_at lw_m5 156 rfl) rfl
theorem q1230 : (Jvm.Cond.methodLink "WholePacks" (405 : Nat) ({ cls := "WholePacks$Table", name := "holds", desc := "(IIZ)V" } : Jvm.MethodName)) ∈ lw_all := lw_g (lw_at lw_m5 157 rfl) rfl
theorem q1235 : (Jvm.Cond.methodLink "WholePacks" (412 : Nat) ({ cls := "WholePacks$Table", name := "repairs", desc := "()V" } : Jvm.MethodName)) ∈ lw_all := lw_g (lw_at lw_m5 162 rfl) rfl
theorem q1236 : (Jvm.Cond.methodLink "WholePacks" (415 : Nat) ({ cls := "WholePacks$Node", name := "reads", desc := "(LWholePacks$Table;)V" } : Jvm.MethodName)) ∈ lw_all := lw_g (lw_at lw_m5 163 rfl) rfl
theorem q1246 : (Jvm.Cond.methodLink "WholePacks" (451 : Nat) ({ cls := "java/util/PriorityQueue", name := "isEmpty", desc := "()Z" } : Jvm.MethodName)) ∈ lw_all := lw_g (lw_at lw_m5 173 rfl) rfl
theorem q1268 : (Jvm.Cond.methodLink "WholePacks" (454 : Nat) ({ cls := "WholePacks", name := "parts", desc := "(LWholePacks$Node;)V" } : Jvm.MethodName)) ∈ lw_all := lw_g (lw_at lw_m5 195 rfl) rfl
theorem q1269 : (Jvm.Cond.privateMethod ({ cls := "WholePacks", name := "parts", desc := "(LWholePacks$Node;)V" } : Jvm.MethodName)) ∈ lw_tbl := lw_at lw_m5 196 rfl
theorem q1270 : (Jvm.Cond.instanceMethod ({ cls := "WholePacks", name := "parts", desc := "(LWholePacks$Node;)V" } : Jvm.MethodName)) ∈ lw_all := lw_g (lw_at lw_m5 197 rfl) rfl
theorem q1271 : (Jvm.Cond.code ({ cls := "WholePacks", name := "parts", desc := "(LWholePacks$Node;)V" } : Jvm.MethodName) prog_1_method_49_code (5 : Nat) (Option.none : Option Jvm.ClassFile.FieldType)) ∈ lw_all := lw_g (lw_at lw_m5 198 rfl) rfl
theorem q1272 : (Jvm.Cond.methodLink "WholePacks" (440 : Nat) ({ cls := "WholePacks$Node", name := "begins", desc := "(LWholePacks$Node;)V" } : Jvm.MethodName)) ∈ lw_all := lw_g (lw_at lw_m5 199 rfl) rfl
theorem q1278 : (Jvm.Cond.instanceMethod ({ cls := "WholePacks", name := "would", desc := "(II)I" } : Jvm.MethodName)) ∈ lw_all := lw_g (lw_at lw_m5 205 rfl) rfl
theorem q1279 : (Jvm.Cond.selects "WholePacks" ({ cls := "WholePacks", name := "would", desc := "(II)I" } : Jvm.MethodName) ({ cls := "WholePacks", name := "would", desc := "(II)I" } : Jvm.MethodName)) ∈ lw_all := lw_g (lw_at lw_m5 206 rfl) rfl
theorem q1280 : (Jvm.Cond.code ({ cls := "WholePacks", name := "would", desc := "(II)I" } : Jvm.MethodName) prog_1_method_52_code (3 : Nat) (Option.some Jvm.ClassFile.FieldType.int)) ∈ lw_all := lw_g (lw_at lw_m5 207 rfl) rfl
theorem q1281 : (Jvm.Cond.methodLink "WholePacks" (465 : Nat) ({ cls := "WholePacks", name := "worthBy", desc := "(II)I" } : Jvm.MethodName)) ∈ lw_all := lw_g (lw_at lw_m5 208 rfl) rfl
theorem q1282 : (Jvm.Cond.privateMethod ({ cls := "WholePacks", name := "worthBy", desc := "(II)I" } : Jvm.MethodName)) ∈ lw_tbl := lw_at lw_m5 209 rfl
theorem q1283 : (Jvm.Cond.instanceMethod ({ cls := "WholePacks", name := "worthBy", desc := "(II)I" } : Jvm.MethodName)) ∈ lw_all := lw_g (lw_at lw_m5 210 rfl) rfl
theorem q1284 : (Jvm.Cond.code ({ cls := "WholePacks", name := "worthBy", desc := "(II)I" } : Jvm.MethodName) prog_1_method_53_code (4 : Nat) (Option.some Jvm.ClassFile.FieldType.int)) ∈ lw_all := lw_g (lw_at lw_m5 211 rfl) rfl
theorem q1285 : (Jvm.Cond.methodLink "WholePacks" (469 : Nat) ({ cls := "WholePacks$Desk", name := "like", desc := "(LWholePacks$Desk;)LWholePacks$Desk;" } : Jvm.MethodName)) ∈ lw_all := lw_g (lw_at lw_m5 212 rfl) rfl
theorem q1291 : (Jvm.Cond.methodLink "WholePacks" (472 : Nat) ({ cls := "WholePacks$Table", name := "worth", desc := "(LWholePacks$Desk;)I" } : Jvm.MethodName)) ∈ lw_all := lw_g (lw_at lw_m5 218 rfl) rfl
theorem q1297 : (Jvm.Cond.instanceMethod ({ cls := "WholePacks", name := "see", desc := "(II)I" } : Jvm.MethodName)) ∈ lw_all := lw_g (lw_at lw_m5 224 rfl) rfl
theorem q1298 : (Jvm.Cond.selects "WholePacks" ({ cls := "WholePacks", name := "see", desc := "(II)I" } : Jvm.MethodName) ({ cls := "WholePacks", name := "see", desc := "(II)I" } : Jvm.MethodName)) ∈ lw_all := lw_g (lw_at lw_m5 225 rfl) rfl
theorem q1299 : (Jvm.Cond.code ({ cls := "WholePacks", name := "see", desc := "(II)I" } : Jvm.MethodName) prog_1_method_54_code (3 : Nat) (Option.some Jvm.ClassFile.FieldType.int)) ∈ lw_all := lw_g (lw_at lw_m5 226 rfl) rfl
theorem q1301 : (Jvm.Cond.instanceMethod ({ cls := "WholePacks", name := "fits", desc := "(II)I" } : Jvm.MethodName)) ∈ lw_all := lw_g (lw_at lw_m5 228 rfl) rfl
theorem q1302 : (Jvm.Cond.selects "WholePacks" ({ cls := "WholePacks", name := "fits", desc := "(II)I" } : Jvm.MethodName) ({ cls := "WholePacks", name := "fits", desc := "(II)I" } : Jvm.MethodName)) ∈ lw_all := lw_g (lw_at lw_m5 229 rfl) rfl
theorem q1303 : (Jvm.Cond.code ({ cls := "WholePacks", name := "fits", desc := "(II)I" } : Jvm.MethodName) prog_1_method_56_code (6 : Nat) (Option.some Jvm.ClassFile.FieldType.int)) ∈ lw_all := lw_g (lw_at lw_m5 230 rfl) rfl
theorem q1304 : (Jvm.Cond.methodLink "WholePacks" (482 : Nat) ({ cls := "WholePacks", name := "isSeen", desc := "()Z" } : Jvm.MethodName)) ∈ lw_all := lw_g (lw_at lw_m5 231 rfl) rfl
theorem q1305 : (Jvm.Cond.privateMethod ({ cls := "WholePacks", name := "isSeen", desc := "()Z" } : Jvm.MethodName)) ∈ lw_tbl := lw_at lw_m5 232 rfl
theorem q1306 : (Jvm.Cond.instanceMethod ({ cls := "WholePacks", name := "isSeen", desc := "()Z" } : Jvm.MethodName)) ∈ lw_all := lw_g (lw_at lw_m5 233 rfl) rfl
theorem q1307 : (Jvm.Cond.code ({ cls := "WholePacks", name := "isSeen", desc := "()Z" } : Jvm.MethodName) prog_1_method_55_code (2 : Nat) (Option.some Jvm.ClassFile.FieldType.boolean)) ∈ lw_all := lw_g (lw_at lw_m5 234 rfl) rfl
theorem q1309 : (Jvm.Cond.instanceMethod ({ cls := "WholePacks", name := "odds", desc := "(IIIII)J" } : Jvm.MethodName)) ∈ lw_all := lw_g (lw_at lw_m5 236 rfl) rfl
theorem q1310 : (Jvm.Cond.selects "WholePacks" ({ cls := "WholePacks", name := "odds", desc := "(IIIII)J" } : Jvm.MethodName) ({ cls := "WholePacks", name := "odds", desc := "(IIIII)J" } : Jvm.MethodName)) ∈ lw_all := lw_g (lw_at lw_m5 237 rfl) rfl
theorem q1311 : (Jvm.Cond.code ({ cls := "WholePacks", name := "odds", desc := "(IIIII)J" } : Jvm.MethodName) prog_1_method_57_code (8 : Nat) (Option.some Jvm.ClassFile.FieldType.long)) ∈ lw_all := lw_g (lw_at lw_m5 238 rfl) rfl
theorem q1312 : (Jvm.Cond.constantLong "WholePacks" (485 : Nat) (8 : Int64)) ∈ lw_all := lw_g (lw_at lw_m5 239 rfl) rfl
theorem q1313 : (Jvm.Cond.methodLink "WholePacks" (487 : Nat) ({ cls := "WholePacks", name := "lowest", desc := "(JJI)J" } : Jvm.MethodName)) ∈ lw_all := lw_g (lw_at lw_m6 0 rfl) rfl
theorem q1314 : (Jvm.Cond.static ({ cls := "WholePacks", name := "lowest", desc := "(JJI)J" } : Jvm.MethodName)) ∈ lw_all := lw_g (lw_at lw_m6 1 rfl) rfl
theorem q1315 : (Jvm.Cond.code ({ cls := "WholePacks", name := "lowest", desc := "(JJI)J" } : Jvm.MethodName) prog_1_method_4_code (5 : Nat) (Option.some Jvm.ClassFile.FieldType.long)) ∈ lw_all := lw_g (lw_at lw_m6 2 rfl) rfl
theorem q1317 : (Jvm.Cond.instanceMethod ({ cls := "WholePacks", name := "mean", desc := "(I)J" } : Jvm.MethodName)) ∈ lw_all := lw_g (lw_at lw_m6 4 rfl) rfl
theorem q1318 : (Jvm.Cond.selects "WholePacks" ({ cls := "WholePacks", name := "mean", desc := "(I)J" } : Jvm.MethodName) ({ cls := "WholePacks", name := "mean", desc := "(I)J" } : Jvm.MethodName)) ∈ lw_all := lw_g (lw_at lw_m6 5 rfl) rfl
theorem q1319 : (Jvm.Cond.code ({ cls := "WholePacks", name := "mean", desc := "(I)J" } : Jvm.MethodName) prog_1_method_58_code (4 : Nat) (Option.some Jvm.ClassFile.FieldType.long)) ∈ lw_all := lw_g (lw_at lw_m6 6 rfl) rfl
theorem q1321 : (Jvm.Cond.instanceMethod ({ cls := "WholePacks", name := "drawn", desc := "(II)I" } : Jvm.MethodName)) ∈ lw_all := lw_g (lw_at lw_m6 8 rfl) rfl
theorem q1322 : (Jvm.Cond.selects "WholePacks" ({ cls := "WholePacks", name := "drawn", desc := "(II)I" } : Jvm.MethodName) ({ cls := "WholePacks", name := "drawn", desc := "(II)I" } : Jvm.MethodName)) ∈ lw_all := lw_g (lw_at lw_m6 9 rfl) rfl
theorem q1323 : (Jvm.Cond.code ({ cls := "WholePacks", name := "drawn", desc := "(II)I" } : Jvm.MethodName) prog_1_method_60_code (7 : Nat) (Option.some Jvm.ClassFile.FieldType.int)) ∈ lw_all := lw_g (lw_at lw_m6 10 rfl) rfl
theorem q1324 : (Jvm.Cond.constantLong "WholePacks" (494 : Nat) (4 : Int64)) ∈ lw_all := lw_g (lw_at lw_m6 11 rfl) rfl
theorem q1325 : (Jvm.Cond.methodLink "WholePacks" (496 : Nat) ({ cls := "WholePacks", name := "draw", desc := "(I)I" } : Jvm.MethodName)) ∈ lw_all := lw_g (lw_at lw_m6 12 rfl) rfl
theorem q1326 : (Jvm.Cond.privateMethod ({ cls := "WholePacks", name := "draw", desc := "(I)I" } : Jvm.MethodName)) ∈ lw_tbl := lw_at lw_m6 13 rfl
theorem q1327 : (Jvm.Cond.instanceMethod ({ cls := "WholePacks", name := "draw", desc := "(I)I" } : Jvm.MethodName)) ∈ lw_all := lw_g (lw_at lw_m6 14 rfl) rfl
theorem q1328 : (Jvm.Cond.code ({ cls := "WholePacks", name := "draw", desc := "(I)I" } : Jvm.MethodName) prog_1_method_59_code (2 : Nat) (Option.some Jvm.ClassFile.FieldType.int)) ∈ lw_all := lw_g (lw_at lw_m6 15 rfl) rfl
theorem q1329 : (Jvm.Cond.constant "WholePacks" (493 : Nat) (1103515245 : Int32)) ∈ lw_all := lw_g (lw_at lw_m6 16 rfl) rfl
theorem q1331 : (Jvm.Cond.instanceMethod ({ cls := "WholePacks", name := "offer", desc := "(II)I" } : Jvm.MethodName)) ∈ lw_all := lw_g (lw_at lw_m6 18 rfl) rfl
theorem q1332 : (Jvm.Cond.selects "WholePacks" ({ cls := "WholePacks", name := "offer", desc := "(II)I" } : Jvm.MethodName) ({ cls := "WholePacks", name := "offer", desc := "(II)I" } : Jvm.MethodName)) ∈ lw_all := lw_g (lw_at lw_m6 19 rfl) rfl
theorem q1333 : (Jvm.Cond.code ({ cls := "WholePacks", name := "offer", desc := "(II)I" } : Jvm.MethodName) prog_1_method_61_code (5 : Nat) (Option.some Jvm.ClassFile.FieldType.int)) ∈ lw_all := lw_g (lw_at lw_m6 20 rfl) rfl
theorem q1334 : (Jvm.Cond.classLink "WholePacks" (499 : Nat) "WholePacks$Mix") ∈ lw_all := lw_g (lw_at lw_m6 21 rfl) rfl
theorem q1336 : (Jvm.Cond.methodLink "WholePacks" (501 : Nat) ({ cls := "WholePacks$Mix", name := "<init>", desc := "(II)V" } : Jvm.MethodName)) ∈ lw_all := lw_g (lw_at lw_m6 23 rfl) rfl
theorem q1341 : (Jvm.Cond.fieldLinkNest "WholePacks" (530 : Nat) "WholePacks$Mix" "cost" "I" "WholePacks") ∈ lw_tbl := lw_at lw_m6 28 rfl
theorem q1343 : (Jvm.Cond.fieldLinkNest "WholePacks" (526 : Nat) "WholePacks$Mix" "code" "I" "WholePacks") ∈ lw_tbl := lw_at lw_m6 30 rfl
theorem q1349 : (Jvm.Cond.methodLink "WholePacks" (503 : Nat) ({ cls := "java/util/TreeMap", name := "size", desc := "()I" } : Jvm.MethodName)) ∈ lw_all := lw_g (lw_at lw_m6 36 rfl) rfl
theorem q1350 : (Jvm.Cond.methodLink "WholePacks" (504 : Nat) ({ cls := "java/util/TreeMap", name := "containsKey", desc := "(Ljava/lang/Object;)Z" } : Jvm.MethodName)) ∈ lw_all := lw_g (lw_at lw_m6 37 rfl) rfl
theorem q1370 : (Jvm.Cond.classLink "WholePacks" (507 : Nat) "WholePacks$Ask") ∈ lw_all := lw_g (lw_at lw_m6 57 rfl) rfl
theorem q1372 : (Jvm.Cond.methodLink "WholePacks" (509 : Nat) ({ cls := "WholePacks$Ask", name := "<init>", desc := "(I)V" } : Jvm.MethodName)) ∈ lw_all := lw_g (lw_at lw_m6 59 rfl) rfl
theorem q1377 : (Jvm.Cond.fieldLinkNest "WholePacks" (514 : Nat) "WholePacks$Ask" "v" "I" "WholePacks") ∈ lw_tbl := lw_at lw_m6 64 rfl
theorem q1381 : (Jvm.Cond.methodLink "WholePacks" (510 : Nat) ({ cls := "java/util/TreeMap", name := "put", desc := "(Ljava/lang/Object;Ljava/lang/Object;)Ljava/lang/Object;" } : Jvm.MethodName)) ∈ lw_all := lw_g (lw_at lw_m6 68 rfl) rfl
theorem q1459 : (Jvm.Cond.instanceMethod ({ cls := "WholePacks", name := "offered", desc := "(II)I" } : Jvm.MethodName)) ∈ lw_all := lw_g (lw_at lw_m6 146 rfl) rfl
theorem q1460 : (Jvm.Cond.selects "WholePacks" ({ cls := "WholePacks", name := "offered", desc := "(II)I" } : Jvm.MethodName) ({ cls := "WholePacks", name := "offered", desc := "(II)I" } : Jvm.MethodName)) ∈ lw_all := lw_g (lw_at lw_m6 147 rfl) rfl
theorem q1461 : (Jvm.Cond.code ({ cls := "WholePacks", name := "offered", desc := "(II)I" } : Jvm.MethodName) prog_1_method_62_code (5 : Nat) (Option.some Jvm.ClassFile.FieldType.int)) ∈ lw_all := lw_g (lw_at lw_m6 148 rfl) rfl
theorem q1462 : (Jvm.Cond.constantLong "WholePacks" (517 : Nat) (2 : Int64)) ∈ lw_all := lw_g (lw_at lw_m6 149 rfl) rfl
theorem q1463 : (Jvm.Cond.methodLink "WholePacks" (519 : Nat) ({ cls := "java/util/TreeMap", name := "firstKey", desc := "()Ljava/lang/Object;" } : Jvm.MethodName)) ∈ lw_all := lw_g (lw_at lw_m6 150 rfl) rfl
theorem q1474 : (Jvm.Cond.methodLink "WholePacks" (522 : Nat) ({ cls := "java/util/TreeMap", name := "higherKey", desc := "(Ljava/lang/Object;)Ljava/lang/Object;" } : Jvm.MethodName)) ∈ lw_all := lw_g (lw_at lw_m6 161 rfl) rfl
theorem q1485 : (Jvm.Cond.methodLink "WholePacks" (527 : Nat) ({ cls := "java/util/TreeMap", name := "get", desc := "(Ljava/lang/Object;)Ljava/lang/Object;" } : Jvm.MethodName)) ∈ lw_all := lw_g (lw_at lw_m6 172 rfl) rfl
theorem q1490 : (Jvm.Cond.instanceMethod ({ cls := "WholePacks", name := "upTo", desc := "(I)I" } : Jvm.MethodName)) ∈ lw_all := lw_g (lw_at lw_m6 177 rfl) rfl
theorem q1491 : (Jvm.Cond.selects "WholePacks" ({ cls := "WholePacks", name := "upTo", desc := "(I)I" } : Jvm.MethodName) ({ cls := "WholePacks", name := "upTo", desc := "(I)I" } : Jvm.MethodName)) ∈ lw_all := lw_g (lw_at lw_m6 178 rfl) rfl
theorem q1492 : (Jvm.Cond.code ({ cls := "WholePacks", name := "upTo", desc := "(I)I" } : Jvm.MethodName) prog_1_method_63_code (3 : Nat) (Option.some Jvm.ClassFile.FieldType.int)) ∈ lw_all := lw_g (lw_at lw_m6 179 rfl) rfl
theorem q1493 : (Jvm.Cond.constant "WholePacks" (533 : Nat) (99999 : Int32)) ∈ lw_all := lw_g (lw_at lw_m6 180 rfl) rfl
theorem q1494 : (Jvm.Cond.methodLink "WholePacks" (534 : Nat) ({ cls := "java/util/TreeMap", name := "floorKey", desc := "(Ljava/lang/Object;)Ljava/lang/Object;" } : Jvm.MethodName)) ∈ lw_all := lw_g (lw_at lw_m6 181 rfl) rfl
theorem q1503 : (Jvm.Cond.instanceMethod ({ cls := "WholePacks", name := "dearest", desc := "()I" } : Jvm.MethodName)) ∈ lw_all := lw_g (lw_at lw_m6 190 rfl) rfl
theorem q1504 : (Jvm.Cond.selects "WholePacks" ({ cls := "WholePacks", name := "dearest", desc := "()I" } : Jvm.MethodName) ({ cls := "WholePacks", name := "dearest", desc := "()I" } : Jvm.MethodName)) ∈ lw_all := lw_g (lw_at lw_m6 191 rfl) rfl
theorem q1505 : (Jvm.Cond.code ({ cls := "WholePacks", name := "dearest", desc := "()I" } : Jvm.MethodName) prog_1_method_64_code (6 : Nat) (Option.some Jvm.ClassFile.FieldType.int)) ∈ lw_all := lw_g (lw_at lw_m6 192 rfl) rfl
theorem q1506 : (Jvm.Cond.methodLink "WholePacks" (537 : Nat) ({ cls := "java/util/TreeMap", name := "keySet", desc := "()Ljava/util/Set;" } : Jvm.MethodName)) ∈ lw_all := lw_g (lw_at lw_m6 193 rfl) rfl
theorem q1527 : (Jvm.Cond.interfaceEntry "WholePacks" (541 : Nat)) ∈ lw_tbl := lw_at lw_m6 214 rfl
theorem q1528 : (Jvm.Cond.methodLink "WholePacks" (541 : Nat) ({ cls := "java/util/Set", name := "iterator", desc := "()Ljava/util/Iterator;" } : Jvm.MethodName)) ∈ lw_all := lw_g (lw_at lw_m6 215 rfl) rfl
theorem q1568 : (Jvm.Cond.interfaceEntry "WholePacks" (547 : Nat)) ∈ lw_tbl := lw_at lw_m7 15 rfl
theorem q1569 : (Jvm.Cond.methodLink "WholePacks" (547 : Nat) ({ cls := "java/util/Iterator", name := "hasNext", desc := "()Z" } : Jvm.MethodName)) ∈ lw_all := lw_g (lw_at lw_m7 16 rfl) rfl
theorem q1578 : (Jvm.Cond.interfaceEntry "WholePacks" (552 : Nat)) ∈ lw_tbl := lw_at lw_m7 25 rfl
theorem q1579 : (Jvm.Cond.methodLink "WholePacks" (552 : Nat) ({ cls := "java/util/Iterator", name := "next", desc := "()Ljava/lang/Object;" } : Jvm.MethodName)) ∈ lw_all := lw_g (lw_at lw_m7 26 rfl) rfl
theorem q1597 : (Jvm.Cond.instanceMethod ({ cls := "WholePacks", name := "plan", desc := "(III)I" } : Jvm.MethodName)) ∈ lw_all := lw_g (lw_at lw_m7 44 rfl) rfl
theorem q1598 : (Jvm.Cond.selects "WholePacks" ({ cls := "WholePacks", name := "plan", desc := "(III)I" } : Jvm.MethodName) ({ cls := "WholePacks", name := "plan", desc := "(III)I" } : Jvm.MethodName)) ∈ lw_all := lw_g (lw_at lw_m7 45 rfl) rfl
theorem q1599 : (Jvm.Cond.code ({ cls := "WholePacks", name := "plan", desc := "(III)I" } : Jvm.MethodName) prog_1_method_65_code (4 : Nat) (Option.some Jvm.ClassFile.FieldType.int)) ∈ lw_all := lw_g (lw_at lw_m7 46 rfl) rfl
theorem q1601 : (Jvm.Cond.instanceMethod ({ cls := "WholePacks", name := "ends", desc := "()I" } : Jvm.MethodName)) ∈ lw_all := lw_g (lw_at lw_m7 48 rfl) rfl
theorem q1602 : (Jvm.Cond.selects "WholePacks" ({ cls := "WholePacks", name := "ends", desc := "()I" } : Jvm.MethodName) ({ cls := "WholePacks", name := "ends", desc := "()I" } : Jvm.MethodName)) ∈ lw_all := lw_g (lw_at lw_m7 49 rfl) rfl
theorem q1603 : (Jvm.Cond.code ({ cls := "WholePacks", name := "ends", desc := "()I" } : Jvm.MethodName) prog_1_method_68_code (3 : Nat) (Option.some Jvm.ClassFile.FieldType.int)) ∈ lw_all := lw_g (lw_at lw_m7 50 rfl) rfl
theorem q1604 : (Jvm.Cond.interfaceEntry "WholePacks" (561 : Nat)) ∈ lw_tbl := lw_at lw_m7 51 rfl
theorem q1605 : (Jvm.Cond.methodLink "WholePacks" (561 : Nat) ({ cls := "WholePacks$Change", name := "does", desc := "(II)V" } : Jvm.MethodName)) ∈ lw_all := lw_g (lw_at lw_m7 52 rfl) rfl
theorem q1609 : (Jvm.Cond.instanceMethod ({ cls := "WholePacks", name := "image", desc := "()I" } : Jvm.MethodName)) ∈ lw_all := lw_g (lw_at lw_m7 56 rfl) rfl
theorem q1610 : (Jvm.Cond.selects "WholePacks" ({ cls := "WholePacks", name := "image", desc := "()I" } : Jvm.MethodName) ({ cls := "WholePacks", name := "image", desc := "()I" } : Jvm.MethodName)) ∈ lw_all := lw_g (lw_at lw_m7 57 rfl) rfl
theorem q1611 : (Jvm.Cond.code ({ cls := "WholePacks", name := "image", desc := "()I" } : Jvm.MethodName) prog_1_method_70_code (1 : Nat) (Option.some Jvm.ClassFile.FieldType.int)) ∈ lw_all := lw_g (lw_at lw_m7 58 rfl) rfl
theorem q1612 : (Jvm.Cond.methodLink "WholePacks" (566 : Nat) ({ cls := "WholePacks", name := "like", desc := "(Ljava/util/TreeMap;Ljava/util/TreeMap;)V" } : Jvm.MethodName)) ∈ lw_all := lw_g (lw_at lw_m7 59 rfl) rfl
theorem q1613 : (Jvm.Cond.static ({ cls := "WholePacks", name := "like", desc := "(Ljava/util/TreeMap;Ljava/util/TreeMap;)V" } : Jvm.MethodName)) ∈ lw_all := lw_g (lw_at lw_m7 60 rfl) rfl
theorem q1614 : (Jvm.Cond.code ({ cls := "WholePacks", name := "like", desc := "(Ljava/util/TreeMap;Ljava/util/TreeMap;)V" } : Jvm.MethodName) prog_1_method_69_code (4 : Nat) (Option.none : Option Jvm.ClassFile.FieldType)) ∈ lw_all := lw_g (lw_at lw_m7 61 rfl) rfl
theorem q1616 : (Jvm.Cond.instanceMethod ({ cls := "WholePacks", name := "undo", desc := "()I" } : Jvm.MethodName)) ∈ lw_all := lw_g (lw_at lw_m7 63 rfl) rfl
theorem q1617 : (Jvm.Cond.selects "WholePacks" ({ cls := "WholePacks", name := "undo", desc := "()I" } : Jvm.MethodName) ({ cls := "WholePacks", name := "undo", desc := "()I" } : Jvm.MethodName)) ∈ lw_all := lw_g (lw_at lw_m7 64 rfl) rfl
theorem q1618 : (Jvm.Cond.code ({ cls := "WholePacks", name := "undo", desc := "()I" } : Jvm.MethodName) prog_1_method_71_code (1 : Nat) (Option.some Jvm.ClassFile.FieldType.int)) ∈ lw_all := lw_g (lw_at lw_m7 65 rfl) rfl
theorem q1620 : (Jvm.Cond.instanceMethod ({ cls := "WholePacks", name := "count", desc := "(I)I" } : Jvm.MethodName)) ∈ lw_all := lw_g (lw_at lw_m7 67 rfl) rfl
theorem q1621 : (Jvm.Cond.selects "WholePacks" ({ cls := "WholePacks", name := "count", desc := "(I)I" } : Jvm.MethodName) ({ cls := "WholePacks", name := "count", desc := "(I)I" } : Jvm.MethodName)) ∈ lw_all := lw_g (lw_at lw_m7 68 rfl) rfl
theorem q1622 : (Jvm.Cond.code ({ cls := "WholePacks", name := "count", desc := "(I)I" } : Jvm.MethodName) prog_1_method_72_code (2 : Nat) (Option.some Jvm.ClassFile.FieldType.int)) ∈ lw_all := lw_g (lw_at lw_m7 69 rfl) rfl
theorem q1624 : (Jvm.Cond.instanceMethod ({ cls := "WholePacks", name := "judge", desc := "(II)I" } : Jvm.MethodName)) ∈ lw_all := lw_g (lw_at lw_m7 71 rfl) rfl
theorem q1625 : (Jvm.Cond.selects "WholePacks" ({ cls := "WholePacks", name := "judge", desc := "(II)I" } : Jvm.MethodName) ({ cls := "WholePacks", name := "judge", desc := "(II)I" } : Jvm.MethodName)) ∈ lw_all := lw_g (lw_at lw_m7 72 rfl) rfl
theorem q1626 : (Jvm.Cond.code ({ cls := "WholePacks", name := "judge", desc := "(II)I" } : Jvm.MethodName) prog_1_method_74_code (5 : Nat) (Option.some Jvm.ClassFile.FieldType.int)) ∈ lw_all := lw_g (lw_at lw_m7 73 rfl) rfl
theorem q1627 : (Jvm.Cond.methodLink "WholePacks" (569 : Nat) ({ cls := "WholePacks", name := "isTape", desc := "(I)Z" } : Jvm.MethodName)) ∈ lw_all := lw_g (lw_at lw_m7 74 rfl) rfl
theorem q1628 : (Jvm.Cond.static ({ cls := "WholePacks", name := "isTape", desc := "(I)Z" } : Jvm.MethodName)) ∈ lw_all := lw_g (lw_at lw_m7 75 rfl) rfl
theorem q1629 : (Jvm.Cond.code ({ cls := "WholePacks", name := "isTape", desc := "(I)Z" } : Jvm.MethodName) prog_1_method_73_code (1 : Nat) (Option.some Jvm.ClassFile.FieldType.boolean)) ∈ lw_all := lw_g (lw_at lw_m7 76 rfl) rfl
theorem q1630 : (Jvm.Cond.methodLink "WholePacks" (572 : Nat) ({ cls := "WholePacks$Tape", name := "sort", desc := "()I" } : Jvm.MethodName)) ∈ lw_all := lw_g (lw_at lw_m7 77 rfl) rfl
theorem q1638 : (Jvm.Cond.methodLink "WholePacks" (574 : Nat) ({ cls := "WholePacks$Tape", name := "size", desc := "()I" } : Jvm.MethodName)) ∈ lw_all := lw_g (lw_at lw_m7 85 rfl) rfl
theorem q1644 : (Jvm.Cond.methodLink "WholePacks" (575 : Nat) ({ cls := "WholePacks$Tape", name := "at", desc := "(I)J" } : Jvm.MethodName)) ∈ lw_all := lw_g (lw_at lw_m7 91 rfl) rfl
theorem q1649 : (Jvm.Cond.instanceMethod ({ cls := "WholePacks", name := "tape", desc := "(III)I" } : Jvm.MethodName)) ∈ lw_all := lw_g (lw_at lw_m7 96 rfl) rfl
theorem q1650 : (Jvm.Cond.selects "WholePacks" ({ cls := "WholePacks", name := "tape", desc := "(III)I" } : Jvm.MethodName) ({ cls := "WholePacks", name := "tape", desc := "(III)I" } : Jvm.MethodName)) ∈ lw_all := lw_g (lw_at lw_m7 97 rfl) rfl
theorem q1651 : (Jvm.Cond.codeWith ({ cls := "WholePacks", name := "tape", desc := "(III)I" } : Jvm.MethodName) prog_1_method_75_code (5 : Nat) (Option.some Jvm.ClassFile.FieldType.int) [((36 : Nat), (47 : Nat), (50 : Nat), (583 : Nat))]) ∈ lw_all := lw_g (lw_at lw_m7 98 rfl) rfl
theorem q1652 : (Jvm.Cond.classLink "WholePacks" (583 : Nat) "java/lang/NegativeArraySizeException") ∈ lw_all := lw_g (lw_at lw_m7 99 rfl) rfl
theorem q1681 : (Jvm.Cond.constantLong "WholePacks" (578 : Nat) (-1 : Int64)) ∈ lw_all := lw_g (lw_at lw_m7 128 rfl) rfl
theorem q1682 : (Jvm.Cond.methodLink "WholePacks" (580 : Nat) ({ cls := "WholePacks$Tape", name := "becomes", desc := "(II)V" } : Jvm.MethodName)) ∈ lw_all := lw_g (lw_at lw_m7 129 rfl) rfl
theorem q1689 : (Jvm.Cond.instanceMethod ({ cls := "WholePacks", name := "item", desc := "(IIJ)I" } : Jvm.MethodName)) ∈ lw_all := lw_g (lw_at lw_m7 136 rfl) rfl
theorem q1690 : (Jvm.Cond.selects "WholePacks" ({ cls := "WholePacks", name := "item", desc := "(IIJ)I" } : Jvm.MethodName) ({ cls := "WholePacks", name := "item", desc := "(IIJ)I" } : Jvm.MethodName)) ∈ lw_all := lw_g (lw_at lw_m7 137 rfl) rfl
theorem q1691 : (Jvm.Cond.codeWith ({ cls := "WholePacks", name := "item", desc := "(IIJ)I" } : Jvm.MethodName) prog_1_method_76_code (6 : Nat) (Option.some Jvm.ClassFile.FieldType.int) [((24 : Nat), (35 : Nat), (38 : Nat), (593 : Nat))]) ∈ lw_all := lw_g (lw_at lw_m7 138 rfl) rfl
theorem q1692 : (Jvm.Cond.classLink "WholePacks" (593 : Nat) "java/lang/ArrayIndexOutOfBoundsException") ∈ lw_all := lw_g (lw_at lw_m7 139 rfl) rfl
theorem q1711 : (Jvm.Cond.methodLink "WholePacks" (589 : Nat) ({ cls := "WholePacks$Tape", name := "puts", desc := "(IJ)V" } : Jvm.MethodName)) ∈ lw_all := lw_g (lw_at lw_m7 158 rfl) rfl
theorem q1716 : (Jvm.Cond.instanceMethod ({ cls := "WholePacks", name := "peek", desc := "(II)J" } : Jvm.MethodName)) ∈ lw_all := lw_g (lw_at lw_m7 163 rfl) rfl
theorem q1717 : (Jvm.Cond.selects "WholePacks" ({ cls := "WholePacks", name := "peek", desc := "(II)J" } : Jvm.MethodName) ({ cls := "WholePacks", name := "peek", desc := "(II)J" } : Jvm.MethodName)) ∈ lw_all := lw_g (lw_at lw_m7 164 rfl) rfl
theorem q1718 : (Jvm.Cond.code ({ cls := "WholePacks", name := "peek", desc := "(II)J" } : Jvm.MethodName) prog_1_method_77_code (3 : Nat) (Option.some Jvm.ClassFile.FieldType.long)) ∈ lw_all := lw_g (lw_at lw_m7 165 rfl) rfl
theorem q1720 : (Jvm.Cond.instanceMethod ({ cls := "WholePacks", name := "shift", desc := "(IIIII)I" } : Jvm.MethodName)) ∈ lw_all := lw_g (lw_at lw_m7 167 rfl) rfl
theorem q1721 : (Jvm.Cond.selects "WholePacks" ({ cls := "WholePacks", name := "shift", desc := "(IIIII)I" } : Jvm.MethodName) ({ cls := "WholePacks", name := "shift", desc := "(IIIII)I" } : Jvm.MethodName)) ∈ lw_all := lw_g (lw_at lw_m7 168 rfl) rfl
theorem q1722 : (Jvm.Cond.codeWith ({ cls := "WholePacks", name := "shift", desc := "(IIIII)I" } : Jvm.MethodName) prog_1_method_78_code (7 : Nat) (Option.some Jvm.ClassFile.FieldType.int) [((43 : Nat), (69 : Nat), (72 : Nat), (601 : Nat)), ((43 : Nat), (69 : Nat), (77 : Nat), (603 : Nat))]) ∈ lw_all := lw_g (lw_at lw_m7 169 rfl) rfl
theorem q1723 : (Jvm.Cond.classLink "WholePacks" (601 : Nat) "java/lang/ArrayStoreException") ∈ lw_all := lw_g (lw_at lw_m7 170 rfl) rfl
theorem q1737 : (Jvm.Cond.classLink "WholePacks" (603 : Nat) "java/lang/IndexOutOfBoundsException") ∈ lw_all := lw_g (lw_at lw_m7 184 rfl) rfl
theorem q1738 : (Jvm.Cond.methodLink "WholePacks" (595 : Nat) ({ cls := "java/lang/System", name := "arraycopy", desc := "(Ljava/lang/Object;ILjava/lang/Object;II)V" } : Jvm.MethodName)) ∈ lw_all := lw_g (lw_at lw_m7 185 rfl) rfl
theorem q2405 : (Jvm.Cond.castable "WholePacks" "java/lang/Object") ∈ lw_tbl := lw_at lw_m10 132 rfl
theorem in_X0 : ∀ w ∈ wsX00, w ∈ lw_all := lw_in wsX00 [523, 525, 527, 529, 531, 533, 535, 537, 539, 541, 543, 545, 547, 549, 551, 553, 555, 557, 559, 561, 563, 565, 567, 569, 571] (by decide +kernel) (by decide +kernel)
