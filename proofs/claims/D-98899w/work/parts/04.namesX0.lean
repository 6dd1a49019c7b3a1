/-! PartedSide -/
set_option maxRecDepth 100000
def RX0 : String := "PartedSide"
def TX0 : u_T := fun k => match k with
  | 0 => ("PartedSide", "fault", "LPartedSide$Fault;", true)
  | 1 => ("PartedSide", "tokens", "LPartedSide$Tokens;", true)
  | 2 => ("PartedSide", "parser", "LPartedSide$Parser;", true)
  | 3 => ("PartedSide", "text", "LPartedSide$Text;", false)
  | 4 => ("PartedSide", "place", "I", false)
  | 5 => ("PartedSide", "undos", "I", false)
  | 6 => ("PartedSide", "undoAt", "I", false)
  | 7 => ("PartedSide", "barrack", "LPartedSide$Barrack;", true)
  | 8 => ("PartedSide", "trial", "LPartedSide$Barrack;", true)
  | 9 => ("PartedSide", "past", "[LPartedSide$Barrack;", true)
  | 10 => ("PartedSide", "slots", "[LPartedSide$Barrack;", true)
  | 11 => ("PartedSide", "drawn", "LPartedSide$Night;", true)
  | 12 => ("PartedSide", "mild", "LPartedSide$Night;", true)
  | 13 => ("PartedSide", "held", "[Z", true)
  | 14 => ("PartedSide", "reached", "[Z", true)
  | 15 => ("PartedSide", "tolds", "I", false)
  | 16 => ("PartedSide", "many", "I", false)
  | 17 => ("PartedSide", "least", "I", false)
  | 18 => ("PartedSide", "inAll", "I", false)
  | 19 => ("PartedSide", "inNone", "I", false)
  | 20 => ("PartedSide", "toldBed", "[I", true)
  | 21 => ("PartedSide", "toldIn", "[I", true)
  | 22 => ("PartedSide", "rowIn", "[I", true)
  | 23 => ("PartedSide", "toldLeft", "[Z", true)
  | 24 => ("PartedSide", "may", "[Z", true)
  | _ => ("PartedSide", "leftMany", "[I", true)
def tyX0 : Nat → FieldType := fun k => match k with
  | 0 => .object "PartedSide$Fault"
  | 1 => .object "PartedSide$Tokens"
  | 2 => .object "PartedSide$Parser"
  | 3 => .object "PartedSide$Text"
  | 4 => .int
  | 5 => .int
  | 6 => .int
  | 7 => .object "PartedSide$Barrack"
  | 8 => .object "PartedSide$Barrack"
  | 9 => .array (.object "PartedSide$Barrack")
  | 10 => .array (.object "PartedSide$Barrack")
  | 11 => .object "PartedSide$Night"
  | 12 => .object "PartedSide$Night"
  | 13 => .array .boolean
  | 14 => .array .boolean
  | 15 => .int
  | 16 => .int
  | 17 => .int
  | 18 => .int
  | 19 => .int
  | 20 => .array .int
  | 21 => .array .int
  | 22 => .array .int
  | 23 => .array .boolean
  | 24 => .array .boolean
  | _ => .array .int
abbrev wsX00 : List Cond := u_ws RX0 TX0 26
set_option maxRecDepth 100000 in
theorem nmX0 : ∀ a, a < 26 → ∀ b, b < 26 → a ≠ b → (TX0 a).2.1 ≠ (TX0 b).2.1 := by decide +kernel
set_option maxRecDepth 100000 in
theorem tyX0_ok : ∀ k, k < 26 → parseFieldDescriptor (TX0 k).2.2.1 = some (tyX0 k) := by decide +kernel
abbrev cX0_init : ByteArray := prog_1_method_4_code
def yX0_init : MethodName := ⟨RX0, "<init>", "()V"⟩
def dkwX0_init_10 : List UInt8 := [183, 0, 58, 83, 132, 1, 1, 167, 255, 234, 42, 180, 0, 59, 42, 180, 0, 48, 182, 0, 112, 177]
abbrev dktX0_init_10 : List UInt8 := dkwX0_init_10 ++ []
def dkwX0_init_9 : List UInt8 := [188, 10, 181, 0, 109, 3, 60, 27, 16, 40, 162, 0, 22, 42, 180, 0, 66, 27, 187, 0, 56, 89]
abbrev dktX0_init_9 : List UInt8 := dkwX0_init_9 ++ dktX0_init_10
def dkwX0_init_8 : List UInt8 := [181, 0, 100, 42, 16, 20, 188, 4, 181, 0, 103, 42, 17, 2, 0, 188, 4, 181, 0, 106, 42, 16, 9]
abbrev dktX0_init_8 : List UInt8 := dkwX0_init_8 ++ dktX0_init_9
def dkwX0_init_7 : List UInt8 := [181, 0, 90, 42, 16, 20, 188, 10, 181, 0, 93, 42, 16, 20, 188, 10, 181, 0, 97, 42, 16, 25, 188, 10]
abbrev dktX0_init_7 : List UInt8 := dkwX0_init_7 ++ dktX0_init_8
def dkwX0_init_6 : List UInt8 := [42, 187, 0, 80, 89, 183, 0, 82, 181, 0, 83, 42, 6, 188, 4, 181, 0, 86, 42, 17, 2, 0, 188, 4]
abbrev dktX0_init_6 : List UInt8 := dkwX0_init_6 ++ dktX0_init_7
def dkwX0_init_5 : List UInt8 := [89, 5, 187, 0, 56, 89, 183, 0, 58, 83, 181, 0, 70, 42, 187, 0, 73, 89, 183, 0, 75, 181, 0, 76]
abbrev dktX0_init_5 : List UInt8 := dkwX0_init_5 ++ dktX0_init_6
def dkwX0_init_4 : List UInt8 := [6, 189, 0, 56, 89, 3, 187, 0, 56, 89, 183, 0, 58, 83, 89, 4, 187, 0, 56, 89, 183, 0, 58, 83]
abbrev dktX0_init_4 : List UInt8 := dkwX0_init_4 ++ dktX0_init_5
def dkwX0_init_3 : List UInt8 := [181, 0, 59, 42, 187, 0, 56, 89, 183, 0, 58, 181, 0, 63, 42, 16, 40, 189, 0, 56, 181, 0, 66, 42]
abbrev dktX0_init_3 : List UInt8 := dkwX0_init_3 ++ dktX0_init_4
def dkwX0_init_2 : List UInt8 := [187, 0, 45, 89, 183, 0, 47, 181, 0, 48, 42, 2, 181, 0, 52, 42, 187, 0, 56, 89, 183, 0, 58]
abbrev dktX0_init_2 : List UInt8 := dkwX0_init_2 ++ dktX0_init_3
def dkwX0_init_1 : List UInt8 := [181, 0, 32, 42, 187, 0, 36, 89, 42, 180, 0, 32, 42, 180, 0, 25, 183, 0, 38, 181, 0, 41, 42]
abbrev dktX0_init_1 : List UInt8 := dkwX0_init_1 ++ dktX0_init_2
def dkwX0_init_0 : List UInt8 := [42, 183, 0, 16, 42, 187, 0, 22, 89, 183, 0, 24, 181, 0, 25, 42, 187, 0, 29, 89, 183, 0, 31]
abbrev dktX0_init_0 : List UInt8 := dkwX0_init_0 ++ dktX0_init_1
theorem dksX0_init_0 : cX0_init.data.toList.drop 0 = dktX0_init_0 := by decide +kernel
theorem dksX0_init_1 : cX0_init.data.toList.drop 23 = dktX0_init_1 := dk_seg dksX0_init_0 23 rfl rfl
theorem dksX0_init_2 : cX0_init.data.toList.drop 46 = dktX0_init_2 := dk_seg dksX0_init_1 23 rfl rfl
theorem dksX0_init_3 : cX0_init.data.toList.drop 69 = dktX0_init_3 := dk_seg dksX0_init_2 23 rfl rfl
theorem dksX0_init_4 : cX0_init.data.toList.drop 93 = dktX0_init_4 := dk_seg dksX0_init_3 24 rfl rfl
theorem dksX0_init_5 : cX0_init.data.toList.drop 117 = dktX0_init_5 := dk_seg dksX0_init_4 24 rfl rfl
theorem dksX0_init_6 : cX0_init.data.toList.drop 141 = dktX0_init_6 := dk_seg dksX0_init_5 24 rfl rfl
theorem dksX0_init_7 : cX0_init.data.toList.drop 165 = dktX0_init_7 := dk_seg dksX0_init_6 24 rfl rfl
theorem dksX0_init_8 : cX0_init.data.toList.drop 189 = dktX0_init_8 := dk_seg dksX0_init_7 24 rfl rfl
theorem dksX0_init_9 : cX0_init.data.toList.drop 212 = dktX0_init_9 := dk_seg dksX0_init_8 23 rfl rfl
theorem dksX0_init_10 : cX0_init.data.toList.drop 234 = dktX0_init_10 := dk_seg dksX0_init_9 22 rfl rfl
theorem dX0_init_0 : decode cX0_init 0 = .ok (.aload_n 0, 1) := dk_42 (dk_at dksX0_init_0 0 rfl rfl)
theorem dX0_init_1 : decode cX0_init 1 = .ok (.invokespecial 16, 3) := dk_183 0 16 (dk_at dksX0_init_0 1 rfl rfl)
theorem dX0_init_4 : decode cX0_init 4 = .ok (.aload_n 0, 1) := dk_42 (dk_at dksX0_init_0 4 rfl rfl)
theorem dX0_init_5 : decode cX0_init 5 = .ok (.new 22, 3) := dk_187 0 22 (dk_at dksX0_init_0 5 rfl rfl)
theorem dX0_init_8 : decode cX0_init 8 = .ok (.dup, 1) := dk_89 (dk_at dksX0_init_0 8 rfl rfl)
theorem dX0_init_9 : decode cX0_init 9 = .ok (.invokespecial 24, 3) := dk_183 0 24 (dk_at dksX0_init_0 9 rfl rfl)
theorem dX0_init_12 : decode cX0_init 12 = .ok (.putfield 25, 3) := dk_181 0 25 (dk_at dksX0_init_0 12 rfl rfl)
theorem dX0_init_15 : decode cX0_init 15 = .ok (.aload_n 0, 1) := dk_42 (dk_at dksX0_init_0 15 rfl rfl)
theorem dX0_init_16 : decode cX0_init 16 = .ok (.new 29, 3) := dk_187 0 29 (dk_at dksX0_init_0 16 rfl rfl)
theorem dX0_init_19 : decode cX0_init 19 = .ok (.dup, 1) := dk_89 (dk_at dksX0_init_0 19 rfl rfl)
theorem dX0_init_20 : decode cX0_init 20 = .ok (.invokespecial 31, 3) := dk_183 0 31 (dk_at dksX0_init_0 20 rfl rfl)
theorem dX0_init_23 : decode cX0_init 23 = .ok (.putfield 32, 3) := dk_181 0 32 (dk_at dksX0_init_1 0 rfl rfl)
theorem dX0_init_26 : decode cX0_init 26 = .ok (.aload_n 0, 1) := dk_42 (dk_at dksX0_init_1 3 rfl rfl)
theorem dX0_init_27 : decode cX0_init 27 = .ok (.new 36, 3) := dk_187 0 36 (dk_at dksX0_init_1 4 rfl rfl)
theorem dX0_init_30 : decode cX0_init 30 = .ok (.dup, 1) := dk_89 (dk_at dksX0_init_1 7 rfl rfl)
theorem dX0_init_31 : decode cX0_init 31 = .ok (.aload_n 0, 1) := dk_42 (dk_at dksX0_init_1 8 rfl rfl)
theorem dX0_init_32 : decode cX0_init 32 = .ok (.getfield 32, 3) := dk_180 0 32 (dk_at dksX0_init_1 9 rfl rfl)
theorem dX0_init_35 : decode cX0_init 35 = .ok (.aload_n 0, 1) := dk_42 (dk_at dksX0_init_1 12 rfl rfl)
theorem dX0_init_36 : decode cX0_init 36 = .ok (.getfield 25, 3) := dk_180 0 25 (dk_at dksX0_init_1 13 rfl rfl)
theorem dX0_init_39 : decode cX0_init 39 = .ok (.invokespecial 38, 3) := dk_183 0 38 (dk_at dksX0_init_1 16 rfl rfl)
theorem dX0_init_42 : decode cX0_init 42 = .ok (.putfield 41, 3) := dk_181 0 41 (dk_at dksX0_init_1 19 rfl rfl)
theorem dX0_init_45 : decode cX0_init 45 = .ok (.aload_n 0, 1) := dk_42 (dk_at dksX0_init_1 22 rfl rfl)
theorem dX0_init_46 : decode cX0_init 46 = .ok (.new 45, 3) := dk_187 0 45 (dk_at dksX0_init_2 0 rfl rfl)
theorem dX0_init_49 : decode cX0_init 49 = .ok (.dup, 1) := dk_89 (dk_at dksX0_init_2 3 rfl rfl)
theorem dX0_init_50 : decode cX0_init 50 = .ok (.invokespecial 47, 3) := dk_183 0 47 (dk_at dksX0_init_2 4 rfl rfl)
theorem dX0_init_53 : decode cX0_init 53 = .ok (.putfield 48, 3) := dk_181 0 48 (dk_at dksX0_init_2 7 rfl rfl)
theorem dX0_init_56 : decode cX0_init 56 = .ok (.aload_n 0, 1) := dk_42 (dk_at dksX0_init_2 10 rfl rfl)
theorem dX0_init_57 : decode cX0_init 57 = .ok (.iconst (-1), 1) := dk_2 (dk_at dksX0_init_2 11 rfl rfl)
theorem dX0_init_58 : decode cX0_init 58 = .ok (.putfield 52, 3) := dk_181 0 52 (dk_at dksX0_init_2 12 rfl rfl)
theorem dX0_init_61 : decode cX0_init 61 = .ok (.aload_n 0, 1) := dk_42 (dk_at dksX0_init_2 15 rfl rfl)
theorem dX0_init_62 : decode cX0_init 62 = .ok (.new 56, 3) := dk_187 0 56 (dk_at dksX0_init_2 16 rfl rfl)
theorem dX0_init_65 : decode cX0_init 65 = .ok (.dup, 1) := dk_89 (dk_at dksX0_init_2 19 rfl rfl)
theorem dX0_init_66 : decode cX0_init 66 = .ok (.invokespecial 58, 3) := dk_183 0 58 (dk_at dksX0_init_2 20 rfl rfl)
theorem dX0_init_69 : decode cX0_init 69 = .ok (.putfield 59, 3) := dk_181 0 59 (dk_at dksX0_init_3 0 rfl rfl)
theorem dX0_init_72 : decode cX0_init 72 = .ok (.aload_n 0, 1) := dk_42 (dk_at dksX0_init_3 3 rfl rfl)
theorem dX0_init_73 : decode cX0_init 73 = .ok (.new 56, 3) := dk_187 0 56 (dk_at dksX0_init_3 4 rfl rfl)
theorem dX0_init_76 : decode cX0_init 76 = .ok (.dup, 1) := dk_89 (dk_at dksX0_init_3 7 rfl rfl)
theorem dX0_init_77 : decode cX0_init 77 = .ok (.invokespecial 58, 3) := dk_183 0 58 (dk_at dksX0_init_3 8 rfl rfl)
theorem dX0_init_80 : decode cX0_init 80 = .ok (.putfield 63, 3) := dk_181 0 63 (dk_at dksX0_init_3 11 rfl rfl)
theorem dX0_init_83 : decode cX0_init 83 = .ok (.aload_n 0, 1) := dk_42 (dk_at dksX0_init_3 14 rfl rfl)
theorem dX0_init_84 : decode cX0_init 84 = .ok (.bipush 40, 2) := dk_16 40 (dk_at dksX0_init_3 15 rfl rfl)
theorem dX0_init_86 : decode cX0_init 86 = .ok (.anewarray 56, 3) := dk_189 0 56 (dk_at dksX0_init_3 17 rfl rfl)
theorem dX0_init_89 : decode cX0_init 89 = .ok (.putfield 66, 3) := dk_181 0 66 (dk_at dksX0_init_3 20 rfl rfl)
theorem dX0_init_92 : decode cX0_init 92 = .ok (.aload_n 0, 1) := dk_42 (dk_at dksX0_init_3 23 rfl rfl)
theorem dX0_init_93 : decode cX0_init 93 = .ok (.iconst 3, 1) := dk_6 (dk_at dksX0_init_4 0 rfl rfl)
theorem dX0_init_94 : decode cX0_init 94 = .ok (.anewarray 56, 3) := dk_189 0 56 (dk_at dksX0_init_4 1 rfl rfl)
theorem dX0_init_97 : decode cX0_init 97 = .ok (.dup, 1) := dk_89 (dk_at dksX0_init_4 4 rfl rfl)
theorem dX0_init_98 : decode cX0_init 98 = .ok (.iconst 0, 1) := dk_3 (dk_at dksX0_init_4 5 rfl rfl)
theorem dX0_init_99 : decode cX0_init 99 = .ok (.new 56, 3) := dk_187 0 56 (dk_at dksX0_init_4 6 rfl rfl)
theorem dX0_init_102 : decode cX0_init 102 = .ok (.dup, 1) := dk_89 (dk_at dksX0_init_4 9 rfl rfl)
theorem dX0_init_103 : decode cX0_init 103 = .ok (.invokespecial 58, 3) := dk_183 0 58 (dk_at dksX0_init_4 10 rfl rfl)
theorem dX0_init_106 : decode cX0_init 106 = .ok (.aastore, 1) := dk_83 (dk_at dksX0_init_4 13 rfl rfl)
theorem dX0_init_107 : decode cX0_init 107 = .ok (.dup, 1) := dk_89 (dk_at dksX0_init_4 14 rfl rfl)
theorem dX0_init_108 : decode cX0_init 108 = .ok (.iconst 1, 1) := dk_4 (dk_at dksX0_init_4 15 rfl rfl)
theorem dX0_init_109 : decode cX0_init 109 = .ok (.new 56, 3) := dk_187 0 56 (dk_at dksX0_init_4 16 rfl rfl)
theorem dX0_init_112 : decode cX0_init 112 = .ok (.dup, 1) := dk_89 (dk_at dksX0_init_4 19 rfl rfl)
theorem dX0_init_113 : decode cX0_init 113 = .ok (.invokespecial 58, 3) := dk_183 0 58 (dk_at dksX0_init_4 20 rfl rfl)
theorem dX0_init_116 : decode cX0_init 116 = .ok (.aastore, 1) := dk_83 (dk_at dksX0_init_4 23 rfl rfl)
theorem dX0_init_117 : decode cX0_init 117 = .ok (.dup, 1) := dk_89 (dk_at dksX0_init_5 0 rfl rfl)
theorem dX0_init_118 : decode cX0_init 118 = .ok (.iconst 2, 1) := dk_5 (dk_at dksX0_init_5 1 rfl rfl)
theorem dX0_init_119 : decode cX0_init 119 = .ok (.new 56, 3) := dk_187 0 56 (dk_at dksX0_init_5 2 rfl rfl)
theorem dX0_init_122 : decode cX0_init 122 = .ok (.dup, 1) := dk_89 (dk_at dksX0_init_5 5 rfl rfl)
theorem dX0_init_123 : decode cX0_init 123 = .ok (.invokespecial 58, 3) := dk_183 0 58 (dk_at dksX0_init_5 6 rfl rfl)
theorem dX0_init_126 : decode cX0_init 126 = .ok (.aastore, 1) := dk_83 (dk_at dksX0_init_5 9 rfl rfl)
theorem dX0_init_127 : decode cX0_init 127 = .ok (.putfield 70, 3) := dk_181 0 70 (dk_at dksX0_init_5 10 rfl rfl)
theorem dX0_init_130 : decode cX0_init 130 = .ok (.aload_n 0, 1) := dk_42 (dk_at dksX0_init_5 13 rfl rfl)
theorem dX0_init_131 : decode cX0_init 131 = .ok (.new 73, 3) := dk_187 0 73 (dk_at dksX0_init_5 14 rfl rfl)
theorem dX0_init_134 : decode cX0_init 134 = .ok (.dup, 1) := dk_89 (dk_at dksX0_init_5 17 rfl rfl)
theorem dX0_init_135 : decode cX0_init 135 = .ok (.invokespecial 75, 3) := dk_183 0 75 (dk_at dksX0_init_5 18 rfl rfl)
theorem dX0_init_138 : decode cX0_init 138 = .ok (.putfield 76, 3) := dk_181 0 76 (dk_at dksX0_init_5 21 rfl rfl)
theorem dX0_init_141 : decode cX0_init 141 = .ok (.aload_n 0, 1) := dk_42 (dk_at dksX0_init_6 0 rfl rfl)
theorem dX0_init_142 : decode cX0_init 142 = .ok (.new 80, 3) := dk_187 0 80 (dk_at dksX0_init_6 1 rfl rfl)
theorem dX0_init_145 : decode cX0_init 145 = .ok (.dup, 1) := dk_89 (dk_at dksX0_init_6 4 rfl rfl)
theorem dX0_init_146 : decode cX0_init 146 = .ok (.invokespecial 82, 3) := dk_183 0 82 (dk_at dksX0_init_6 5 rfl rfl)
theorem dX0_init_149 : decode cX0_init 149 = .ok (.putfield 83, 3) := dk_181 0 83 (dk_at dksX0_init_6 8 rfl rfl)
theorem dX0_init_152 : decode cX0_init 152 = .ok (.aload_n 0, 1) := dk_42 (dk_at dksX0_init_6 11 rfl rfl)
theorem dX0_init_153 : decode cX0_init 153 = .ok (.iconst 3, 1) := dk_6 (dk_at dksX0_init_6 12 rfl rfl)
theorem dX0_init_154 : decode cX0_init 154 = .ok (.newarray .boolean, 2) := dk_188_4 (dk_at dksX0_init_6 13 rfl rfl)
theorem dX0_init_156 : decode cX0_init 156 = .ok (.putfield 86, 3) := dk_181 0 86 (dk_at dksX0_init_6 15 rfl rfl)
theorem dX0_init_159 : decode cX0_init 159 = .ok (.aload_n 0, 1) := dk_42 (dk_at dksX0_init_6 18 rfl rfl)
theorem dX0_init_160 : decode cX0_init 160 = .ok (.sipush 512, 3) := dk_17 2 0 (dk_at dksX0_init_6 19 rfl rfl)
theorem dX0_init_163 : decode cX0_init 163 = .ok (.newarray .boolean, 2) := dk_188_4 (dk_at dksX0_init_6 22 rfl rfl)
theorem dX0_init_165 : decode cX0_init 165 = .ok (.putfield 90, 3) := dk_181 0 90 (dk_at dksX0_init_7 0 rfl rfl)
theorem dX0_init_168 : decode cX0_init 168 = .ok (.aload_n 0, 1) := dk_42 (dk_at dksX0_init_7 3 rfl rfl)
theorem dX0_init_169 : decode cX0_init 169 = .ok (.bipush 20, 2) := dk_16 20 (dk_at dksX0_init_7 4 rfl rfl)
theorem dX0_init_171 : decode cX0_init 171 = .ok (.newarray .int, 2) := dk_188_10 (dk_at dksX0_init_7 6 rfl rfl)
theorem dX0_init_173 : decode cX0_init 173 = .ok (.putfield 93, 3) := dk_181 0 93 (dk_at dksX0_init_7 8 rfl rfl)
theorem dX0_init_176 : decode cX0_init 176 = .ok (.aload_n 0, 1) := dk_42 (dk_at dksX0_init_7 11 rfl rfl)
theorem dX0_init_177 : decode cX0_init 177 = .ok (.bipush 20, 2) := dk_16 20 (dk_at dksX0_init_7 12 rfl rfl)
theorem dX0_init_179 : decode cX0_init 179 = .ok (.newarray .int, 2) := dk_188_10 (dk_at dksX0_init_7 14 rfl rfl)
theorem dX0_init_181 : decode cX0_init 181 = .ok (.putfield 97, 3) := dk_181 0 97 (dk_at dksX0_init_7 16 rfl rfl)
theorem dX0_init_184 : decode cX0_init 184 = .ok (.aload_n 0, 1) := dk_42 (dk_at dksX0_init_7 19 rfl rfl)
theorem dX0_init_185 : decode cX0_init 185 = .ok (.bipush 25, 2) := dk_16 25 (dk_at dksX0_init_7 20 rfl rfl)
theorem dX0_init_187 : decode cX0_init 187 = .ok (.newarray .int, 2) := dk_188_10 (dk_at dksX0_init_7 22 rfl rfl)
theorem dX0_init_189 : decode cX0_init 189 = .ok (.putfield 100, 3) := dk_181 0 100 (dk_at dksX0_init_8 0 rfl rfl)
theorem dX0_init_192 : decode cX0_init 192 = .ok (.aload_n 0, 1) := dk_42 (dk_at dksX0_init_8 3 rfl rfl)
theorem dX0_init_193 : decode cX0_init 193 = .ok (.bipush 20, 2) := dk_16 20 (dk_at dksX0_init_8 4 rfl rfl)
theorem dX0_init_195 : decode cX0_init 195 = .ok (.newarray .boolean, 2) := dk_188_4 (dk_at dksX0_init_8 6 rfl rfl)
theorem dX0_init_197 : decode cX0_init 197 = .ok (.putfield 103, 3) := dk_181 0 103 (dk_at dksX0_init_8 8 rfl rfl)
theorem dX0_init_200 : decode cX0_init 200 = .ok (.aload_n 0, 1) := dk_42 (dk_at dksX0_init_8 11 rfl rfl)
theorem dX0_init_201 : decode cX0_init 201 = .ok (.sipush 512, 3) := dk_17 2 0 (dk_at dksX0_init_8 12 rfl rfl)
theorem dX0_init_204 : decode cX0_init 204 = .ok (.newarray .boolean, 2) := dk_188_4 (dk_at dksX0_init_8 15 rfl rfl)
theorem dX0_init_206 : decode cX0_init 206 = .ok (.putfield 106, 3) := dk_181 0 106 (dk_at dksX0_init_8 17 rfl rfl)
theorem dX0_init_209 : decode cX0_init 209 = .ok (.aload_n 0, 1) := dk_42 (dk_at dksX0_init_8 20 rfl rfl)
theorem dX0_init_210 : decode cX0_init 210 = .ok (.bipush 9, 2) := dk_16 9 (dk_at dksX0_init_8 21 rfl rfl)
theorem dX0_init_212 : decode cX0_init 212 = .ok (.newarray .int, 2) := dk_188_10 (dk_at dksX0_init_9 0 rfl rfl)
theorem dX0_init_214 : decode cX0_init 214 = .ok (.putfield 109, 3) := dk_181 0 109 (dk_at dksX0_init_9 2 rfl rfl)
theorem dX0_init_217 : decode cX0_init 217 = .ok (.iconst 0, 1) := dk_3 (dk_at dksX0_init_9 5 rfl rfl)
theorem dX0_init_218 : decode cX0_init 218 = .ok (.istore_n 1, 1) := dk_60 (dk_at dksX0_init_9 6 rfl rfl)
theorem dX0_init_219 : decode cX0_init 219 = .ok (.iload_n 1, 1) := dk_27 (dk_at dksX0_init_9 7 rfl rfl)
theorem dX0_init_220 : decode cX0_init 220 = .ok (.bipush 40, 2) := dk_16 40 (dk_at dksX0_init_9 8 rfl rfl)
theorem dX0_init_222 : decode cX0_init 222 = .ok (.if_icmp .ge 22, 3) := dk_162 0 22 (dk_at dksX0_init_9 10 rfl rfl)
theorem dX0_init_225 : decode cX0_init 225 = .ok (.aload_n 0, 1) := dk_42 (dk_at dksX0_init_9 13 rfl rfl)
theorem dX0_init_226 : decode cX0_init 226 = .ok (.getfield 66, 3) := dk_180 0 66 (dk_at dksX0_init_9 14 rfl rfl)
theorem dX0_init_229 : decode cX0_init 229 = .ok (.iload_n 1, 1) := dk_27 (dk_at dksX0_init_9 17 rfl rfl)
theorem dX0_init_230 : decode cX0_init 230 = .ok (.new 56, 3) := dk_187 0 56 (dk_at dksX0_init_9 18 rfl rfl)
theorem dX0_init_233 : decode cX0_init 233 = .ok (.dup, 1) := dk_89 (dk_at dksX0_init_9 21 rfl rfl)
theorem dX0_init_234 : decode cX0_init 234 = .ok (.invokespecial 58, 3) := dk_183 0 58 (dk_at dksX0_init_10 0 rfl rfl)
theorem dX0_init_237 : decode cX0_init 237 = .ok (.aastore, 1) := dk_83 (dk_at dksX0_init_10 3 rfl rfl)
theorem dX0_init_238 : decode cX0_init 238 = .ok (.iinc 1 1, 3) := dk_132 1 1 (dk_at dksX0_init_10 4 rfl rfl)
theorem dX0_init_241 : decode cX0_init 241 = .ok (.goto (-22), 3) := dk_167 255 234 (dk_at dksX0_init_10 7 rfl rfl)
theorem dX0_init_244 : decode cX0_init 244 = .ok (.aload_n 0, 1) := dk_42 (dk_at dksX0_init_10 10 rfl rfl)
theorem dX0_init_245 : decode cX0_init 245 = .ok (.getfield 59, 3) := dk_180 0 59 (dk_at dksX0_init_10 11 rfl rfl)
theorem dX0_init_248 : decode cX0_init 248 = .ok (.aload_n 0, 1) := dk_42 (dk_at dksX0_init_10 14 rfl rfl)
theorem dX0_init_249 : decode cX0_init 249 = .ok (.getfield 48, 3) := dk_180 0 48 (dk_at dksX0_init_10 15 rfl rfl)
theorem dX0_init_252 : decode cX0_init 252 = .ok (.invokevirtual 112, 3) := dk_182 0 112 (dk_at dksX0_init_10 18 rfl rfl)
theorem dX0_init_255 : decode cX0_init 255 = .ok (.return_, 1) := dk_177 (dk_at dksX0_init_10 21 rfl rfl)
abbrev cX0_feed : ByteArray := prog_1_method_5_code
def yX0_feed : MethodName := ⟨RX0, "feed", "(IIIII)I"⟩
def dkwX0_feed_2 : List UInt8 := [180, 0, 32, 180, 0, 116, 172]
abbrev dktX0_feed_2 : List UInt8 := dkwX0_feed_2 ++ []
def dkwX0_feed_1 : List UInt8 := [28, 182, 0, 119, 42, 29, 182, 0, 119, 42, 21, 4, 182, 0, 119, 42, 21, 5, 182, 0, 119, 42]
abbrev dktX0_feed_1 : List UInt8 := dkwX0_feed_1 ++ dktX0_feed_2
def dkwX0_feed_0 : List UInt8 := [42, 180, 0, 32, 180, 0, 116, 16, 20, 96, 17, 7, 208, 164, 0, 5, 2, 172, 42, 27, 182, 0, 119, 42]
abbrev dktX0_feed_0 : List UInt8 := dkwX0_feed_0 ++ dktX0_feed_1
theorem dksX0_feed_0 : cX0_feed.data.toList.drop 0 = dktX0_feed_0 := by decide +kernel
theorem dksX0_feed_1 : cX0_feed.data.toList.drop 24 = dktX0_feed_1 := dk_seg dksX0_feed_0 24 rfl rfl
theorem dksX0_feed_2 : cX0_feed.data.toList.drop 46 = dktX0_feed_2 := dk_seg dksX0_feed_1 22 rfl rfl
theorem dX0_feed_0 : decode cX0_feed 0 = .ok (.aload_n 0, 1) := dk_42 (dk_at dksX0_feed_0 0 rfl rfl)
theorem dX0_feed_1 : decode cX0_feed 1 = .ok (.getfield 32, 3) := dk_180 0 32 (dk_at dksX0_feed_0 1 rfl rfl)
theorem dX0_feed_4 : decode cX0_feed 4 = .ok (.getfield 116, 3) := dk_180 0 116 (dk_at dksX0_feed_0 4 rfl rfl)
theorem dX0_feed_7 : decode cX0_feed 7 = .ok (.bipush 20, 2) := dk_16 20 (dk_at dksX0_feed_0 7 rfl rfl)
theorem dX0_feed_9 : decode cX0_feed 9 = .ok (.iadd, 1) := dk_96 (dk_at dksX0_feed_0 9 rfl rfl)
theorem dX0_feed_10 : decode cX0_feed 10 = .ok (.sipush 2000, 3) := dk_17 7 208 (dk_at dksX0_feed_0 10 rfl rfl)
theorem dX0_feed_13 : decode cX0_feed 13 = .ok (.if_icmp .le 5, 3) := dk_164 0 5 (dk_at dksX0_feed_0 13 rfl rfl)
theorem dX0_feed_16 : decode cX0_feed 16 = .ok (.iconst (-1), 1) := dk_2 (dk_at dksX0_feed_0 16 rfl rfl)
theorem dX0_feed_17 : decode cX0_feed 17 = .ok (.ireturn, 1) := dk_172 (dk_at dksX0_feed_0 17 rfl rfl)
theorem dX0_feed_18 : decode cX0_feed 18 = .ok (.aload_n 0, 1) := dk_42 (dk_at dksX0_feed_0 18 rfl rfl)
theorem dX0_feed_19 : decode cX0_feed 19 = .ok (.iload_n 1, 1) := dk_27 (dk_at dksX0_feed_0 19 rfl rfl)
theorem dX0_feed_20 : decode cX0_feed 20 = .ok (.invokevirtual 119, 3) := dk_182 0 119 (dk_at dksX0_feed_0 20 rfl rfl)
theorem dX0_feed_23 : decode cX0_feed 23 = .ok (.aload_n 0, 1) := dk_42 (dk_at dksX0_feed_0 23 rfl rfl)
theorem dX0_feed_24 : decode cX0_feed 24 = .ok (.iload_n 2, 1) := dk_28 (dk_at dksX0_feed_1 0 rfl rfl)
theorem dX0_feed_25 : decode cX0_feed 25 = .ok (.invokevirtual 119, 3) := dk_182 0 119 (dk_at dksX0_feed_1 1 rfl rfl)
theorem dX0_feed_28 : decode cX0_feed 28 = .ok (.aload_n 0, 1) := dk_42 (dk_at dksX0_feed_1 4 rfl rfl)
theorem dX0_feed_29 : decode cX0_feed 29 = .ok (.iload_n 3, 1) := dk_29 (dk_at dksX0_feed_1 5 rfl rfl)
theorem dX0_feed_30 : decode cX0_feed 30 = .ok (.invokevirtual 119, 3) := dk_182 0 119 (dk_at dksX0_feed_1 6 rfl rfl)
theorem dX0_feed_33 : decode cX0_feed 33 = .ok (.aload_n 0, 1) := dk_42 (dk_at dksX0_feed_1 9 rfl rfl)
theorem dX0_feed_34 : decode cX0_feed 34 = .ok (.iload 4, 2) := dk_21 4 (dk_at dksX0_feed_1 10 rfl rfl)
theorem dX0_feed_36 : decode cX0_feed 36 = .ok (.invokevirtual 119, 3) := dk_182 0 119 (dk_at dksX0_feed_1 12 rfl rfl)
theorem dX0_feed_39 : decode cX0_feed 39 = .ok (.aload_n 0, 1) := dk_42 (dk_at dksX0_feed_1 15 rfl rfl)
theorem dX0_feed_40 : decode cX0_feed 40 = .ok (.iload 5, 2) := dk_21 5 (dk_at dksX0_feed_1 16 rfl rfl)
theorem dX0_feed_42 : decode cX0_feed 42 = .ok (.invokevirtual 119, 3) := dk_182 0 119 (dk_at dksX0_feed_1 18 rfl rfl)
theorem dX0_feed_45 : decode cX0_feed 45 = .ok (.aload_n 0, 1) := dk_42 (dk_at dksX0_feed_1 21 rfl rfl)
theorem dX0_feed_46 : decode cX0_feed 46 = .ok (.getfield 32, 3) := dk_180 0 32 (dk_at dksX0_feed_2 0 rfl rfl)
theorem dX0_feed_49 : decode cX0_feed 49 = .ok (.getfield 116, 3) := dk_180 0 116 (dk_at dksX0_feed_2 3 rfl rfl)
theorem dX0_feed_52 : decode cX0_feed 52 = .ok (.ireturn, 1) := dk_172 (dk_at dksX0_feed_2 6 rfl rfl)
abbrev cX0_typed : ByteArray := prog_1_method_6_code
def yX0_typed : MethodName := ⟨RX0, "typed", "(I)V"⟩
def dkwX0_typed_1 : List UInt8 := [145, 84, 42, 180, 0, 32, 89, 180, 0, 116, 4, 96, 181, 0, 116, 132, 2, 248, 167, 255, 217, 177]
abbrev dktX0_typed_1 : List UInt8 := dkwX0_typed_1 ++ []
def dkwX0_typed_0 : List UInt8 := [16, 24, 61, 28, 155, 0, 41, 42, 180, 0, 32, 180, 0, 123, 42, 180, 0, 32, 180, 0, 116, 27, 28, 122]
abbrev dktX0_typed_0 : List UInt8 := dkwX0_typed_0 ++ dktX0_typed_1
theorem dksX0_typed_0 : cX0_typed.data.toList.drop 0 = dktX0_typed_0 := by decide +kernel
theorem dksX0_typed_1 : cX0_typed.data.toList.drop 24 = dktX0_typed_1 := dk_seg dksX0_typed_0 24 rfl rfl
theorem dX0_typed_0 : decode cX0_typed 0 = .ok (.bipush 24, 2) := dk_16 24 (dk_at dksX0_typed_0 0 rfl rfl)
theorem dX0_typed_2 : decode cX0_typed 2 = .ok (.istore_n 2, 1) := dk_61 (dk_at dksX0_typed_0 2 rfl rfl)
theorem dX0_typed_3 : decode cX0_typed 3 = .ok (.iload_n 2, 1) := dk_28 (dk_at dksX0_typed_0 3 rfl rfl)
theorem dX0_typed_4 : decode cX0_typed 4 = .ok (.ifCond .lt 41, 3) := dk_155 0 41 (dk_at dksX0_typed_0 4 rfl rfl)
theorem dX0_typed_7 : decode cX0_typed 7 = .ok (.aload_n 0, 1) := dk_42 (dk_at dksX0_typed_0 7 rfl rfl)
theorem dX0_typed_8 : decode cX0_typed 8 = .ok (.getfield 32, 3) := dk_180 0 32 (dk_at dksX0_typed_0 8 rfl rfl)
theorem dX0_typed_11 : decode cX0_typed 11 = .ok (.getfield 123, 3) := dk_180 0 123 (dk_at dksX0_typed_0 11 rfl rfl)
theorem dX0_typed_14 : decode cX0_typed 14 = .ok (.aload_n 0, 1) := dk_42 (dk_at dksX0_typed_0 14 rfl rfl)
theorem dX0_typed_15 : decode cX0_typed 15 = .ok (.getfield 32, 3) := dk_180 0 32 (dk_at dksX0_typed_0 15 rfl rfl)
theorem dX0_typed_18 : decode cX0_typed 18 = .ok (.getfield 116, 3) := dk_180 0 116 (dk_at dksX0_typed_0 18 rfl rfl)
theorem dX0_typed_21 : decode cX0_typed 21 = .ok (.iload_n 1, 1) := dk_27 (dk_at dksX0_typed_0 21 rfl rfl)
theorem dX0_typed_22 : decode cX0_typed 22 = .ok (.iload_n 2, 1) := dk_28 (dk_at dksX0_typed_0 22 rfl rfl)
theorem dX0_typed_23 : decode cX0_typed 23 = .ok (.ishr, 1) := dk_122 (dk_at dksX0_typed_0 23 rfl rfl)
theorem dX0_typed_24 : decode cX0_typed 24 = .ok (.i2b, 1) := dk_145 (dk_at dksX0_typed_1 0 rfl rfl)
theorem dX0_typed_25 : decode cX0_typed 25 = .ok (.bastore, 1) := dk_84 (dk_at dksX0_typed_1 1 rfl rfl)
theorem dX0_typed_26 : decode cX0_typed 26 = .ok (.aload_n 0, 1) := dk_42 (dk_at dksX0_typed_1 2 rfl rfl)
theorem dX0_typed_27 : decode cX0_typed 27 = .ok (.getfield 32, 3) := dk_180 0 32 (dk_at dksX0_typed_1 3 rfl rfl)
theorem dX0_typed_30 : decode cX0_typed 30 = .ok (.dup, 1) := dk_89 (dk_at dksX0_typed_1 6 rfl rfl)
theorem dX0_typed_31 : decode cX0_typed 31 = .ok (.getfield 116, 3) := dk_180 0 116 (dk_at dksX0_typed_1 7 rfl rfl)
theorem dX0_typed_34 : decode cX0_typed 34 = .ok (.iconst 1, 1) := dk_4 (dk_at dksX0_typed_1 10 rfl rfl)
theorem dX0_typed_35 : decode cX0_typed 35 = .ok (.iadd, 1) := dk_96 (dk_at dksX0_typed_1 11 rfl rfl)
theorem dX0_typed_36 : decode cX0_typed 36 = .ok (.putfield 116, 3) := dk_181 0 116 (dk_at dksX0_typed_1 12 rfl rfl)
theorem dX0_typed_39 : decode cX0_typed 39 = .ok (.iinc 2 (-8), 3) := dk_132 2 248 (dk_at dksX0_typed_1 15 rfl rfl)
theorem dX0_typed_42 : decode cX0_typed 42 = .ok (.goto (-39), 3) := dk_167 255 217 (dk_at dksX0_typed_1 18 rfl rfl)
theorem dX0_typed_45 : decode cX0_typed 45 = .ok (.return_, 1) := dk_177 (dk_at dksX0_typed_1 21 rfl rfl)
abbrev cX0_back : ByteArray := prog_1_method_7_code
def yX0_back : MethodName := ⟨RX0, "back", "(I)I"⟩
def dkwX0_back_1 : List UInt8 := [180, 0, 116, 27, 100, 181, 0, 116, 42, 180, 0, 32, 180, 0, 116, 172]
abbrev dktX0_back_1 : List UInt8 := dkwX0_back_1 ++ []
def dkwX0_back_0 : List UInt8 := [27, 155, 0, 14, 27, 42, 180, 0, 32, 180, 0, 116, 164, 0, 5, 2, 172, 42, 180, 0, 32, 89]
abbrev dktX0_back_0 : List UInt8 := dkwX0_back_0 ++ dktX0_back_1
theorem dksX0_back_0 : cX0_back.data.toList.drop 0 = dktX0_back_0 := by decide +kernel
theorem dksX0_back_1 : cX0_back.data.toList.drop 22 = dktX0_back_1 := dk_seg dksX0_back_0 22 rfl rfl
theorem dX0_back_0 : decode cX0_back 0 = .ok (.iload_n 1, 1) := dk_27 (dk_at dksX0_back_0 0 rfl rfl)
theorem dX0_back_1 : decode cX0_back 1 = .ok (.ifCond .lt 14, 3) := dk_155 0 14 (dk_at dksX0_back_0 1 rfl rfl)
theorem dX0_back_4 : decode cX0_back 4 = .ok (.iload_n 1, 1) := dk_27 (dk_at dksX0_back_0 4 rfl rfl)
theorem dX0_back_5 : decode cX0_back 5 = .ok (.aload_n 0, 1) := dk_42 (dk_at dksX0_back_0 5 rfl rfl)
theorem dX0_back_6 : decode cX0_back 6 = .ok (.getfield 32, 3) := dk_180 0 32 (dk_at dksX0_back_0 6 rfl rfl)
theorem dX0_back_9 : decode cX0_back 9 = .ok (.getfield 116, 3) := dk_180 0 116 (dk_at dksX0_back_0 9 rfl rfl)
theorem dX0_back_12 : decode cX0_back 12 = .ok (.if_icmp .le 5, 3) := dk_164 0 5 (dk_at dksX0_back_0 12 rfl rfl)
theorem dX0_back_15 : decode cX0_back 15 = .ok (.iconst (-1), 1) := dk_2 (dk_at dksX0_back_0 15 rfl rfl)
theorem dX0_back_16 : decode cX0_back 16 = .ok (.ireturn, 1) := dk_172 (dk_at dksX0_back_0 16 rfl rfl)
theorem dX0_back_17 : decode cX0_back 17 = .ok (.aload_n 0, 1) := dk_42 (dk_at dksX0_back_0 17 rfl rfl)
theorem dX0_back_18 : decode cX0_back 18 = .ok (.getfield 32, 3) := dk_180 0 32 (dk_at dksX0_back_0 18 rfl rfl)
theorem dX0_back_21 : decode cX0_back 21 = .ok (.dup, 1) := dk_89 (dk_at dksX0_back_0 21 rfl rfl)
theorem dX0_back_22 : decode cX0_back 22 = .ok (.getfield 116, 3) := dk_180 0 116 (dk_at dksX0_back_1 0 rfl rfl)
theorem dX0_back_25 : decode cX0_back 25 = .ok (.iload_n 1, 1) := dk_27 (dk_at dksX0_back_1 3 rfl rfl)
theorem dX0_back_26 : decode cX0_back 26 = .ok (.isub, 1) := dk_100 (dk_at dksX0_back_1 4 rfl rfl)
theorem dX0_back_27 : decode cX0_back 27 = .ok (.putfield 116, 3) := dk_181 0 116 (dk_at dksX0_back_1 5 rfl rfl)
theorem dX0_back_30 : decode cX0_back 30 = .ok (.aload_n 0, 1) := dk_42 (dk_at dksX0_back_1 8 rfl rfl)
theorem dX0_back_31 : decode cX0_back 31 = .ok (.getfield 32, 3) := dk_180 0 32 (dk_at dksX0_back_1 9 rfl rfl)
theorem dX0_back_34 : decode cX0_back 34 = .ok (.getfield 116, 3) := dk_180 0 116 (dk_at dksX0_back_1 12 rfl rfl)
theorem dX0_back_37 : decode cX0_back 37 = .ok (.ireturn, 1) := dk_172 (dk_at dksX0_back_1 15 rfl rfl)
abbrev cX0_read : ByteArray := prog_1_method_8_code
def yX0_read : MethodName := ⟨RX0, "read", "()I"⟩
def dkwX0_read_3 : List UInt8 := [180, 0, 140, 181, 0, 52, 42, 180, 0, 32, 3, 181, 0, 116, 27, 172]
abbrev dktX0_read_3 : List UInt8 := dkwX0_read_3 ++ []
def dkwX0_read_2 : List UInt8 := [180, 0, 86, 28, 3, 84, 132, 2, 1, 167, 255, 241, 167, 0, 17, 77, 44, 180, 0, 137, 60, 42, 44]
abbrev dktX0_read_2 : List UInt8 := dkwX0_read_2 ++ dktX0_read_3
def dkwX0_read_1 : List UInt8 := [180, 0, 48, 182, 0, 112, 42, 3, 181, 0, 131, 42, 3, 181, 0, 134, 3, 61, 28, 6, 162, 0, 16, 42]
abbrev dktX0_read_1 : List UInt8 := dkwX0_read_1 ++ dktX0_read_2
def dkwX0_read_0 : List UInt8 := [3, 60, 42, 2, 181, 0, 52, 42, 42, 180, 0, 41, 182, 0, 127, 181, 0, 48, 42, 180, 0, 59, 42]
abbrev dktX0_read_0 : List UInt8 := dkwX0_read_0 ++ dktX0_read_1
theorem dksX0_read_0 : cX0_read.data.toList.drop 0 = dktX0_read_0 := by decide +kernel
theorem dksX0_read_1 : cX0_read.data.toList.drop 23 = dktX0_read_1 := dk_seg dksX0_read_0 23 rfl rfl
theorem dksX0_read_2 : cX0_read.data.toList.drop 47 = dktX0_read_2 := dk_seg dksX0_read_1 24 rfl rfl
theorem dksX0_read_3 : cX0_read.data.toList.drop 70 = dktX0_read_3 := dk_seg dksX0_read_2 23 rfl rfl
theorem dX0_read_0 : decode cX0_read 0 = .ok (.iconst 0, 1) := dk_3 (dk_at dksX0_read_0 0 rfl rfl)
theorem dX0_read_1 : decode cX0_read 1 = .ok (.istore_n 1, 1) := dk_60 (dk_at dksX0_read_0 1 rfl rfl)
theorem dX0_read_2 : decode cX0_read 2 = .ok (.aload_n 0, 1) := dk_42 (dk_at dksX0_read_0 2 rfl rfl)
theorem dX0_read_3 : decode cX0_read 3 = .ok (.iconst (-1), 1) := dk_2 (dk_at dksX0_read_0 3 rfl rfl)
theorem dX0_read_4 : decode cX0_read 4 = .ok (.putfield 52, 3) := dk_181 0 52 (dk_at dksX0_read_0 4 rfl rfl)
theorem dX0_read_7 : decode cX0_read 7 = .ok (.aload_n 0, 1) := dk_42 (dk_at dksX0_read_0 7 rfl rfl)
theorem dX0_read_8 : decode cX0_read 8 = .ok (.aload_n 0, 1) := dk_42 (dk_at dksX0_read_0 8 rfl rfl)
theorem dX0_read_9 : decode cX0_read 9 = .ok (.getfield 41, 3) := dk_180 0 41 (dk_at dksX0_read_0 9 rfl rfl)
theorem dX0_read_12 : decode cX0_read 12 = .ok (.invokevirtual 127, 3) := dk_182 0 127 (dk_at dksX0_read_0 12 rfl rfl)
theorem dX0_read_15 : decode cX0_read 15 = .ok (.putfield 48, 3) := dk_181 0 48 (dk_at dksX0_read_0 15 rfl rfl)
theorem dX0_read_18 : decode cX0_read 18 = .ok (.aload_n 0, 1) := dk_42 (dk_at dksX0_read_0 18 rfl rfl)
theorem dX0_read_19 : decode cX0_read 19 = .ok (.getfield 59, 3) := dk_180 0 59 (dk_at dksX0_read_0 19 rfl rfl)
theorem dX0_read_22 : decode cX0_read 22 = .ok (.aload_n 0, 1) := dk_42 (dk_at dksX0_read_0 22 rfl rfl)
theorem dX0_read_23 : decode cX0_read 23 = .ok (.getfield 48, 3) := dk_180 0 48 (dk_at dksX0_read_1 0 rfl rfl)
theorem dX0_read_26 : decode cX0_read 26 = .ok (.invokevirtual 112, 3) := dk_182 0 112 (dk_at dksX0_read_1 3 rfl rfl)
theorem dX0_read_29 : decode cX0_read 29 = .ok (.aload_n 0, 1) := dk_42 (dk_at dksX0_read_1 6 rfl rfl)
theorem dX0_read_30 : decode cX0_read 30 = .ok (.iconst 0, 1) := dk_3 (dk_at dksX0_read_1 7 rfl rfl)
theorem dX0_read_31 : decode cX0_read 31 = .ok (.putfield 131, 3) := dk_181 0 131 (dk_at dksX0_read_1 8 rfl rfl)
theorem dX0_read_34 : decode cX0_read 34 = .ok (.aload_n 0, 1) := dk_42 (dk_at dksX0_read_1 11 rfl rfl)
theorem dX0_read_35 : decode cX0_read 35 = .ok (.iconst 0, 1) := dk_3 (dk_at dksX0_read_1 12 rfl rfl)
theorem dX0_read_36 : decode cX0_read 36 = .ok (.putfield 134, 3) := dk_181 0 134 (dk_at dksX0_read_1 13 rfl rfl)
theorem dX0_read_39 : decode cX0_read 39 = .ok (.iconst 0, 1) := dk_3 (dk_at dksX0_read_1 16 rfl rfl)
theorem dX0_read_40 : decode cX0_read 40 = .ok (.istore_n 2, 1) := dk_61 (dk_at dksX0_read_1 17 rfl rfl)
theorem dX0_read_41 : decode cX0_read 41 = .ok (.iload_n 2, 1) := dk_28 (dk_at dksX0_read_1 18 rfl rfl)
theorem dX0_read_42 : decode cX0_read 42 = .ok (.iconst 3, 1) := dk_6 (dk_at dksX0_read_1 19 rfl rfl)
theorem dX0_read_43 : decode cX0_read 43 = .ok (.if_icmp .ge 16, 3) := dk_162 0 16 (dk_at dksX0_read_1 20 rfl rfl)
theorem dX0_read_46 : decode cX0_read 46 = .ok (.aload_n 0, 1) := dk_42 (dk_at dksX0_read_1 23 rfl rfl)
theorem dX0_read_47 : decode cX0_read 47 = .ok (.getfield 86, 3) := dk_180 0 86 (dk_at dksX0_read_2 0 rfl rfl)
theorem dX0_read_50 : decode cX0_read 50 = .ok (.iload_n 2, 1) := dk_28 (dk_at dksX0_read_2 3 rfl rfl)
theorem dX0_read_51 : decode cX0_read 51 = .ok (.iconst 0, 1) := dk_3 (dk_at dksX0_read_2 4 rfl rfl)
theorem dX0_read_52 : decode cX0_read 52 = .ok (.bastore, 1) := dk_84 (dk_at dksX0_read_2 5 rfl rfl)
theorem dX0_read_53 : decode cX0_read 53 = .ok (.iinc 2 1, 3) := dk_132 2 1 (dk_at dksX0_read_2 6 rfl rfl)
theorem dX0_read_56 : decode cX0_read 56 = .ok (.goto (-15), 3) := dk_167 255 241 (dk_at dksX0_read_2 9 rfl rfl)
theorem dX0_read_59 : decode cX0_read 59 = .ok (.goto 17, 3) := dk_167 0 17 (dk_at dksX0_read_2 12 rfl rfl)
theorem dX0_read_62 : decode cX0_read 62 = .ok (.astore_n 2, 1) := dk_77 (dk_at dksX0_read_2 15 rfl rfl)
theorem dX0_read_63 : decode cX0_read 63 = .ok (.aload_n 2, 1) := dk_44 (dk_at dksX0_read_2 16 rfl rfl)
theorem dX0_read_64 : decode cX0_read 64 = .ok (.getfield 137, 3) := dk_180 0 137 (dk_at dksX0_read_2 17 rfl rfl)
theorem dX0_read_67 : decode cX0_read 67 = .ok (.istore_n 1, 1) := dk_60 (dk_at dksX0_read_2 20 rfl rfl)
theorem dX0_read_68 : decode cX0_read 68 = .ok (.aload_n 0, 1) := dk_42 (dk_at dksX0_read_2 21 rfl rfl)
theorem dX0_read_69 : decode cX0_read 69 = .ok (.aload_n 2, 1) := dk_44 (dk_at dksX0_read_2 22 rfl rfl)
theorem dX0_read_70 : decode cX0_read 70 = .ok (.getfield 140, 3) := dk_180 0 140 (dk_at dksX0_read_3 0 rfl rfl)
theorem dX0_read_73 : decode cX0_read 73 = .ok (.putfield 52, 3) := dk_181 0 52 (dk_at dksX0_read_3 3 rfl rfl)
theorem dX0_read_76 : decode cX0_read 76 = .ok (.aload_n 0, 1) := dk_42 (dk_at dksX0_read_3 6 rfl rfl)
theorem dX0_read_77 : decode cX0_read 77 = .ok (.getfield 32, 3) := dk_180 0 32 (dk_at dksX0_read_3 7 rfl rfl)
theorem dX0_read_80 : decode cX0_read 80 = .ok (.iconst 0, 1) := dk_3 (dk_at dksX0_read_3 10 rfl rfl)
theorem dX0_read_81 : decode cX0_read 81 = .ok (.putfield 116, 3) := dk_181 0 116 (dk_at dksX0_read_3 11 rfl rfl)
theorem dX0_read_84 : decode cX0_read 84 = .ok (.iload_n 1, 1) := dk_27 (dk_at dksX0_read_3 14 rfl rfl)
theorem dX0_read_85 : decode cX0_read 85 = .ok (.ireturn, 1) := dk_172 (dk_at dksX0_read_3 15 rfl rfl)
abbrev cX0_place : ByteArray := prog_1_method_9_code
def yX0_place : MethodName := ⟨RX0, "place", "()I"⟩
theorem dX0_place_0 : decode cX0_place 0 = .ok (.aload_n 0, 1) := by decide +kernel
theorem dX0_place_1 : decode cX0_place 1 = .ok (.getfield 52, 3) := by decide +kernel
theorem dX0_place_4 : decode cX0_place 4 = .ok (.ireturn, 1) := by decide +kernel
abbrev cX0_sleeper : ByteArray := prog_1_method_18_code
def yX0_sleeper : MethodName := ⟨RX0, "sleeper", "(II)I"⟩
def dkwX0_sleeper_7 : List UInt8 := [180, 0, 59, 180, 0, 187, 27, 46, 172, 18, 157, 172]
abbrev dktX0_sleeper_7 : List UInt8 := dkwX0_sleeper_7 ++ []
def dkwX0_sleeper_6 : List UInt8 := [180, 0, 48, 27, 182, 0, 181, 172, 42, 180, 0, 59, 42, 180, 0, 48, 27, 182, 0, 184, 172, 42]
abbrev dktX0_sleeper_6 : List UInt8 := dkwX0_sleeper_6 ++ dktX0_sleeper_7
def dkwX0_sleeper_5 : List UInt8 := [4, 167, 0, 4, 3, 172, 42, 180, 0, 59, 42, 180, 0, 48, 27, 182, 0, 177, 172, 42, 180, 0, 59, 42]
abbrev dktX0_sleeper_5 : List UInt8 := dkwX0_sleeper_5 ++ dktX0_sleeper_6
def dkwX0_sleeper_4 : List UInt8 := [180, 0, 59, 180, 0, 170, 27, 46, 172, 42, 180, 0, 59, 42, 180, 0, 48, 27, 182, 0, 173, 153, 0, 7]
abbrev dktX0_sleeper_4 : List UInt8 := dkwX0_sleeper_4 ++ dktX0_sleeper_5
def dkwX0_sleeper_3 : List UInt8 := [27, 46, 172, 42, 180, 0, 59, 180, 0, 164, 27, 46, 172, 42, 180, 0, 48, 180, 0, 167, 27, 46, 172, 42]
abbrev dktX0_sleeper_3 : List UInt8 := dkwX0_sleeper_3 ++ dktX0_sleeper_4
def dkwX0_sleeper_2 : List UInt8 := [42, 180, 0, 59, 27, 182, 0, 158, 153, 0, 7, 4, 167, 0, 4, 3, 172, 42, 180, 0, 59, 180, 0, 161]
abbrev dktX0_sleeper_2 : List UInt8 := dkwX0_sleeper_2 ++ dktX0_sleeper_3
def dkwX0_sleeper_1 : List UInt8 := [170, 0, 0, 0, 0, 0, 0, 183, 0, 0, 0, 0, 0, 0, 0, 9, 0, 0, 0, 56, 0, 0, 0, 73, 0, 0, 0, 83, 0, 0, 0, 93, 0, 0, 0, 103, 0, 0, 0, 113, 0, 0, 0, 134, 0, 0, 0, 147, 0, 0, 0, 160, 0, 0, 0, 173]
abbrev dktX0_sleeper_1 : List UInt8 := dkwX0_sleeper_1 ++ dktX0_sleeper_2
def dkwX0_sleeper_0 : List UInt8 := [42, 27, 182, 0, 150, 154, 0, 6, 18, 157, 172, 28]
abbrev dktX0_sleeper_0 : List UInt8 := dkwX0_sleeper_0 ++ dktX0_sleeper_1
theorem dksX0_sleeper_0 : cX0_sleeper.data.toList.drop 0 = dktX0_sleeper_0 := by decide +kernel
theorem dksX0_sleeper_1 : cX0_sleeper.data.toList.drop 12 = dktX0_sleeper_1 := dk_seg dksX0_sleeper_0 12 rfl rfl
theorem dksX0_sleeper_2 : cX0_sleeper.data.toList.drop 68 = dktX0_sleeper_2 := dk_seg dksX0_sleeper_1 56 rfl rfl
theorem dksX0_sleeper_3 : cX0_sleeper.data.toList.drop 92 = dktX0_sleeper_3 := dk_seg dksX0_sleeper_2 24 rfl rfl
theorem dksX0_sleeper_4 : cX0_sleeper.data.toList.drop 116 = dktX0_sleeper_4 := dk_seg dksX0_sleeper_3 24 rfl rfl
theorem dksX0_sleeper_5 : cX0_sleeper.data.toList.drop 140 = dktX0_sleeper_5 := dk_seg dksX0_sleeper_4 24 rfl rfl
theorem dksX0_sleeper_6 : cX0_sleeper.data.toList.drop 164 = dktX0_sleeper_6 := dk_seg dksX0_sleeper_5 24 rfl rfl
theorem dksX0_sleeper_7 : cX0_sleeper.data.toList.drop 186 = dktX0_sleeper_7 := dk_seg dksX0_sleeper_6 22 rfl rfl
theorem dX0_sleeper_0 : decode cX0_sleeper 0 = .ok (.aload_n 0, 1) := dk_42 (dk_at dksX0_sleeper_0 0 rfl rfl)
theorem dX0_sleeper_1 : decode cX0_sleeper 1 = .ok (.iload_n 1, 1) := dk_27 (dk_at dksX0_sleeper_0 1 rfl rfl)
theorem dX0_sleeper_2 : decode cX0_sleeper 2 = .ok (.invokevirtual 150, 3) := dk_182 0 150 (dk_at dksX0_sleeper_0 2 rfl rfl)
theorem dX0_sleeper_5 : decode cX0_sleeper 5 = .ok (.ifCond .ne 6, 3) := dk_154 0 6 (dk_at dksX0_sleeper_0 5 rfl rfl)
theorem dX0_sleeper_8 : decode cX0_sleeper 8 = .ok (.ldc 157, 2) := dk_18 157 (dk_at dksX0_sleeper_0 8 rfl rfl)
theorem dX0_sleeper_10 : decode cX0_sleeper 10 = .ok (.ireturn, 1) := dk_172 (dk_at dksX0_sleeper_0 10 rfl rfl)
theorem dX0_sleeper_11 : decode cX0_sleeper 11 = .ok (.iload_n 2, 1) := dk_28 (dk_at dksX0_sleeper_0 11 rfl rfl)
theorem dX0_sleeper_12 : decode cX0_sleeper 12 = .ok (.tableswitch 183 0 9 #[56, 73, 83, 93, 103, 113, 134, 147, 160, 173], 56) := by decide +kernel
theorem dX0_sleeper_68 : decode cX0_sleeper 68 = .ok (.aload_n 0, 1) := dk_42 (dk_at dksX0_sleeper_2 0 rfl rfl)
theorem dX0_sleeper_69 : decode cX0_sleeper 69 = .ok (.getfield 59, 3) := dk_180 0 59 (dk_at dksX0_sleeper_2 1 rfl rfl)
theorem dX0_sleeper_72 : decode cX0_sleeper 72 = .ok (.iload_n 1, 1) := dk_27 (dk_at dksX0_sleeper_2 4 rfl rfl)
theorem dX0_sleeper_73 : decode cX0_sleeper 73 = .ok (.invokevirtual 158, 3) := dk_182 0 158 (dk_at dksX0_sleeper_2 5 rfl rfl)
theorem dX0_sleeper_76 : decode cX0_sleeper 76 = .ok (.ifCond .eq 7, 3) := dk_153 0 7 (dk_at dksX0_sleeper_2 8 rfl rfl)
theorem dX0_sleeper_79 : decode cX0_sleeper 79 = .ok (.iconst 1, 1) := dk_4 (dk_at dksX0_sleeper_2 11 rfl rfl)
theorem dX0_sleeper_80 : decode cX0_sleeper 80 = .ok (.goto 4, 3) := dk_167 0 4 (dk_at dksX0_sleeper_2 12 rfl rfl)
theorem dX0_sleeper_83 : decode cX0_sleeper 83 = .ok (.iconst 0, 1) := dk_3 (dk_at dksX0_sleeper_2 15 rfl rfl)
theorem dX0_sleeper_84 : decode cX0_sleeper 84 = .ok (.ireturn, 1) := dk_172 (dk_at dksX0_sleeper_2 16 rfl rfl)
theorem dX0_sleeper_85 : decode cX0_sleeper 85 = .ok (.aload_n 0, 1) := dk_42 (dk_at dksX0_sleeper_2 17 rfl rfl)
theorem dX0_sleeper_86 : decode cX0_sleeper 86 = .ok (.getfield 59, 3) := dk_180 0 59 (dk_at dksX0_sleeper_2 18 rfl rfl)
theorem dX0_sleeper_89 : decode cX0_sleeper 89 = .ok (.getfield 161, 3) := dk_180 0 161 (dk_at dksX0_sleeper_2 21 rfl rfl)
theorem dX0_sleeper_92 : decode cX0_sleeper 92 = .ok (.iload_n 1, 1) := dk_27 (dk_at dksX0_sleeper_3 0 rfl rfl)
theorem dX0_sleeper_93 : decode cX0_sleeper 93 = .ok (.iaload, 1) := dk_46 (dk_at dksX0_sleeper_3 1 rfl rfl)
theorem dX0_sleeper_94 : decode cX0_sleeper 94 = .ok (.ireturn, 1) := dk_172 (dk_at dksX0_sleeper_3 2 rfl rfl)
theorem dX0_sleeper_95 : decode cX0_sleeper 95 = .ok (.aload_n 0, 1) := dk_42 (dk_at dksX0_sleeper_3 3 rfl rfl)
theorem dX0_sleeper_96 : decode cX0_sleeper 96 = .ok (.getfield 59, 3) := dk_180 0 59 (dk_at dksX0_sleeper_3 4 rfl rfl)
theorem dX0_sleeper_99 : decode cX0_sleeper 99 = .ok (.getfield 164, 3) := dk_180 0 164 (dk_at dksX0_sleeper_3 7 rfl rfl)
theorem dX0_sleeper_102 : decode cX0_sleeper 102 = .ok (.iload_n 1, 1) := dk_27 (dk_at dksX0_sleeper_3 10 rfl rfl)
theorem dX0_sleeper_103 : decode cX0_sleeper 103 = .ok (.iaload, 1) := dk_46 (dk_at dksX0_sleeper_3 11 rfl rfl)
theorem dX0_sleeper_104 : decode cX0_sleeper 104 = .ok (.ireturn, 1) := dk_172 (dk_at dksX0_sleeper_3 12 rfl rfl)
theorem dX0_sleeper_105 : decode cX0_sleeper 105 = .ok (.aload_n 0, 1) := dk_42 (dk_at dksX0_sleeper_3 13 rfl rfl)
theorem dX0_sleeper_106 : decode cX0_sleeper 106 = .ok (.getfield 48, 3) := dk_180 0 48 (dk_at dksX0_sleeper_3 14 rfl rfl)
theorem dX0_sleeper_109 : decode cX0_sleeper 109 = .ok (.getfield 167, 3) := dk_180 0 167 (dk_at dksX0_sleeper_3 17 rfl rfl)
theorem dX0_sleeper_112 : decode cX0_sleeper 112 = .ok (.iload_n 1, 1) := dk_27 (dk_at dksX0_sleeper_3 20 rfl rfl)
theorem dX0_sleeper_113 : decode cX0_sleeper 113 = .ok (.iaload, 1) := dk_46 (dk_at dksX0_sleeper_3 21 rfl rfl)
theorem dX0_sleeper_114 : decode cX0_sleeper 114 = .ok (.ireturn, 1) := dk_172 (dk_at dksX0_sleeper_3 22 rfl rfl)
theorem dX0_sleeper_115 : decode cX0_sleeper 115 = .ok (.aload_n 0, 1) := dk_42 (dk_at dksX0_sleeper_3 23 rfl rfl)
theorem dX0_sleeper_116 : decode cX0_sleeper 116 = .ok (.getfield 59, 3) := dk_180 0 59 (dk_at dksX0_sleeper_4 0 rfl rfl)
theorem dX0_sleeper_119 : decode cX0_sleeper 119 = .ok (.getfield 170, 3) := dk_180 0 170 (dk_at dksX0_sleeper_4 3 rfl rfl)
theorem dX0_sleeper_122 : decode cX0_sleeper 122 = .ok (.iload_n 1, 1) := dk_27 (dk_at dksX0_sleeper_4 6 rfl rfl)
theorem dX0_sleeper_123 : decode cX0_sleeper 123 = .ok (.iaload, 1) := dk_46 (dk_at dksX0_sleeper_4 7 rfl rfl)
theorem dX0_sleeper_124 : decode cX0_sleeper 124 = .ok (.ireturn, 1) := dk_172 (dk_at dksX0_sleeper_4 8 rfl rfl)
theorem dX0_sleeper_125 : decode cX0_sleeper 125 = .ok (.aload_n 0, 1) := dk_42 (dk_at dksX0_sleeper_4 9 rfl rfl)
theorem dX0_sleeper_126 : decode cX0_sleeper 126 = .ok (.getfield 59, 3) := dk_180 0 59 (dk_at dksX0_sleeper_4 10 rfl rfl)
theorem dX0_sleeper_129 : decode cX0_sleeper 129 = .ok (.aload_n 0, 1) := dk_42 (dk_at dksX0_sleeper_4 13 rfl rfl)
theorem dX0_sleeper_130 : decode cX0_sleeper 130 = .ok (.getfield 48, 3) := dk_180 0 48 (dk_at dksX0_sleeper_4 14 rfl rfl)
theorem dX0_sleeper_133 : decode cX0_sleeper 133 = .ok (.iload_n 1, 1) := dk_27 (dk_at dksX0_sleeper_4 17 rfl rfl)
theorem dX0_sleeper_134 : decode cX0_sleeper 134 = .ok (.invokevirtual 173, 3) := dk_182 0 173 (dk_at dksX0_sleeper_4 18 rfl rfl)
theorem dX0_sleeper_137 : decode cX0_sleeper 137 = .ok (.ifCond .eq 7, 3) := dk_153 0 7 (dk_at dksX0_sleeper_4 21 rfl rfl)
theorem dX0_sleeper_140 : decode cX0_sleeper 140 = .ok (.iconst 1, 1) := dk_4 (dk_at dksX0_sleeper_5 0 rfl rfl)
theorem dX0_sleeper_141 : decode cX0_sleeper 141 = .ok (.goto 4, 3) := dk_167 0 4 (dk_at dksX0_sleeper_5 1 rfl rfl)
theorem dX0_sleeper_144 : decode cX0_sleeper 144 = .ok (.iconst 0, 1) := dk_3 (dk_at dksX0_sleeper_5 4 rfl rfl)
theorem dX0_sleeper_145 : decode cX0_sleeper 145 = .ok (.ireturn, 1) := dk_172 (dk_at dksX0_sleeper_5 5 rfl rfl)
theorem dX0_sleeper_146 : decode cX0_sleeper 146 = .ok (.aload_n 0, 1) := dk_42 (dk_at dksX0_sleeper_5 6 rfl rfl)
theorem dX0_sleeper_147 : decode cX0_sleeper 147 = .ok (.getfield 59, 3) := dk_180 0 59 (dk_at dksX0_sleeper_5 7 rfl rfl)
theorem dX0_sleeper_150 : decode cX0_sleeper 150 = .ok (.aload_n 0, 1) := dk_42 (dk_at dksX0_sleeper_5 10 rfl rfl)
theorem dX0_sleeper_151 : decode cX0_sleeper 151 = .ok (.getfield 48, 3) := dk_180 0 48 (dk_at dksX0_sleeper_5 11 rfl rfl)
theorem dX0_sleeper_154 : decode cX0_sleeper 154 = .ok (.iload_n 1, 1) := dk_27 (dk_at dksX0_sleeper_5 14 rfl rfl)
theorem dX0_sleeper_155 : decode cX0_sleeper 155 = .ok (.invokevirtual 177, 3) := dk_182 0 177 (dk_at dksX0_sleeper_5 15 rfl rfl)
theorem dX0_sleeper_158 : decode cX0_sleeper 158 = .ok (.ireturn, 1) := dk_172 (dk_at dksX0_sleeper_5 18 rfl rfl)
theorem dX0_sleeper_159 : decode cX0_sleeper 159 = .ok (.aload_n 0, 1) := dk_42 (dk_at dksX0_sleeper_5 19 rfl rfl)
theorem dX0_sleeper_160 : decode cX0_sleeper 160 = .ok (.getfield 59, 3) := dk_180 0 59 (dk_at dksX0_sleeper_5 20 rfl rfl)
theorem dX0_sleeper_163 : decode cX0_sleeper 163 = .ok (.aload_n 0, 1) := dk_42 (dk_at dksX0_sleeper_5 23 rfl rfl)
theorem dX0_sleeper_164 : decode cX0_sleeper 164 = .ok (.getfield 48, 3) := dk_180 0 48 (dk_at dksX0_sleeper_6 0 rfl rfl)
theorem dX0_sleeper_167 : decode cX0_sleeper 167 = .ok (.iload_n 1, 1) := dk_27 (dk_at dksX0_sleeper_6 3 rfl rfl)
theorem dX0_sleeper_168 : decode cX0_sleeper 168 = .ok (.invokevirtual 181, 3) := dk_182 0 181 (dk_at dksX0_sleeper_6 4 rfl rfl)
theorem dX0_sleeper_171 : decode cX0_sleeper 171 = .ok (.ireturn, 1) := dk_172 (dk_at dksX0_sleeper_6 7 rfl rfl)
theorem dX0_sleeper_172 : decode cX0_sleeper 172 = .ok (.aload_n 0, 1) := dk_42 (dk_at dksX0_sleeper_6 8 rfl rfl)
theorem dX0_sleeper_173 : decode cX0_sleeper 173 = .ok (.getfield 59, 3) := dk_180 0 59 (dk_at dksX0_sleeper_6 9 rfl rfl)
theorem dX0_sleeper_176 : decode cX0_sleeper 176 = .ok (.aload_n 0, 1) := dk_42 (dk_at dksX0_sleeper_6 12 rfl rfl)
theorem dX0_sleeper_177 : decode cX0_sleeper 177 = .ok (.getfield 48, 3) := dk_180 0 48 (dk_at dksX0_sleeper_6 13 rfl rfl)
theorem dX0_sleeper_180 : decode cX0_sleeper 180 = .ok (.iload_n 1, 1) := dk_27 (dk_at dksX0_sleeper_6 16 rfl rfl)
theorem dX0_sleeper_181 : decode cX0_sleeper 181 = .ok (.invokevirtual 184, 3) := dk_182 0 184 (dk_at dksX0_sleeper_6 17 rfl rfl)
theorem dX0_sleeper_184 : decode cX0_sleeper 184 = .ok (.ireturn, 1) := dk_172 (dk_at dksX0_sleeper_6 20 rfl rfl)
theorem dX0_sleeper_185 : decode cX0_sleeper 185 = .ok (.aload_n 0, 1) := dk_42 (dk_at dksX0_sleeper_6 21 rfl rfl)
theorem dX0_sleeper_186 : decode cX0_sleeper 186 = .ok (.getfield 59, 3) := dk_180 0 59 (dk_at dksX0_sleeper_7 0 rfl rfl)
theorem dX0_sleeper_189 : decode cX0_sleeper 189 = .ok (.getfield 187, 3) := dk_180 0 187 (dk_at dksX0_sleeper_7 3 rfl rfl)
theorem dX0_sleeper_192 : decode cX0_sleeper 192 = .ok (.iload_n 1, 1) := dk_27 (dk_at dksX0_sleeper_7 6 rfl rfl)
theorem dX0_sleeper_193 : decode cX0_sleeper 193 = .ok (.iaload, 1) := dk_46 (dk_at dksX0_sleeper_7 7 rfl rfl)
theorem dX0_sleeper_194 : decode cX0_sleeper 194 = .ok (.ireturn, 1) := dk_172 (dk_at dksX0_sleeper_7 8 rfl rfl)
theorem dX0_sleeper_195 : decode cX0_sleeper 195 = .ok (.ldc 157, 2) := dk_18 157 (dk_at dksX0_sleeper_7 9 rfl rfl)
theorem dX0_sleeper_197 : decode cX0_sleeper 197 = .ok (.ireturn, 1) := dk_172 (dk_at dksX0_sleeper_7 11 rfl rfl)
abbrev cX0_isBed : ByteArray := prog_1_method_13_code
def yX0_isBed : MethodName := ⟨RX0, "isBed", "(I)Z"⟩
def dkwX0_isBed_0 : List UInt8 := [27, 3, 42, 182, 0, 145, 4, 100, 184, 0, 146, 172]
abbrev dktX0_isBed_0 : List UInt8 := dkwX0_isBed_0 ++ []
theorem dksX0_isBed_0 : cX0_isBed.data.toList.drop 0 = dktX0_isBed_0 := by decide +kernel
theorem dX0_isBed_0 : decode cX0_isBed 0 = .ok (.iload_n 1, 1) := dk_27 (dk_at dksX0_isBed_0 0 rfl rfl)
theorem dX0_isBed_1 : decode cX0_isBed 1 = .ok (.iconst 0, 1) := dk_3 (dk_at dksX0_isBed_0 1 rfl rfl)
theorem dX0_isBed_2 : decode cX0_isBed 2 = .ok (.aload_n 0, 1) := dk_42 (dk_at dksX0_isBed_0 2 rfl rfl)
theorem dX0_isBed_3 : decode cX0_isBed 3 = .ok (.invokevirtual 145, 3) := dk_182 0 145 (dk_at dksX0_isBed_0 3 rfl rfl)
theorem dX0_isBed_6 : decode cX0_isBed 6 = .ok (.iconst 1, 1) := dk_4 (dk_at dksX0_isBed_0 6 rfl rfl)
theorem dX0_isBed_7 : decode cX0_isBed 7 = .ok (.isub, 1) := dk_100 (dk_at dksX0_isBed_0 7 rfl rfl)
theorem dX0_isBed_8 : decode cX0_isBed 8 = .ok (.invokestatic 146, 3) := dk_184 0 146 (dk_at dksX0_isBed_0 8 rfl rfl)
theorem dX0_isBed_11 : decode cX0_isBed 11 = .ok (.ireturn, 1) := dk_172 (dk_at dksX0_isBed_0 11 rfl rfl)
abbrev cX0_beds : ByteArray := prog_1_method_11_code
def yX0_beds : MethodName := ⟨RX0, "beds", "()I"⟩
def dkwX0_beds_0 : List UInt8 := [42, 180, 0, 48, 182, 0, 141, 172]
abbrev dktX0_beds_0 : List UInt8 := dkwX0_beds_0 ++ []
theorem dksX0_beds_0 : cX0_beds.data.toList.drop 0 = dktX0_beds_0 := by decide +kernel
theorem dX0_beds_0 : decode cX0_beds 0 = .ok (.aload_n 0, 1) := dk_42 (dk_at dksX0_beds_0 0 rfl rfl)
theorem dX0_beds_1 : decode cX0_beds 1 = .ok (.getfield 48, 3) := dk_180 0 48 (dk_at dksX0_beds_0 1 rfl rfl)
theorem dX0_beds_4 : decode cX0_beds 4 = .ok (.invokevirtual 141, 3) := dk_182 0 141 (dk_at dksX0_beds_0 4 rfl rfl)
theorem dX0_beds_7 : decode cX0_beds 7 = .ok (.ireturn, 1) := dk_172 (dk_at dksX0_beds_0 7 rfl rfl)
abbrev cX0_isIn : ByteArray := prog_1_method_10_code
def yX0_isIn : MethodName := ⟨RX0, "isIn", "(III)Z"⟩
def dkwX0_isIn_0 : List UInt8 := [26, 27, 161, 0, 12, 26, 28, 163, 0, 7, 4, 167, 0, 4, 3, 172]
abbrev dktX0_isIn_0 : List UInt8 := dkwX0_isIn_0 ++ []
theorem dksX0_isIn_0 : cX0_isIn.data.toList.drop 0 = dktX0_isIn_0 := by decide +kernel
theorem dX0_isIn_0 : decode cX0_isIn 0 = .ok (.iload_n 0, 1) := dk_26 (dk_at dksX0_isIn_0 0 rfl rfl)
theorem dX0_isIn_1 : decode cX0_isIn 1 = .ok (.iload_n 1, 1) := dk_27 (dk_at dksX0_isIn_0 1 rfl rfl)
theorem dX0_isIn_2 : decode cX0_isIn 2 = .ok (.if_icmp .lt 12, 3) := dk_161 0 12 (dk_at dksX0_isIn_0 2 rfl rfl)
theorem dX0_isIn_5 : decode cX0_isIn 5 = .ok (.iload_n 0, 1) := dk_26 (dk_at dksX0_isIn_0 5 rfl rfl)
theorem dX0_isIn_6 : decode cX0_isIn 6 = .ok (.iload_n 2, 1) := dk_28 (dk_at dksX0_isIn_0 6 rfl rfl)
theorem dX0_isIn_7 : decode cX0_isIn 7 = .ok (.if_icmp .gt 7, 3) := dk_163 0 7 (dk_at dksX0_isIn_0 7 rfl rfl)
theorem dX0_isIn_10 : decode cX0_isIn 10 = .ok (.iconst 1, 1) := dk_4 (dk_at dksX0_isIn_0 10 rfl rfl)
theorem dX0_isIn_11 : decode cX0_isIn 11 = .ok (.goto 4, 3) := dk_167 0 4 (dk_at dksX0_isIn_0 11 rfl rfl)
theorem dX0_isIn_14 : decode cX0_isIn 14 = .ok (.iconst 0, 1) := dk_3 (dk_at dksX0_isIn_0 14 rfl rfl)
theorem dX0_isIn_15 : decode cX0_isIn 15 = .ok (.ireturn, 1) := dk_172 (dk_at dksX0_isIn_0 15 rfl rfl)
abbrev cX0_turn : ByteArray := prog_1_method_20_code
def yX0_turn : MethodName := ⟨RX0, "turn", "(I)Z"⟩
def dkwX0_turn_1 : List UInt8 := [120, 130, 181, 0, 200, 42, 180, 0, 59, 180, 0, 187, 27, 92, 46, 4, 96, 79, 4, 172]
abbrev dktX0_turn_1 : List UInt8 := dkwX0_turn_1 ++ []
def dkwX0_turn_0 : List UInt8 := [42, 27, 182, 0, 150, 154, 0, 5, 3, 172, 42, 182, 0, 197, 42, 180, 0, 59, 89, 180, 0, 200, 4, 27]
abbrev dktX0_turn_0 : List UInt8 := dkwX0_turn_0 ++ dktX0_turn_1
theorem dksX0_turn_0 : cX0_turn.data.toList.drop 0 = dktX0_turn_0 := by decide +kernel
theorem dksX0_turn_1 : cX0_turn.data.toList.drop 24 = dktX0_turn_1 := dk_seg dksX0_turn_0 24 rfl rfl
theorem dX0_turn_0 : decode cX0_turn 0 = .ok (.aload_n 0, 1) := dk_42 (dk_at dksX0_turn_0 0 rfl rfl)
theorem dX0_turn_1 : decode cX0_turn 1 = .ok (.iload_n 1, 1) := dk_27 (dk_at dksX0_turn_0 1 rfl rfl)
theorem dX0_turn_2 : decode cX0_turn 2 = .ok (.invokevirtual 150, 3) := dk_182 0 150 (dk_at dksX0_turn_0 2 rfl rfl)
theorem dX0_turn_5 : decode cX0_turn 5 = .ok (.ifCond .ne 5, 3) := dk_154 0 5 (dk_at dksX0_turn_0 5 rfl rfl)
theorem dX0_turn_8 : decode cX0_turn 8 = .ok (.iconst 0, 1) := dk_3 (dk_at dksX0_turn_0 8 rfl rfl)
theorem dX0_turn_9 : decode cX0_turn 9 = .ok (.ireturn, 1) := dk_172 (dk_at dksX0_turn_0 9 rfl rfl)
theorem dX0_turn_10 : decode cX0_turn 10 = .ok (.aload_n 0, 1) := dk_42 (dk_at dksX0_turn_0 10 rfl rfl)
theorem dX0_turn_11 : decode cX0_turn 11 = .ok (.invokevirtual 197, 3) := dk_182 0 197 (dk_at dksX0_turn_0 11 rfl rfl)
theorem dX0_turn_14 : decode cX0_turn 14 = .ok (.aload_n 0, 1) := dk_42 (dk_at dksX0_turn_0 14 rfl rfl)
theorem dX0_turn_15 : decode cX0_turn 15 = .ok (.getfield 59, 3) := dk_180 0 59 (dk_at dksX0_turn_0 15 rfl rfl)
theorem dX0_turn_18 : decode cX0_turn 18 = .ok (.dup, 1) := dk_89 (dk_at dksX0_turn_0 18 rfl rfl)
theorem dX0_turn_19 : decode cX0_turn 19 = .ok (.getfield 200, 3) := dk_180 0 200 (dk_at dksX0_turn_0 19 rfl rfl)
theorem dX0_turn_22 : decode cX0_turn 22 = .ok (.iconst 1, 1) := dk_4 (dk_at dksX0_turn_0 22 rfl rfl)
theorem dX0_turn_23 : decode cX0_turn 23 = .ok (.iload_n 1, 1) := dk_27 (dk_at dksX0_turn_0 23 rfl rfl)
theorem dX0_turn_24 : decode cX0_turn 24 = .ok (.ishl, 1) := dk_120 (dk_at dksX0_turn_1 0 rfl rfl)
theorem dX0_turn_25 : decode cX0_turn 25 = .ok (.ixor, 1) := dk_130 (dk_at dksX0_turn_1 1 rfl rfl)
theorem dX0_turn_26 : decode cX0_turn 26 = .ok (.putfield 200, 3) := dk_181 0 200 (dk_at dksX0_turn_1 2 rfl rfl)
theorem dX0_turn_29 : decode cX0_turn 29 = .ok (.aload_n 0, 1) := dk_42 (dk_at dksX0_turn_1 5 rfl rfl)
theorem dX0_turn_30 : decode cX0_turn 30 = .ok (.getfield 59, 3) := dk_180 0 59 (dk_at dksX0_turn_1 6 rfl rfl)
theorem dX0_turn_33 : decode cX0_turn 33 = .ok (.getfield 187, 3) := dk_180 0 187 (dk_at dksX0_turn_1 9 rfl rfl)
theorem dX0_turn_36 : decode cX0_turn 36 = .ok (.iload_n 1, 1) := dk_27 (dk_at dksX0_turn_1 12 rfl rfl)
theorem dX0_turn_37 : decode cX0_turn 37 = .ok (.dup2, 1) := dk_92 (dk_at dksX0_turn_1 13 rfl rfl)
theorem dX0_turn_38 : decode cX0_turn 38 = .ok (.iaload, 1) := dk_46 (dk_at dksX0_turn_1 14 rfl rfl)
theorem dX0_turn_39 : decode cX0_turn 39 = .ok (.iconst 1, 1) := dk_4 (dk_at dksX0_turn_1 15 rfl rfl)
theorem dX0_turn_40 : decode cX0_turn 40 = .ok (.iadd, 1) := dk_96 (dk_at dksX0_turn_1 16 rfl rfl)
theorem dX0_turn_41 : decode cX0_turn 41 = .ok (.iastore, 1) := dk_79 (dk_at dksX0_turn_1 17 rfl rfl)
theorem dX0_turn_42 : decode cX0_turn 42 = .ok (.iconst 1, 1) := dk_4 (dk_at dksX0_turn_1 18 rfl rfl)
theorem dX0_turn_43 : decode cX0_turn 43 = .ok (.ireturn, 1) := dk_172 (dk_at dksX0_turn_1 19 rfl rfl)
abbrev cX0_keeps : ByteArray := prog_1_method_19_code
def yX0_keeps : MethodName := ⟨RX0, "keeps", "()V"⟩
def dkwX0_keeps_1 : List UInt8 := [16, 40, 112, 181, 0, 190, 42, 16, 40, 42, 180, 0, 131, 4, 96, 184, 0, 8, 181, 0, 131, 177]
abbrev dktX0_keeps_1 : List UInt8 := dkwX0_keeps_1 ++ []
def dkwX0_keeps_0 : List UInt8 := [42, 180, 0, 66, 42, 180, 0, 190, 50, 42, 180, 0, 59, 182, 0, 193, 42, 42, 180, 0, 190, 4, 96]
abbrev dktX0_keeps_0 : List UInt8 := dkwX0_keeps_0 ++ dktX0_keeps_1
theorem dksX0_keeps_0 : cX0_keeps.data.toList.drop 0 = dktX0_keeps_0 := by decide +kernel
theorem dksX0_keeps_1 : cX0_keeps.data.toList.drop 23 = dktX0_keeps_1 := dk_seg dksX0_keeps_0 23 rfl rfl
theorem dX0_keeps_0 : decode cX0_keeps 0 = .ok (.aload_n 0, 1) := dk_42 (dk_at dksX0_keeps_0 0 rfl rfl)
theorem dX0_keeps_1 : decode cX0_keeps 1 = .ok (.getfield 66, 3) := dk_180 0 66 (dk_at dksX0_keeps_0 1 rfl rfl)
theorem dX0_keeps_4 : decode cX0_keeps 4 = .ok (.aload_n 0, 1) := dk_42 (dk_at dksX0_keeps_0 4 rfl rfl)
theorem dX0_keeps_5 : decode cX0_keeps 5 = .ok (.getfield 190, 3) := dk_180 0 190 (dk_at dksX0_keeps_0 5 rfl rfl)
theorem dX0_keeps_8 : decode cX0_keeps 8 = .ok (.aaload, 1) := dk_50 (dk_at dksX0_keeps_0 8 rfl rfl)
theorem dX0_keeps_9 : decode cX0_keeps 9 = .ok (.aload_n 0, 1) := dk_42 (dk_at dksX0_keeps_0 9 rfl rfl)
theorem dX0_keeps_10 : decode cX0_keeps 10 = .ok (.getfield 59, 3) := dk_180 0 59 (dk_at dksX0_keeps_0 10 rfl rfl)
theorem dX0_keeps_13 : decode cX0_keeps 13 = .ok (.invokevirtual 193, 3) := dk_182 0 193 (dk_at dksX0_keeps_0 13 rfl rfl)
theorem dX0_keeps_16 : decode cX0_keeps 16 = .ok (.aload_n 0, 1) := dk_42 (dk_at dksX0_keeps_0 16 rfl rfl)
theorem dX0_keeps_17 : decode cX0_keeps 17 = .ok (.aload_n 0, 1) := dk_42 (dk_at dksX0_keeps_0 17 rfl rfl)
theorem dX0_keeps_18 : decode cX0_keeps 18 = .ok (.getfield 190, 3) := dk_180 0 190 (dk_at dksX0_keeps_0 18 rfl rfl)
theorem dX0_keeps_21 : decode cX0_keeps 21 = .ok (.iconst 1, 1) := dk_4 (dk_at dksX0_keeps_0 21 rfl rfl)
theorem dX0_keeps_22 : decode cX0_keeps 22 = .ok (.iadd, 1) := dk_96 (dk_at dksX0_keeps_0 22 rfl rfl)
theorem dX0_keeps_23 : decode cX0_keeps 23 = .ok (.bipush 40, 2) := dk_16 40 (dk_at dksX0_keeps_1 0 rfl rfl)
theorem dX0_keeps_25 : decode cX0_keeps 25 = .ok (.irem, 1) := dk_112 (dk_at dksX0_keeps_1 2 rfl rfl)
theorem dX0_keeps_26 : decode cX0_keeps 26 = .ok (.putfield 190, 3) := dk_181 0 190 (dk_at dksX0_keeps_1 3 rfl rfl)
theorem dX0_keeps_29 : decode cX0_keeps 29 = .ok (.aload_n 0, 1) := dk_42 (dk_at dksX0_keeps_1 6 rfl rfl)
theorem dX0_keeps_30 : decode cX0_keeps 30 = .ok (.bipush 40, 2) := dk_16 40 (dk_at dksX0_keeps_1 7 rfl rfl)
theorem dX0_keeps_32 : decode cX0_keeps 32 = .ok (.aload_n 0, 1) := dk_42 (dk_at dksX0_keeps_1 9 rfl rfl)
theorem dX0_keeps_33 : decode cX0_keeps 33 = .ok (.getfield 131, 3) := dk_180 0 131 (dk_at dksX0_keeps_1 10 rfl rfl)
theorem dX0_keeps_36 : decode cX0_keeps 36 = .ok (.iconst 1, 1) := dk_4 (dk_at dksX0_keeps_1 13 rfl rfl)
theorem dX0_keeps_37 : decode cX0_keeps 37 = .ok (.iadd, 1) := dk_96 (dk_at dksX0_keeps_1 14 rfl rfl)
theorem dX0_keeps_38 : decode cX0_keeps 38 = .ok (.invokestatic 8, 3) := dk_184 0 8 (dk_at dksX0_keeps_1 15 rfl rfl)
theorem dX0_keeps_41 : decode cX0_keeps 41 = .ok (.putfield 131, 3) := dk_181 0 131 (dk_at dksX0_keeps_1 18 rfl rfl)
theorem dX0_keeps_44 : decode cX0_keeps 44 = .ok (.return_, 1) := dk_177 (dk_at dksX0_keeps_1 21 rfl rfl)
abbrev cX0_whistle : ByteArray := prog_1_method_21_code
def yX0_whistle : MethodName := ⟨RX0, "whistle", "()Z"⟩
def dkwX0_whistle_1 : List UInt8 := [182, 0, 154, 4, 100, 130, 181, 0, 200, 4, 172]
abbrev dktX0_whistle_1 : List UInt8 := dkwX0_whistle_1 ++ []
def dkwX0_whistle_0 : List UInt8 := [42, 182, 0, 145, 154, 0, 5, 3, 172, 42, 182, 0, 197, 42, 180, 0, 59, 89, 180, 0, 200, 42]
abbrev dktX0_whistle_0 : List UInt8 := dkwX0_whistle_0 ++ dktX0_whistle_1
theorem dksX0_whistle_0 : cX0_whistle.data.toList.drop 0 = dktX0_whistle_0 := by decide +kernel
theorem dksX0_whistle_1 : cX0_whistle.data.toList.drop 22 = dktX0_whistle_1 := dk_seg dksX0_whistle_0 22 rfl rfl
theorem dX0_whistle_0 : decode cX0_whistle 0 = .ok (.aload_n 0, 1) := dk_42 (dk_at dksX0_whistle_0 0 rfl rfl)
theorem dX0_whistle_1 : decode cX0_whistle 1 = .ok (.invokevirtual 145, 3) := dk_182 0 145 (dk_at dksX0_whistle_0 1 rfl rfl)
theorem dX0_whistle_4 : decode cX0_whistle 4 = .ok (.ifCond .ne 5, 3) := dk_154 0 5 (dk_at dksX0_whistle_0 4 rfl rfl)
theorem dX0_whistle_7 : decode cX0_whistle 7 = .ok (.iconst 0, 1) := dk_3 (dk_at dksX0_whistle_0 7 rfl rfl)
theorem dX0_whistle_8 : decode cX0_whistle 8 = .ok (.ireturn, 1) := dk_172 (dk_at dksX0_whistle_0 8 rfl rfl)
theorem dX0_whistle_9 : decode cX0_whistle 9 = .ok (.aload_n 0, 1) := dk_42 (dk_at dksX0_whistle_0 9 rfl rfl)
theorem dX0_whistle_10 : decode cX0_whistle 10 = .ok (.invokevirtual 197, 3) := dk_182 0 197 (dk_at dksX0_whistle_0 10 rfl rfl)
theorem dX0_whistle_13 : decode cX0_whistle 13 = .ok (.aload_n 0, 1) := dk_42 (dk_at dksX0_whistle_0 13 rfl rfl)
theorem dX0_whistle_14 : decode cX0_whistle 14 = .ok (.getfield 59, 3) := dk_180 0 59 (dk_at dksX0_whistle_0 14 rfl rfl)
theorem dX0_whistle_17 : decode cX0_whistle 17 = .ok (.dup, 1) := dk_89 (dk_at dksX0_whistle_0 17 rfl rfl)
theorem dX0_whistle_18 : decode cX0_whistle 18 = .ok (.getfield 200, 3) := dk_180 0 200 (dk_at dksX0_whistle_0 18 rfl rfl)
theorem dX0_whistle_21 : decode cX0_whistle 21 = .ok (.aload_n 0, 1) := dk_42 (dk_at dksX0_whistle_0 21 rfl rfl)
theorem dX0_whistle_22 : decode cX0_whistle 22 = .ok (.invokevirtual 154, 3) := dk_182 0 154 (dk_at dksX0_whistle_1 0 rfl rfl)
theorem dX0_whistle_25 : decode cX0_whistle 25 = .ok (.iconst 1, 1) := dk_4 (dk_at dksX0_whistle_1 3 rfl rfl)
theorem dX0_whistle_26 : decode cX0_whistle 26 = .ok (.isub, 1) := dk_100 (dk_at dksX0_whistle_1 4 rfl rfl)
theorem dX0_whistle_27 : decode cX0_whistle 27 = .ok (.ixor, 1) := dk_130 (dk_at dksX0_whistle_1 5 rfl rfl)
theorem dX0_whistle_28 : decode cX0_whistle 28 = .ok (.putfield 200, 3) := dk_181 0 200 (dk_at dksX0_whistle_1 6 rfl rfl)
theorem dX0_whistle_31 : decode cX0_whistle 31 = .ok (.iconst 1, 1) := dk_4 (dk_at dksX0_whistle_1 9 rfl rfl)
theorem dX0_whistle_32 : decode cX0_whistle 32 = .ok (.ireturn, 1) := dk_172 (dk_at dksX0_whistle_1 10 rfl rfl)
abbrev cX0_rows : ByteArray := prog_1_method_12_code
def yX0_rows : MethodName := ⟨RX0, "rows", "()I"⟩
def dkwX0_rows_0 : List UInt8 := [4, 42, 182, 0, 145, 120, 172]
abbrev dktX0_rows_0 : List UInt8 := dkwX0_rows_0 ++ []
theorem dksX0_rows_0 : cX0_rows.data.toList.drop 0 = dktX0_rows_0 := by decide +kernel
theorem dX0_rows_0 : decode cX0_rows 0 = .ok (.iconst 1, 1) := dk_4 (dk_at dksX0_rows_0 0 rfl rfl)
theorem dX0_rows_1 : decode cX0_rows 1 = .ok (.aload_n 0, 1) := dk_42 (dk_at dksX0_rows_0 1 rfl rfl)
theorem dX0_rows_2 : decode cX0_rows 2 = .ok (.invokevirtual 145, 3) := dk_182 0 145 (dk_at dksX0_rows_0 2 rfl rfl)
theorem dX0_rows_5 : decode cX0_rows 5 = .ok (.ishl, 1) := dk_120 (dk_at dksX0_rows_0 5 rfl rfl)
theorem dX0_rows_6 : decode cX0_rows 6 = .ok (.ireturn, 1) := dk_172 (dk_at dksX0_rows_0 6 rfl rfl)
abbrev cX0_change : ByteArray := prog_1_method_22_code
def yX0_change : MethodName := ⟨RX0, "change", "(II)Z"⟩
def dkwX0_change_1 : List UInt8 := [4, 172]
abbrev dktX0_change_1 : List UInt8 := dkwX0_change_1 ++ []
def dkwX0_change_0 : List UInt8 := [42, 27, 28, 182, 0, 203, 154, 0, 5, 3, 172, 42, 182, 0, 197, 42, 180, 0, 59, 27, 28, 182, 0, 207]
abbrev dktX0_change_0 : List UInt8 := dkwX0_change_0 ++ dktX0_change_1
theorem dksX0_change_0 : cX0_change.data.toList.drop 0 = dktX0_change_0 := by decide +kernel
theorem dksX0_change_1 : cX0_change.data.toList.drop 24 = dktX0_change_1 := dk_seg dksX0_change_0 24 rfl rfl
theorem dX0_change_0 : decode cX0_change 0 = .ok (.aload_n 0, 1) := dk_42 (dk_at dksX0_change_0 0 rfl rfl)
theorem dX0_change_1 : decode cX0_change 1 = .ok (.iload_n 1, 1) := dk_27 (dk_at dksX0_change_0 1 rfl rfl)
theorem dX0_change_2 : decode cX0_change 2 = .ok (.iload_n 2, 1) := dk_28 (dk_at dksX0_change_0 2 rfl rfl)
theorem dX0_change_3 : decode cX0_change 3 = .ok (.invokevirtual 203, 3) := dk_182 0 203 (dk_at dksX0_change_0 3 rfl rfl)
theorem dX0_change_6 : decode cX0_change 6 = .ok (.ifCond .ne 5, 3) := dk_154 0 5 (dk_at dksX0_change_0 6 rfl rfl)
theorem dX0_change_9 : decode cX0_change 9 = .ok (.iconst 0, 1) := dk_3 (dk_at dksX0_change_0 9 rfl rfl)
theorem dX0_change_10 : decode cX0_change 10 = .ok (.ireturn, 1) := dk_172 (dk_at dksX0_change_0 10 rfl rfl)
theorem dX0_change_11 : decode cX0_change 11 = .ok (.aload_n 0, 1) := dk_42 (dk_at dksX0_change_0 11 rfl rfl)
theorem dX0_change_12 : decode cX0_change 12 = .ok (.invokevirtual 197, 3) := dk_182 0 197 (dk_at dksX0_change_0 12 rfl rfl)
theorem dX0_change_15 : decode cX0_change 15 = .ok (.aload_n 0, 1) := dk_42 (dk_at dksX0_change_0 15 rfl rfl)
theorem dX0_change_16 : decode cX0_change 16 = .ok (.getfield 59, 3) := dk_180 0 59 (dk_at dksX0_change_0 16 rfl rfl)
theorem dX0_change_19 : decode cX0_change 19 = .ok (.iload_n 1, 1) := dk_27 (dk_at dksX0_change_0 19 rfl rfl)
theorem dX0_change_20 : decode cX0_change 20 = .ok (.iload_n 2, 1) := dk_28 (dk_at dksX0_change_0 20 rfl rfl)
theorem dX0_change_21 : decode cX0_change 21 = .ok (.invokevirtual 207, 3) := dk_182 0 207 (dk_at dksX0_change_0 21 rfl rfl)
theorem dX0_change_24 : decode cX0_change 24 = .ok (.iconst 1, 1) := dk_4 (dk_at dksX0_change_1 0 rfl rfl)
theorem dX0_change_25 : decode cX0_change 25 = .ok (.ireturn, 1) := dk_172 (dk_at dksX0_change_1 1 rfl rfl)
abbrev cX0_isPair : ByteArray := prog_1_method_14_code
def yX0_isPair : MethodName := ⟨RX0, "isPair", "(II)Z"⟩
def dkwX0_isPair_1 : List UInt8 := [167, 0, 4, 3, 172]
abbrev dktX0_isPair_1 : List UInt8 := dkwX0_isPair_1 ++ []
def dkwX0_isPair_0 : List UInt8 := [42, 27, 182, 0, 150, 153, 0, 20, 42, 28, 182, 0, 150, 153, 0, 12, 27, 28, 159, 0, 7, 4]
abbrev dktX0_isPair_0 : List UInt8 := dkwX0_isPair_0 ++ dktX0_isPair_1
theorem dksX0_isPair_0 : cX0_isPair.data.toList.drop 0 = dktX0_isPair_0 := by decide +kernel
theorem dksX0_isPair_1 : cX0_isPair.data.toList.drop 22 = dktX0_isPair_1 := dk_seg dksX0_isPair_0 22 rfl rfl
theorem dX0_isPair_0 : decode cX0_isPair 0 = .ok (.aload_n 0, 1) := dk_42 (dk_at dksX0_isPair_0 0 rfl rfl)
theorem dX0_isPair_1 : decode cX0_isPair 1 = .ok (.iload_n 1, 1) := dk_27 (dk_at dksX0_isPair_0 1 rfl rfl)
theorem dX0_isPair_2 : decode cX0_isPair 2 = .ok (.invokevirtual 150, 3) := dk_182 0 150 (dk_at dksX0_isPair_0 2 rfl rfl)
theorem dX0_isPair_5 : decode cX0_isPair 5 = .ok (.ifCond .eq 20, 3) := dk_153 0 20 (dk_at dksX0_isPair_0 5 rfl rfl)
theorem dX0_isPair_8 : decode cX0_isPair 8 = .ok (.aload_n 0, 1) := dk_42 (dk_at dksX0_isPair_0 8 rfl rfl)
theorem dX0_isPair_9 : decode cX0_isPair 9 = .ok (.iload_n 2, 1) := dk_28 (dk_at dksX0_isPair_0 9 rfl rfl)
theorem dX0_isPair_10 : decode cX0_isPair 10 = .ok (.invokevirtual 150, 3) := dk_182 0 150 (dk_at dksX0_isPair_0 10 rfl rfl)
theorem dX0_isPair_13 : decode cX0_isPair 13 = .ok (.ifCond .eq 12, 3) := dk_153 0 12 (dk_at dksX0_isPair_0 13 rfl rfl)
theorem dX0_isPair_16 : decode cX0_isPair 16 = .ok (.iload_n 1, 1) := dk_27 (dk_at dksX0_isPair_0 16 rfl rfl)
theorem dX0_isPair_17 : decode cX0_isPair 17 = .ok (.iload_n 2, 1) := dk_28 (dk_at dksX0_isPair_0 17 rfl rfl)
theorem dX0_isPair_18 : decode cX0_isPair 18 = .ok (.if_icmp .eq 7, 3) := dk_159 0 7 (dk_at dksX0_isPair_0 18 rfl rfl)
theorem dX0_isPair_21 : decode cX0_isPair 21 = .ok (.iconst 1, 1) := dk_4 (dk_at dksX0_isPair_0 21 rfl rfl)
theorem dX0_isPair_22 : decode cX0_isPair 22 = .ok (.goto 4, 3) := dk_167 0 4 (dk_at dksX0_isPair_1 0 rfl rfl)
theorem dX0_isPair_25 : decode cX0_isPair 25 = .ok (.iconst 0, 1) := dk_3 (dk_at dksX0_isPair_1 3 rfl rfl)
theorem dX0_isPair_26 : decode cX0_isPair 26 = .ok (.ireturn, 1) := dk_172 (dk_at dksX0_isPair_1 4 rfl rfl)
abbrev cX0_hours : ByteArray := prog_1_method_24_code
def yX0_hours : MethodName := ⟨RX0, "hours", "(I)I"⟩
def dkwX0_hours_1 : List UInt8 := [180, 0, 76, 182, 0, 218, 42, 180, 0, 59, 180, 0, 222, 172]
abbrev dktX0_hours_1 : List UInt8 := dkwX0_hours_1 ++ []
def dkwX0_hours_0 : List UInt8 := [27, 184, 0, 215, 154, 0, 5, 2, 172, 27, 158, 0, 7, 42, 182, 0, 197, 42, 42, 180, 0, 59, 27, 42]
abbrev dktX0_hours_0 : List UInt8 := dkwX0_hours_0 ++ dktX0_hours_1
theorem dksX0_hours_0 : cX0_hours.data.toList.drop 0 = dktX0_hours_0 := by decide +kernel
theorem dksX0_hours_1 : cX0_hours.data.toList.drop 24 = dktX0_hours_1 := dk_seg dksX0_hours_0 24 rfl rfl
theorem dX0_hours_0 : decode cX0_hours 0 = .ok (.iload_n 1, 1) := dk_27 (dk_at dksX0_hours_0 0 rfl rfl)
theorem dX0_hours_1 : decode cX0_hours 1 = .ok (.invokestatic 215, 3) := dk_184 0 215 (dk_at dksX0_hours_0 1 rfl rfl)
theorem dX0_hours_4 : decode cX0_hours 4 = .ok (.ifCond .ne 5, 3) := dk_154 0 5 (dk_at dksX0_hours_0 4 rfl rfl)
theorem dX0_hours_7 : decode cX0_hours 7 = .ok (.iconst (-1), 1) := dk_2 (dk_at dksX0_hours_0 7 rfl rfl)
theorem dX0_hours_8 : decode cX0_hours 8 = .ok (.ireturn, 1) := dk_172 (dk_at dksX0_hours_0 8 rfl rfl)
theorem dX0_hours_9 : decode cX0_hours 9 = .ok (.iload_n 1, 1) := dk_27 (dk_at dksX0_hours_0 9 rfl rfl)
theorem dX0_hours_10 : decode cX0_hours 10 = .ok (.ifCond .le 7, 3) := dk_158 0 7 (dk_at dksX0_hours_0 10 rfl rfl)
theorem dX0_hours_13 : decode cX0_hours 13 = .ok (.aload_n 0, 1) := dk_42 (dk_at dksX0_hours_0 13 rfl rfl)
theorem dX0_hours_14 : decode cX0_hours 14 = .ok (.invokevirtual 197, 3) := dk_182 0 197 (dk_at dksX0_hours_0 14 rfl rfl)
theorem dX0_hours_17 : decode cX0_hours 17 = .ok (.aload_n 0, 1) := dk_42 (dk_at dksX0_hours_0 17 rfl rfl)
theorem dX0_hours_18 : decode cX0_hours 18 = .ok (.aload_n 0, 1) := dk_42 (dk_at dksX0_hours_0 18 rfl rfl)
theorem dX0_hours_19 : decode cX0_hours 19 = .ok (.getfield 59, 3) := dk_180 0 59 (dk_at dksX0_hours_0 19 rfl rfl)
theorem dX0_hours_22 : decode cX0_hours 22 = .ok (.iload_n 1, 1) := dk_27 (dk_at dksX0_hours_0 22 rfl rfl)
theorem dX0_hours_23 : decode cX0_hours 23 = .ok (.aload_n 0, 1) := dk_42 (dk_at dksX0_hours_0 23 rfl rfl)
theorem dX0_hours_24 : decode cX0_hours 24 = .ok (.getfield 76, 3) := dk_180 0 76 (dk_at dksX0_hours_1 0 rfl rfl)
theorem dX0_hours_27 : decode cX0_hours 27 = .ok (.invokevirtual 218, 3) := dk_182 0 218 (dk_at dksX0_hours_1 3 rfl rfl)
theorem dX0_hours_30 : decode cX0_hours 30 = .ok (.aload_n 0, 1) := dk_42 (dk_at dksX0_hours_1 6 rfl rfl)
theorem dX0_hours_31 : decode cX0_hours 31 = .ok (.getfield 59, 3) := dk_180 0 59 (dk_at dksX0_hours_1 7 rfl rfl)
theorem dX0_hours_34 : decode cX0_hours 34 = .ok (.getfield 222, 3) := dk_180 0 222 (dk_at dksX0_hours_1 10 rfl rfl)
theorem dX0_hours_37 : decode cX0_hours 37 = .ok (.ireturn, 1) := dk_172 (dk_at dksX0_hours_1 13 rfl rfl)
abbrev cX0_isAhead : ByteArray := prog_1_method_16_code
def yX0_isAhead : MethodName := ⟨RX0, "isAhead", "(I)Z"⟩
def dkwX0_isAhead_0 : List UInt8 := [26, 3, 16, 48, 184, 0, 146, 172]
abbrev dktX0_isAhead_0 : List UInt8 := dkwX0_isAhead_0 ++ []
theorem dksX0_isAhead_0 : cX0_isAhead.data.toList.drop 0 = dktX0_isAhead_0 := by decide +kernel
theorem dX0_isAhead_0 : decode cX0_isAhead 0 = .ok (.iload_n 0, 1) := dk_26 (dk_at dksX0_isAhead_0 0 rfl rfl)
theorem dX0_isAhead_1 : decode cX0_isAhead 1 = .ok (.iconst 0, 1) := dk_3 (dk_at dksX0_isAhead_0 1 rfl rfl)
theorem dX0_isAhead_2 : decode cX0_isAhead 2 = .ok (.bipush 48, 2) := dk_16 48 (dk_at dksX0_isAhead_0 2 rfl rfl)
theorem dX0_isAhead_4 : decode cX0_isAhead 4 = .ok (.invokestatic 146, 3) := dk_184 0 146 (dk_at dksX0_isAhead_0 4 rfl rfl)
theorem dX0_isAhead_7 : decode cX0_isAhead 7 = .ok (.ireturn, 1) := dk_172 (dk_at dksX0_isAhead_0 7 rfl rfl)
abbrev cX0_runs : ByteArray := prog_1_method_23_code
def yX0_runs : MethodName := ⟨RX0, "runs", "(LPartedSide$Barrack;ILPartedSide$Night;)V"⟩
def dkwX0_runs_1 : List UInt8 := [177]
abbrev dktX0_runs_1 : List UInt8 := dkwX0_runs_1 ++ []
def dkwX0_runs_0 : List UInt8 := [3, 54, 4, 21, 4, 28, 162, 0, 18, 43, 42, 180, 0, 48, 45, 182, 0, 211, 132, 4, 1, 167, 255, 238]
abbrev dktX0_runs_0 : List UInt8 := dkwX0_runs_0 ++ dktX0_runs_1
theorem dksX0_runs_0 : cX0_runs.data.toList.drop 0 = dktX0_runs_0 := by decide +kernel
theorem dksX0_runs_1 : cX0_runs.data.toList.drop 24 = dktX0_runs_1 := dk_seg dksX0_runs_0 24 rfl rfl
theorem dX0_runs_0 : decode cX0_runs 0 = .ok (.iconst 0, 1) := dk_3 (dk_at dksX0_runs_0 0 rfl rfl)
theorem dX0_runs_1 : decode cX0_runs 1 = .ok (.istore 4, 2) := dk_54 4 (dk_at dksX0_runs_0 1 rfl rfl)
theorem dX0_runs_3 : decode cX0_runs 3 = .ok (.iload 4, 2) := dk_21 4 (dk_at dksX0_runs_0 3 rfl rfl)
theorem dX0_runs_5 : decode cX0_runs 5 = .ok (.iload_n 2, 1) := dk_28 (dk_at dksX0_runs_0 5 rfl rfl)
theorem dX0_runs_6 : decode cX0_runs 6 = .ok (.if_icmp .ge 18, 3) := dk_162 0 18 (dk_at dksX0_runs_0 6 rfl rfl)
theorem dX0_runs_9 : decode cX0_runs 9 = .ok (.aload_n 1, 1) := dk_43 (dk_at dksX0_runs_0 9 rfl rfl)
theorem dX0_runs_10 : decode cX0_runs 10 = .ok (.aload_n 0, 1) := dk_42 (dk_at dksX0_runs_0 10 rfl rfl)
theorem dX0_runs_11 : decode cX0_runs 11 = .ok (.getfield 48, 3) := dk_180 0 48 (dk_at dksX0_runs_0 11 rfl rfl)
theorem dX0_runs_14 : decode cX0_runs 14 = .ok (.aload_n 3, 1) := dk_45 (dk_at dksX0_runs_0 14 rfl rfl)
theorem dX0_runs_15 : decode cX0_runs 15 = .ok (.invokevirtual 211, 3) := dk_182 0 211 (dk_at dksX0_runs_0 15 rfl rfl)
theorem dX0_runs_18 : decode cX0_runs 18 = .ok (.iinc 4 1, 3) := dk_132 4 1 (dk_at dksX0_runs_0 18 rfl rfl)
theorem dX0_runs_21 : decode cX0_runs 21 = .ok (.goto (-18), 3) := dk_167 255 238 (dk_at dksX0_runs_0 21 rfl rfl)
theorem dX0_runs_24 : decode cX0_runs 24 = .ok (.return_, 1) := dk_177 (dk_at dksX0_runs_1 0 rfl rfl)
abbrev cX0_lot : ByteArray := prog_1_method_2_code
def yX0_lot : MethodName := ⟨RX0, "lot", "(III)I"⟩
def dkwX0_lot_0 : List UInt8 := [26, 17, 0, 139, 184, 0, 2, 27, 184, 0, 2, 4, 124, 28, 112, 172]
abbrev dktX0_lot_0 : List UInt8 := dkwX0_lot_0 ++ []
theorem dksX0_lot_0 : cX0_lot.data.toList.drop 0 = dktX0_lot_0 := by decide +kernel
theorem dX0_lot_0 : decode cX0_lot 0 = .ok (.iload_n 0, 1) := dk_26 (dk_at dksX0_lot_0 0 rfl rfl)
theorem dX0_lot_1 : decode cX0_lot 1 = .ok (.sipush 139, 3) := dk_17 0 139 (dk_at dksX0_lot_0 1 rfl rfl)
theorem dX0_lot_4 : decode cX0_lot 4 = .ok (.invokestatic 2, 3) := dk_184 0 2 (dk_at dksX0_lot_0 4 rfl rfl)
theorem dX0_lot_7 : decode cX0_lot 7 = .ok (.iload_n 1, 1) := dk_27 (dk_at dksX0_lot_0 7 rfl rfl)
theorem dX0_lot_8 : decode cX0_lot 8 = .ok (.invokestatic 2, 3) := dk_184 0 2 (dk_at dksX0_lot_0 8 rfl rfl)
theorem dX0_lot_11 : decode cX0_lot 11 = .ok (.iconst 1, 1) := dk_4 (dk_at dksX0_lot_0 11 rfl rfl)
theorem dX0_lot_12 : decode cX0_lot 12 = .ok (.iushr, 1) := dk_124 (dk_at dksX0_lot_0 12 rfl rfl)
theorem dX0_lot_13 : decode cX0_lot 13 = .ok (.iload_n 2, 1) := dk_28 (dk_at dksX0_lot_0 13 rfl rfl)
theorem dX0_lot_14 : decode cX0_lot 14 = .ok (.irem, 1) := dk_112 (dk_at dksX0_lot_0 14 rfl rfl)
theorem dX0_lot_15 : decode cX0_lot 15 = .ok (.ireturn, 1) := dk_172 (dk_at dksX0_lot_0 15 rfl rfl)
abbrev cX0_mixed : ByteArray := prog_1_method_1_code
def yX0_mixed : MethodName := ⟨RX0, "mixed", "(II)I"⟩
def dkwX0_mixed_0 : List UInt8 := [26, 27, 130, 18, 1, 104, 17, 48, 57, 96, 61, 28, 28, 16, 15, 124, 130, 172]
abbrev dktX0_mixed_0 : List UInt8 := dkwX0_mixed_0 ++ []
theorem dksX0_mixed_0 : cX0_mixed.data.toList.drop 0 = dktX0_mixed_0 := by decide +kernel
theorem dX0_mixed_0 : decode cX0_mixed 0 = .ok (.iload_n 0, 1) := dk_26 (dk_at dksX0_mixed_0 0 rfl rfl)
theorem dX0_mixed_1 : decode cX0_mixed 1 = .ok (.iload_n 1, 1) := dk_27 (dk_at dksX0_mixed_0 1 rfl rfl)
theorem dX0_mixed_2 : decode cX0_mixed 2 = .ok (.ixor, 1) := dk_130 (dk_at dksX0_mixed_0 2 rfl rfl)
theorem dX0_mixed_3 : decode cX0_mixed 3 = .ok (.ldc 1, 2) := dk_18 1 (dk_at dksX0_mixed_0 3 rfl rfl)
theorem dX0_mixed_5 : decode cX0_mixed 5 = .ok (.imul, 1) := dk_104 (dk_at dksX0_mixed_0 5 rfl rfl)
theorem dX0_mixed_6 : decode cX0_mixed 6 = .ok (.sipush 12345, 3) := dk_17 48 57 (dk_at dksX0_mixed_0 6 rfl rfl)
theorem dX0_mixed_9 : decode cX0_mixed 9 = .ok (.iadd, 1) := dk_96 (dk_at dksX0_mixed_0 9 rfl rfl)
theorem dX0_mixed_10 : decode cX0_mixed 10 = .ok (.istore_n 2, 1) := dk_61 (dk_at dksX0_mixed_0 10 rfl rfl)
theorem dX0_mixed_11 : decode cX0_mixed 11 = .ok (.iload_n 2, 1) := dk_28 (dk_at dksX0_mixed_0 11 rfl rfl)
theorem dX0_mixed_12 : decode cX0_mixed 12 = .ok (.iload_n 2, 1) := dk_28 (dk_at dksX0_mixed_0 12 rfl rfl)
theorem dX0_mixed_13 : decode cX0_mixed 13 = .ok (.bipush 15, 2) := dk_16 15 (dk_at dksX0_mixed_0 13 rfl rfl)
theorem dX0_mixed_15 : decode cX0_mixed 15 = .ok (.iushr, 1) := dk_124 (dk_at dksX0_mixed_0 15 rfl rfl)
theorem dX0_mixed_16 : decode cX0_mixed 16 = .ok (.ixor, 1) := dk_130 (dk_at dksX0_mixed_0 16 rfl rfl)
theorem dX0_mixed_17 : decode cX0_mixed 17 = .ok (.ireturn, 1) := dk_172 (dk_at dksX0_mixed_0 17 rfl rfl)
abbrev cX0_within : ByteArray := prog_1_method_3_code
def yX0_within : MethodName := ⟨RX0, "within", "(III)I"⟩
def dkwX0_within_0 : List UInt8 := [27, 28, 26, 184, 0, 8, 184, 0, 13, 172]
abbrev dktX0_within_0 : List UInt8 := dkwX0_within_0 ++ []
theorem dksX0_within_0 : cX0_within.data.toList.drop 0 = dktX0_within_0 := by decide +kernel
theorem dX0_within_0 : decode cX0_within 0 = .ok (.iload_n 1, 1) := dk_27 (dk_at dksX0_within_0 0 rfl rfl)
theorem dX0_within_1 : decode cX0_within 1 = .ok (.iload_n 2, 1) := dk_28 (dk_at dksX0_within_0 1 rfl rfl)
theorem dX0_within_2 : decode cX0_within 2 = .ok (.iload_n 0, 1) := dk_26 (dk_at dksX0_within_0 2 rfl rfl)
theorem dX0_within_3 : decode cX0_within 3 = .ok (.invokestatic 8, 3) := dk_184 0 8 (dk_at dksX0_within_0 3 rfl rfl)
theorem dX0_within_6 : decode cX0_within 6 = .ok (.invokestatic 13, 3) := dk_184 0 13 (dk_at dksX0_within_0 6 rfl rfl)
theorem dX0_within_9 : decode cX0_within 9 = .ok (.ireturn, 1) := dk_172 (dk_at dksX0_within_0 9 rfl rfl)
abbrev cX0_undo : ByteArray := prog_1_method_25_code
def yX0_undo : MethodName := ⟨RX0, "undo", "()Z"⟩
def dkwX0_undo_2 : List UInt8 := [182, 0, 193, 4, 172]
abbrev dktX0_undo_2 : List UInt8 := dkwX0_undo_2 ++ []
def dkwX0_undo_1 : List UInt8 := [16, 40, 96, 4, 100, 16, 40, 112, 181, 0, 190, 42, 180, 0, 59, 42, 180, 0, 66, 42, 180, 0, 190, 50]
abbrev dktX0_undo_1 : List UInt8 := dkwX0_undo_1 ++ dktX0_undo_2
def dkwX0_undo_0 : List UInt8 := [42, 180, 0, 131, 154, 0, 5, 3, 172, 42, 89, 180, 0, 131, 4, 100, 181, 0, 131, 42, 42, 180, 0, 190]
abbrev dktX0_undo_0 : List UInt8 := dkwX0_undo_0 ++ dktX0_undo_1
theorem dksX0_undo_0 : cX0_undo.data.toList.drop 0 = dktX0_undo_0 := by decide +kernel
theorem dksX0_undo_1 : cX0_undo.data.toList.drop 24 = dktX0_undo_1 := dk_seg dksX0_undo_0 24 rfl rfl
theorem dksX0_undo_2 : cX0_undo.data.toList.drop 48 = dktX0_undo_2 := dk_seg dksX0_undo_1 24 rfl rfl
theorem dX0_undo_0 : decode cX0_undo 0 = .ok (.aload_n 0, 1) := dk_42 (dk_at dksX0_undo_0 0 rfl rfl)
theorem dX0_undo_1 : decode cX0_undo 1 = .ok (.getfield 131, 3) := dk_180 0 131 (dk_at dksX0_undo_0 1 rfl rfl)
theorem dX0_undo_4 : decode cX0_undo 4 = .ok (.ifCond .ne 5, 3) := dk_154 0 5 (dk_at dksX0_undo_0 4 rfl rfl)
theorem dX0_undo_7 : decode cX0_undo 7 = .ok (.iconst 0, 1) := dk_3 (dk_at dksX0_undo_0 7 rfl rfl)
theorem dX0_undo_8 : decode cX0_undo 8 = .ok (.ireturn, 1) := dk_172 (dk_at dksX0_undo_0 8 rfl rfl)
theorem dX0_undo_9 : decode cX0_undo 9 = .ok (.aload_n 0, 1) := dk_42 (dk_at dksX0_undo_0 9 rfl rfl)
theorem dX0_undo_10 : decode cX0_undo 10 = .ok (.dup, 1) := dk_89 (dk_at dksX0_undo_0 10 rfl rfl)
theorem dX0_undo_11 : decode cX0_undo 11 = .ok (.getfield 131, 3) := dk_180 0 131 (dk_at dksX0_undo_0 11 rfl rfl)
theorem dX0_undo_14 : decode cX0_undo 14 = .ok (.iconst 1, 1) := dk_4 (dk_at dksX0_undo_0 14 rfl rfl)
theorem dX0_undo_15 : decode cX0_undo 15 = .ok (.isub, 1) := dk_100 (dk_at dksX0_undo_0 15 rfl rfl)
theorem dX0_undo_16 : decode cX0_undo 16 = .ok (.putfield 131, 3) := dk_181 0 131 (dk_at dksX0_undo_0 16 rfl rfl)
theorem dX0_undo_19 : decode cX0_undo 19 = .ok (.aload_n 0, 1) := dk_42 (dk_at dksX0_undo_0 19 rfl rfl)
theorem dX0_undo_20 : decode cX0_undo 20 = .ok (.aload_n 0, 1) := dk_42 (dk_at dksX0_undo_0 20 rfl rfl)
theorem dX0_undo_21 : decode cX0_undo 21 = .ok (.getfield 190, 3) := dk_180 0 190 (dk_at dksX0_undo_0 21 rfl rfl)
theorem dX0_undo_24 : decode cX0_undo 24 = .ok (.bipush 40, 2) := dk_16 40 (dk_at dksX0_undo_1 0 rfl rfl)
theorem dX0_undo_26 : decode cX0_undo 26 = .ok (.iadd, 1) := dk_96 (dk_at dksX0_undo_1 2 rfl rfl)
theorem dX0_undo_27 : decode cX0_undo 27 = .ok (.iconst 1, 1) := dk_4 (dk_at dksX0_undo_1 3 rfl rfl)
theorem dX0_undo_28 : decode cX0_undo 28 = .ok (.isub, 1) := dk_100 (dk_at dksX0_undo_1 4 rfl rfl)
theorem dX0_undo_29 : decode cX0_undo 29 = .ok (.bipush 40, 2) := dk_16 40 (dk_at dksX0_undo_1 5 rfl rfl)
theorem dX0_undo_31 : decode cX0_undo 31 = .ok (.irem, 1) := dk_112 (dk_at dksX0_undo_1 7 rfl rfl)
theorem dX0_undo_32 : decode cX0_undo 32 = .ok (.putfield 190, 3) := dk_181 0 190 (dk_at dksX0_undo_1 8 rfl rfl)
theorem dX0_undo_35 : decode cX0_undo 35 = .ok (.aload_n 0, 1) := dk_42 (dk_at dksX0_undo_1 11 rfl rfl)
theorem dX0_undo_36 : decode cX0_undo 36 = .ok (.getfield 59, 3) := dk_180 0 59 (dk_at dksX0_undo_1 12 rfl rfl)
theorem dX0_undo_39 : decode cX0_undo 39 = .ok (.aload_n 0, 1) := dk_42 (dk_at dksX0_undo_1 15 rfl rfl)
theorem dX0_undo_40 : decode cX0_undo 40 = .ok (.getfield 66, 3) := dk_180 0 66 (dk_at dksX0_undo_1 16 rfl rfl)
theorem dX0_undo_43 : decode cX0_undo 43 = .ok (.aload_n 0, 1) := dk_42 (dk_at dksX0_undo_1 19 rfl rfl)
theorem dX0_undo_44 : decode cX0_undo 44 = .ok (.getfield 190, 3) := dk_180 0 190 (dk_at dksX0_undo_1 20 rfl rfl)
theorem dX0_undo_47 : decode cX0_undo 47 = .ok (.aaload, 1) := dk_50 (dk_at dksX0_undo_1 23 rfl rfl)
theorem dX0_undo_48 : decode cX0_undo 48 = .ok (.invokevirtual 193, 3) := dk_182 0 193 (dk_at dksX0_undo_2 0 rfl rfl)
theorem dX0_undo_51 : decode cX0_undo 51 = .ok (.iconst 1, 1) := dk_4 (dk_at dksX0_undo_2 3 rfl rfl)
theorem dX0_undo_52 : decode cX0_undo 52 = .ok (.ireturn, 1) := dk_172 (dk_at dksX0_undo_2 4 rfl rfl)
abbrev cX0_after : ByteArray := prog_1_method_27_code
def yX0_after : MethodName := ⟨RX0, "after", "(II)I"⟩
def dkwX0_after_1 : List UInt8 := [2, 172]
abbrev dktX0_after_1 : List UInt8 := dkwX0_after_1 ++ []
def dkwX0_after_0 : List UInt8 := [42, 27, 182, 0, 225, 153, 0, 19, 28, 184, 0, 215, 153, 0, 12, 42, 27, 28, 182, 0, 228, 167, 0, 4]
abbrev dktX0_after_0 : List UInt8 := dkwX0_after_0 ++ dktX0_after_1
theorem dksX0_after_0 : cX0_after.data.toList.drop 0 = dktX0_after_0 := by decide +kernel
theorem dksX0_after_1 : cX0_after.data.toList.drop 24 = dktX0_after_1 := dk_seg dksX0_after_0 24 rfl rfl
theorem dX0_after_0 : decode cX0_after 0 = .ok (.aload_n 0, 1) := dk_42 (dk_at dksX0_after_0 0 rfl rfl)
theorem dX0_after_1 : decode cX0_after 1 = .ok (.iload_n 1, 1) := dk_27 (dk_at dksX0_after_0 1 rfl rfl)
theorem dX0_after_2 : decode cX0_after 2 = .ok (.invokevirtual 225, 3) := dk_182 0 225 (dk_at dksX0_after_0 2 rfl rfl)
theorem dX0_after_5 : decode cX0_after 5 = .ok (.ifCond .eq 19, 3) := dk_153 0 19 (dk_at dksX0_after_0 5 rfl rfl)
theorem dX0_after_8 : decode cX0_after 8 = .ok (.iload_n 2, 1) := dk_28 (dk_at dksX0_after_0 8 rfl rfl)
theorem dX0_after_9 : decode cX0_after 9 = .ok (.invokestatic 215, 3) := dk_184 0 215 (dk_at dksX0_after_0 9 rfl rfl)
theorem dX0_after_12 : decode cX0_after 12 = .ok (.ifCond .eq 12, 3) := dk_153 0 12 (dk_at dksX0_after_0 12 rfl rfl)
theorem dX0_after_15 : decode cX0_after 15 = .ok (.aload_n 0, 1) := dk_42 (dk_at dksX0_after_0 15 rfl rfl)
theorem dX0_after_16 : decode cX0_after 16 = .ok (.iload_n 1, 1) := dk_27 (dk_at dksX0_after_0 16 rfl rfl)
theorem dX0_after_17 : decode cX0_after 17 = .ok (.iload_n 2, 1) := dk_28 (dk_at dksX0_after_0 17 rfl rfl)
theorem dX0_after_18 : decode cX0_after 18 = .ok (.invokevirtual 228, 3) := dk_182 0 228 (dk_at dksX0_after_0 18 rfl rfl)
theorem dX0_after_21 : decode cX0_after 21 = .ok (.goto 4, 3) := dk_167 0 4 (dk_at dksX0_after_0 21 rfl rfl)
theorem dX0_after_24 : decode cX0_after 24 = .ok (.iconst (-1), 1) := dk_2 (dk_at dksX0_after_1 0 rfl rfl)
theorem dX0_after_25 : decode cX0_after 25 = .ok (.ireturn, 1) := dk_172 (dk_at dksX0_after_1 1 rfl rfl)
abbrev cX0_isRow : ByteArray := prog_1_method_15_code
def yX0_isRow : MethodName := ⟨RX0, "isRow", "(I)Z"⟩
def dkwX0_isRow_0 : List UInt8 := [27, 3, 42, 182, 0, 154, 4, 100, 184, 0, 146, 172]
abbrev dktX0_isRow_0 : List UInt8 := dkwX0_isRow_0 ++ []
theorem dksX0_isRow_0 : cX0_isRow.data.toList.drop 0 = dktX0_isRow_0 := by decide +kernel
theorem dX0_isRow_0 : decode cX0_isRow 0 = .ok (.iload_n 1, 1) := dk_27 (dk_at dksX0_isRow_0 0 rfl rfl)
theorem dX0_isRow_1 : decode cX0_isRow 1 = .ok (.iconst 0, 1) := dk_3 (dk_at dksX0_isRow_0 1 rfl rfl)
theorem dX0_isRow_2 : decode cX0_isRow 2 = .ok (.aload_n 0, 1) := dk_42 (dk_at dksX0_isRow_0 2 rfl rfl)
theorem dX0_isRow_3 : decode cX0_isRow 3 = .ok (.invokevirtual 154, 3) := dk_182 0 154 (dk_at dksX0_isRow_0 3 rfl rfl)
theorem dX0_isRow_6 : decode cX0_isRow 6 = .ok (.iconst 1, 1) := dk_4 (dk_at dksX0_isRow_0 6 rfl rfl)
theorem dX0_isRow_7 : decode cX0_isRow 7 = .ok (.isub, 1) := dk_100 (dk_at dksX0_isRow_0 7 rfl rfl)
theorem dX0_isRow_8 : decode cX0_isRow 8 = .ok (.invokestatic 146, 3) := dk_184 0 146 (dk_at dksX0_isRow_0 8 rfl rfl)
theorem dX0_isRow_11 : decode cX0_isRow 11 = .ok (.ireturn, 1) := dk_172 (dk_at dksX0_isRow_0 11 rfl rfl)
abbrev cX0_rowAfter : ByteArray := prog_1_method_26_code
def yX0_rowAfter : MethodName := ⟨RX0, "rowAfter", "(II)I"⟩
def dkwX0_rowAfter_1 : List UInt8 := [28, 42, 180, 0, 83, 182, 0, 218, 42, 180, 0, 63, 180, 0, 200, 172]
abbrev dktX0_rowAfter_1 : List UInt8 := dkwX0_rowAfter_1 ++ []
def dkwX0_rowAfter_0 : List UInt8 := [42, 180, 0, 63, 42, 180, 0, 59, 182, 0, 193, 42, 180, 0, 63, 27, 181, 0, 200, 42, 42, 180, 0, 63]
abbrev dktX0_rowAfter_0 : List UInt8 := dkwX0_rowAfter_0 ++ dktX0_rowAfter_1
theorem dksX0_rowAfter_0 : cX0_rowAfter.data.toList.drop 0 = dktX0_rowAfter_0 := by decide +kernel
theorem dksX0_rowAfter_1 : cX0_rowAfter.data.toList.drop 24 = dktX0_rowAfter_1 := dk_seg dksX0_rowAfter_0 24 rfl rfl
theorem dX0_rowAfter_0 : decode cX0_rowAfter 0 = .ok (.aload_n 0, 1) := dk_42 (dk_at dksX0_rowAfter_0 0 rfl rfl)
theorem dX0_rowAfter_1 : decode cX0_rowAfter 1 = .ok (.getfield 63, 3) := dk_180 0 63 (dk_at dksX0_rowAfter_0 1 rfl rfl)
theorem dX0_rowAfter_4 : decode cX0_rowAfter 4 = .ok (.aload_n 0, 1) := dk_42 (dk_at dksX0_rowAfter_0 4 rfl rfl)
theorem dX0_rowAfter_5 : decode cX0_rowAfter 5 = .ok (.getfield 59, 3) := dk_180 0 59 (dk_at dksX0_rowAfter_0 5 rfl rfl)
theorem dX0_rowAfter_8 : decode cX0_rowAfter 8 = .ok (.invokevirtual 193, 3) := dk_182 0 193 (dk_at dksX0_rowAfter_0 8 rfl rfl)
theorem dX0_rowAfter_11 : decode cX0_rowAfter 11 = .ok (.aload_n 0, 1) := dk_42 (dk_at dksX0_rowAfter_0 11 rfl rfl)
theorem dX0_rowAfter_12 : decode cX0_rowAfter 12 = .ok (.getfield 63, 3) := dk_180 0 63 (dk_at dksX0_rowAfter_0 12 rfl rfl)
theorem dX0_rowAfter_15 : decode cX0_rowAfter 15 = .ok (.iload_n 1, 1) := dk_27 (dk_at dksX0_rowAfter_0 15 rfl rfl)
theorem dX0_rowAfter_16 : decode cX0_rowAfter 16 = .ok (.putfield 200, 3) := dk_181 0 200 (dk_at dksX0_rowAfter_0 16 rfl rfl)
theorem dX0_rowAfter_19 : decode cX0_rowAfter 19 = .ok (.aload_n 0, 1) := dk_42 (dk_at dksX0_rowAfter_0 19 rfl rfl)
theorem dX0_rowAfter_20 : decode cX0_rowAfter 20 = .ok (.aload_n 0, 1) := dk_42 (dk_at dksX0_rowAfter_0 20 rfl rfl)
theorem dX0_rowAfter_21 : decode cX0_rowAfter 21 = .ok (.getfield 63, 3) := dk_180 0 63 (dk_at dksX0_rowAfter_0 21 rfl rfl)
theorem dX0_rowAfter_24 : decode cX0_rowAfter 24 = .ok (.iload_n 2, 1) := dk_28 (dk_at dksX0_rowAfter_1 0 rfl rfl)
theorem dX0_rowAfter_25 : decode cX0_rowAfter 25 = .ok (.aload_n 0, 1) := dk_42 (dk_at dksX0_rowAfter_1 1 rfl rfl)
theorem dX0_rowAfter_26 : decode cX0_rowAfter 26 = .ok (.getfield 83, 3) := dk_180 0 83 (dk_at dksX0_rowAfter_1 2 rfl rfl)
theorem dX0_rowAfter_29 : decode cX0_rowAfter 29 = .ok (.invokevirtual 218, 3) := dk_182 0 218 (dk_at dksX0_rowAfter_1 5 rfl rfl)
theorem dX0_rowAfter_32 : decode cX0_rowAfter 32 = .ok (.aload_n 0, 1) := dk_42 (dk_at dksX0_rowAfter_1 8 rfl rfl)
theorem dX0_rowAfter_33 : decode cX0_rowAfter 33 = .ok (.getfield 63, 3) := dk_180 0 63 (dk_at dksX0_rowAfter_1 9 rfl rfl)
theorem dX0_rowAfter_36 : decode cX0_rowAfter 36 = .ok (.getfield 200, 3) := dk_180 0 200 (dk_at dksX0_rowAfter_1 12 rfl rfl)
theorem dX0_rowAfter_39 : decode cX0_rowAfter 39 = .ok (.ireturn, 1) := dk_172 (dk_at dksX0_rowAfter_1 15 rfl rfl)
abbrev cX0_turned : ByteArray := prog_1_method_29_code
def yX0_turned : MethodName := ⟨RX0, "turned", "(II)I"⟩
def dkwX0_turned_5 : List UInt8 := [167, 0, 13, 28, 154, 0, 8, 21, 4, 167, 0, 4, 29, 172]
abbrev dktX0_turned_5 : List UInt8 := dkwX0_turned_5 ++ []
def dkwX0_turned_4 : List UInt8 := [167, 0, 10, 21, 5, 62, 21, 6, 54, 4, 132, 5, 1, 167, 255, 176, 29, 156, 0, 8, 16, 254]
abbrev dktX0_turned_4 : List UInt8 := dkwX0_turned_4 ++ dktX0_turned_5
def dkwX0_turned_3 : List UInt8 := [180, 0, 59, 180, 0, 200, 21, 5, 130, 27, 182, 0, 228, 42, 182, 0, 154, 4, 100, 159, 0, 6]
abbrev dktX0_turned_3 : List UInt8 := dkwX0_turned_3 ++ dktX0_turned_4
def dkwX0_turned_2 : List UInt8 := [163, 0, 56, 21, 6, 21, 4, 160, 0, 15, 21, 5, 184, 0, 239, 29, 184, 0, 239, 162, 0, 37, 42, 42]
abbrev dktX0_turned_2 : List UInt8 := dkwX0_turned_2 ++ dktX0_turned_3
def dkwX0_turned_1 : List UInt8 := [3, 54, 5, 21, 5, 42, 182, 0, 154, 162, 0, 77, 42, 21, 5, 182, 0, 235, 54, 6, 21, 6, 21, 4]
abbrev dktX0_turned_1 : List UInt8 := dkwX0_turned_1 ++ dktX0_turned_2
def dkwX0_turned_0 : List UInt8 := [27, 184, 0, 231, 153, 0, 12, 28, 3, 4, 184, 0, 146, 154, 0, 5, 2, 172, 2, 62, 18, 234, 54, 4]
abbrev dktX0_turned_0 : List UInt8 := dkwX0_turned_0 ++ dktX0_turned_1
theorem dksX0_turned_0 : cX0_turned.data.toList.drop 0 = dktX0_turned_0 := by decide +kernel
theorem dksX0_turned_1 : cX0_turned.data.toList.drop 24 = dktX0_turned_1 := dk_seg dksX0_turned_0 24 rfl rfl
theorem dksX0_turned_2 : cX0_turned.data.toList.drop 48 = dktX0_turned_2 := dk_seg dksX0_turned_1 24 rfl rfl
theorem dksX0_turned_3 : cX0_turned.data.toList.drop 72 = dktX0_turned_3 := dk_seg dksX0_turned_2 24 rfl rfl
theorem dksX0_turned_4 : cX0_turned.data.toList.drop 94 = dktX0_turned_4 := dk_seg dksX0_turned_3 22 rfl rfl
theorem dksX0_turned_5 : cX0_turned.data.toList.drop 116 = dktX0_turned_5 := dk_seg dksX0_turned_4 22 rfl rfl
theorem dX0_turned_0 : decode cX0_turned 0 = .ok (.iload_n 1, 1) := dk_27 (dk_at dksX0_turned_0 0 rfl rfl)
theorem dX0_turned_1 : decode cX0_turned 1 = .ok (.invokestatic 231, 3) := dk_184 0 231 (dk_at dksX0_turned_0 1 rfl rfl)
theorem dX0_turned_4 : decode cX0_turned 4 = .ok (.ifCond .eq 12, 3) := dk_153 0 12 (dk_at dksX0_turned_0 4 rfl rfl)
theorem dX0_turned_7 : decode cX0_turned 7 = .ok (.iload_n 2, 1) := dk_28 (dk_at dksX0_turned_0 7 rfl rfl)
theorem dX0_turned_8 : decode cX0_turned 8 = .ok (.iconst 0, 1) := dk_3 (dk_at dksX0_turned_0 8 rfl rfl)
theorem dX0_turned_9 : decode cX0_turned 9 = .ok (.iconst 1, 1) := dk_4 (dk_at dksX0_turned_0 9 rfl rfl)
theorem dX0_turned_10 : decode cX0_turned 10 = .ok (.invokestatic 146, 3) := dk_184 0 146 (dk_at dksX0_turned_0 10 rfl rfl)
theorem dX0_turned_13 : decode cX0_turned 13 = .ok (.ifCond .ne 5, 3) := dk_154 0 5 (dk_at dksX0_turned_0 13 rfl rfl)
theorem dX0_turned_16 : decode cX0_turned 16 = .ok (.iconst (-1), 1) := dk_2 (dk_at dksX0_turned_0 16 rfl rfl)
theorem dX0_turned_17 : decode cX0_turned 17 = .ok (.ireturn, 1) := dk_172 (dk_at dksX0_turned_0 17 rfl rfl)
theorem dX0_turned_18 : decode cX0_turned 18 = .ok (.iconst (-1), 1) := dk_2 (dk_at dksX0_turned_0 18 rfl rfl)
theorem dX0_turned_19 : decode cX0_turned 19 = .ok (.istore_n 3, 1) := dk_62 (dk_at dksX0_turned_0 19 rfl rfl)
theorem dX0_turned_20 : decode cX0_turned 20 = .ok (.ldc 234, 2) := dk_18 234 (dk_at dksX0_turned_0 20 rfl rfl)
theorem dX0_turned_22 : decode cX0_turned 22 = .ok (.istore 4, 2) := dk_54 4 (dk_at dksX0_turned_0 22 rfl rfl)
theorem dX0_turned_24 : decode cX0_turned 24 = .ok (.iconst 0, 1) := dk_3 (dk_at dksX0_turned_1 0 rfl rfl)
theorem dX0_turned_25 : decode cX0_turned 25 = .ok (.istore 5, 2) := dk_54 5 (dk_at dksX0_turned_1 1 rfl rfl)
theorem dX0_turned_27 : decode cX0_turned 27 = .ok (.iload 5, 2) := dk_21 5 (dk_at dksX0_turned_1 3 rfl rfl)
theorem dX0_turned_29 : decode cX0_turned 29 = .ok (.aload_n 0, 1) := dk_42 (dk_at dksX0_turned_1 5 rfl rfl)
theorem dX0_turned_30 : decode cX0_turned 30 = .ok (.invokevirtual 154, 3) := dk_182 0 154 (dk_at dksX0_turned_1 6 rfl rfl)
theorem dX0_turned_33 : decode cX0_turned 33 = .ok (.if_icmp .ge 77, 3) := dk_162 0 77 (dk_at dksX0_turned_1 9 rfl rfl)
theorem dX0_turned_36 : decode cX0_turned 36 = .ok (.aload_n 0, 1) := dk_42 (dk_at dksX0_turned_1 12 rfl rfl)
theorem dX0_turned_37 : decode cX0_turned 37 = .ok (.iload 5, 2) := dk_21 5 (dk_at dksX0_turned_1 13 rfl rfl)
theorem dX0_turned_39 : decode cX0_turned 39 = .ok (.invokevirtual 235, 3) := dk_182 0 235 (dk_at dksX0_turned_1 15 rfl rfl)
theorem dX0_turned_42 : decode cX0_turned 42 = .ok (.istore 6, 2) := dk_54 6 (dk_at dksX0_turned_1 18 rfl rfl)
theorem dX0_turned_44 : decode cX0_turned 44 = .ok (.iload 6, 2) := dk_21 6 (dk_at dksX0_turned_1 20 rfl rfl)
theorem dX0_turned_46 : decode cX0_turned 46 = .ok (.iload 4, 2) := dk_21 4 (dk_at dksX0_turned_1 22 rfl rfl)
theorem dX0_turned_48 : decode cX0_turned 48 = .ok (.if_icmp .gt 56, 3) := dk_163 0 56 (dk_at dksX0_turned_2 0 rfl rfl)
theorem dX0_turned_51 : decode cX0_turned 51 = .ok (.iload 6, 2) := dk_21 6 (dk_at dksX0_turned_2 3 rfl rfl)
theorem dX0_turned_53 : decode cX0_turned 53 = .ok (.iload 4, 2) := dk_21 4 (dk_at dksX0_turned_2 5 rfl rfl)
theorem dX0_turned_55 : decode cX0_turned 55 = .ok (.if_icmp .ne 15, 3) := dk_160 0 15 (dk_at dksX0_turned_2 7 rfl rfl)
theorem dX0_turned_58 : decode cX0_turned 58 = .ok (.iload 5, 2) := dk_21 5 (dk_at dksX0_turned_2 10 rfl rfl)
theorem dX0_turned_60 : decode cX0_turned 60 = .ok (.invokestatic 239, 3) := dk_184 0 239 (dk_at dksX0_turned_2 12 rfl rfl)
theorem dX0_turned_63 : decode cX0_turned 63 = .ok (.iload_n 3, 1) := dk_29 (dk_at dksX0_turned_2 15 rfl rfl)
theorem dX0_turned_64 : decode cX0_turned 64 = .ok (.invokestatic 239, 3) := dk_184 0 239 (dk_at dksX0_turned_2 16 rfl rfl)
theorem dX0_turned_67 : decode cX0_turned 67 = .ok (.if_icmp .ge 37, 3) := dk_162 0 37 (dk_at dksX0_turned_2 19 rfl rfl)
theorem dX0_turned_70 : decode cX0_turned 70 = .ok (.aload_n 0, 1) := dk_42 (dk_at dksX0_turned_2 22 rfl rfl)
theorem dX0_turned_71 : decode cX0_turned 71 = .ok (.aload_n 0, 1) := dk_42 (dk_at dksX0_turned_2 23 rfl rfl)
theorem dX0_turned_72 : decode cX0_turned 72 = .ok (.getfield 59, 3) := dk_180 0 59 (dk_at dksX0_turned_3 0 rfl rfl)
theorem dX0_turned_75 : decode cX0_turned 75 = .ok (.getfield 200, 3) := dk_180 0 200 (dk_at dksX0_turned_3 3 rfl rfl)
theorem dX0_turned_78 : decode cX0_turned 78 = .ok (.iload 5, 2) := dk_21 5 (dk_at dksX0_turned_3 6 rfl rfl)
theorem dX0_turned_80 : decode cX0_turned 80 = .ok (.ixor, 1) := dk_130 (dk_at dksX0_turned_3 8 rfl rfl)
theorem dX0_turned_81 : decode cX0_turned 81 = .ok (.iload_n 1, 1) := dk_27 (dk_at dksX0_turned_3 9 rfl rfl)
theorem dX0_turned_82 : decode cX0_turned 82 = .ok (.invokevirtual 228, 3) := dk_182 0 228 (dk_at dksX0_turned_3 10 rfl rfl)
theorem dX0_turned_85 : decode cX0_turned 85 = .ok (.aload_n 0, 1) := dk_42 (dk_at dksX0_turned_3 13 rfl rfl)
theorem dX0_turned_86 : decode cX0_turned 86 = .ok (.invokevirtual 154, 3) := dk_182 0 154 (dk_at dksX0_turned_3 14 rfl rfl)
theorem dX0_turned_89 : decode cX0_turned 89 = .ok (.iconst 1, 1) := dk_4 (dk_at dksX0_turned_3 17 rfl rfl)
theorem dX0_turned_90 : decode cX0_turned 90 = .ok (.isub, 1) := dk_100 (dk_at dksX0_turned_3 18 rfl rfl)
theorem dX0_turned_91 : decode cX0_turned 91 = .ok (.if_icmp .eq 6, 3) := dk_159 0 6 (dk_at dksX0_turned_3 19 rfl rfl)
theorem dX0_turned_94 : decode cX0_turned 94 = .ok (.goto 10, 3) := dk_167 0 10 (dk_at dksX0_turned_4 0 rfl rfl)
theorem dX0_turned_97 : decode cX0_turned 97 = .ok (.iload 5, 2) := dk_21 5 (dk_at dksX0_turned_4 3 rfl rfl)
theorem dX0_turned_99 : decode cX0_turned 99 = .ok (.istore_n 3, 1) := dk_62 (dk_at dksX0_turned_4 5 rfl rfl)
theorem dX0_turned_100 : decode cX0_turned 100 = .ok (.iload 6, 2) := dk_21 6 (dk_at dksX0_turned_4 6 rfl rfl)
theorem dX0_turned_102 : decode cX0_turned 102 = .ok (.istore 4, 2) := dk_54 4 (dk_at dksX0_turned_4 8 rfl rfl)
theorem dX0_turned_104 : decode cX0_turned 104 = .ok (.iinc 5 1, 3) := dk_132 5 1 (dk_at dksX0_turned_4 10 rfl rfl)
theorem dX0_turned_107 : decode cX0_turned 107 = .ok (.goto (-80), 3) := dk_167 255 176 (dk_at dksX0_turned_4 13 rfl rfl)
theorem dX0_turned_110 : decode cX0_turned 110 = .ok (.iload_n 3, 1) := dk_29 (dk_at dksX0_turned_4 16 rfl rfl)
theorem dX0_turned_111 : decode cX0_turned 111 = .ok (.ifCond .ge 8, 3) := dk_156 0 8 (dk_at dksX0_turned_4 17 rfl rfl)
theorem dX0_turned_114 : decode cX0_turned 114 = .ok (.bipush (-2), 2) := dk_16 254 (dk_at dksX0_turned_4 20 rfl rfl)
theorem dX0_turned_116 : decode cX0_turned 116 = .ok (.goto 13, 3) := dk_167 0 13 (dk_at dksX0_turned_5 0 rfl rfl)
theorem dX0_turned_119 : decode cX0_turned 119 = .ok (.iload_n 2, 1) := dk_28 (dk_at dksX0_turned_5 3 rfl rfl)
theorem dX0_turned_120 : decode cX0_turned 120 = .ok (.ifCond .ne 8, 3) := dk_154 0 8 (dk_at dksX0_turned_5 4 rfl rfl)
theorem dX0_turned_123 : decode cX0_turned 123 = .ok (.iload 4, 2) := dk_21 4 (dk_at dksX0_turned_5 7 rfl rfl)
theorem dX0_turned_125 : decode cX0_turned 125 = .ok (.goto 4, 3) := dk_167 0 4 (dk_at dksX0_turned_5 9 rfl rfl)
theorem dX0_turned_128 : decode cX0_turned 128 = .ok (.iload_n 3, 1) := dk_29 (dk_at dksX0_turned_5 12 rfl rfl)
theorem dX0_turned_129 : decode cX0_turned 129 = .ok (.ireturn, 1) := dk_172 (dk_at dksX0_turned_5 13 rfl rfl)
abbrev cX0_isPlan : ByteArray := prog_1_method_17_code
def yX0_isPlan : MethodName := ⟨RX0, "isPlan", "(I)Z"⟩
def dkwX0_isPlan_0 : List UInt8 := [26, 3, 16, 24, 184, 0, 146, 172]
abbrev dktX0_isPlan_0 : List UInt8 := dkwX0_isPlan_0 ++ []
theorem dksX0_isPlan_0 : cX0_isPlan.data.toList.drop 0 = dktX0_isPlan_0 := by decide +kernel
theorem dX0_isPlan_0 : decode cX0_isPlan 0 = .ok (.iload_n 0, 1) := dk_26 (dk_at dksX0_isPlan_0 0 rfl rfl)
theorem dX0_isPlan_1 : decode cX0_isPlan 1 = .ok (.iconst 0, 1) := dk_3 (dk_at dksX0_isPlan_0 1 rfl rfl)
theorem dX0_isPlan_2 : decode cX0_isPlan 2 = .ok (.bipush 24, 2) := dk_16 24 (dk_at dksX0_isPlan_0 2 rfl rfl)
theorem dX0_isPlan_4 : decode cX0_isPlan 4 = .ok (.invokestatic 146, 3) := dk_184 0 146 (dk_at dksX0_isPlan_0 4 rfl rfl)
theorem dX0_isPlan_7 : decode cX0_isPlan 7 = .ok (.ireturn, 1) := dk_172 (dk_at dksX0_isPlan_0 7 rfl rfl)
abbrev cX0_costsOf : ByteArray := prog_1_method_28_code
def yX0_costsOf : MethodName := ⟨RX0, "costsOf", "(I)I"⟩
def dkwX0_costsOf_2 : List UInt8 := [172]
abbrev dktX0_costsOf_2 : List UInt8 := dkwX0_costsOf_2 ++ []
def dkwX0_costsOf_1 : List UInt8 := [180, 0, 59, 42, 180, 0, 48, 29, 182, 0, 184, 167, 0, 4, 3, 96, 61, 132, 3, 1, 167, 255, 217, 28]
abbrev dktX0_costsOf_1 : List UInt8 := dkwX0_costsOf_1 ++ dktX0_costsOf_2
def dkwX0_costsOf_0 : List UInt8 := [3, 61, 3, 62, 29, 42, 182, 0, 145, 162, 0, 37, 28, 27, 29, 122, 4, 126, 4, 160, 0, 18, 42]
abbrev dktX0_costsOf_0 : List UInt8 := dkwX0_costsOf_0 ++ dktX0_costsOf_1
theorem dksX0_costsOf_0 : cX0_costsOf.data.toList.drop 0 = dktX0_costsOf_0 := by decide +kernel
theorem dksX0_costsOf_1 : cX0_costsOf.data.toList.drop 23 = dktX0_costsOf_1 := dk_seg dksX0_costsOf_0 23 rfl rfl
theorem dksX0_costsOf_2 : cX0_costsOf.data.toList.drop 47 = dktX0_costsOf_2 := dk_seg dksX0_costsOf_1 24 rfl rfl
theorem dX0_costsOf_0 : decode cX0_costsOf 0 = .ok (.iconst 0, 1) := dk_3 (dk_at dksX0_costsOf_0 0 rfl rfl)
theorem dX0_costsOf_1 : decode cX0_costsOf 1 = .ok (.istore_n 2, 1) := dk_61 (dk_at dksX0_costsOf_0 1 rfl rfl)
theorem dX0_costsOf_2 : decode cX0_costsOf 2 = .ok (.iconst 0, 1) := dk_3 (dk_at dksX0_costsOf_0 2 rfl rfl)
theorem dX0_costsOf_3 : decode cX0_costsOf 3 = .ok (.istore_n 3, 1) := dk_62 (dk_at dksX0_costsOf_0 3 rfl rfl)
theorem dX0_costsOf_4 : decode cX0_costsOf 4 = .ok (.iload_n 3, 1) := dk_29 (dk_at dksX0_costsOf_0 4 rfl rfl)
theorem dX0_costsOf_5 : decode cX0_costsOf 5 = .ok (.aload_n 0, 1) := dk_42 (dk_at dksX0_costsOf_0 5 rfl rfl)
theorem dX0_costsOf_6 : decode cX0_costsOf 6 = .ok (.invokevirtual 145, 3) := dk_182 0 145 (dk_at dksX0_costsOf_0 6 rfl rfl)
theorem dX0_costsOf_9 : decode cX0_costsOf 9 = .ok (.if_icmp .ge 37, 3) := dk_162 0 37 (dk_at dksX0_costsOf_0 9 rfl rfl)
theorem dX0_costsOf_12 : decode cX0_costsOf 12 = .ok (.iload_n 2, 1) := dk_28 (dk_at dksX0_costsOf_0 12 rfl rfl)
theorem dX0_costsOf_13 : decode cX0_costsOf 13 = .ok (.iload_n 1, 1) := dk_27 (dk_at dksX0_costsOf_0 13 rfl rfl)
theorem dX0_costsOf_14 : decode cX0_costsOf 14 = .ok (.iload_n 3, 1) := dk_29 (dk_at dksX0_costsOf_0 14 rfl rfl)
theorem dX0_costsOf_15 : decode cX0_costsOf 15 = .ok (.ishr, 1) := dk_122 (dk_at dksX0_costsOf_0 15 rfl rfl)
theorem dX0_costsOf_16 : decode cX0_costsOf 16 = .ok (.iconst 1, 1) := dk_4 (dk_at dksX0_costsOf_0 16 rfl rfl)
theorem dX0_costsOf_17 : decode cX0_costsOf 17 = .ok (.iand, 1) := dk_126 (dk_at dksX0_costsOf_0 17 rfl rfl)
theorem dX0_costsOf_18 : decode cX0_costsOf 18 = .ok (.iconst 1, 1) := dk_4 (dk_at dksX0_costsOf_0 18 rfl rfl)
theorem dX0_costsOf_19 : decode cX0_costsOf 19 = .ok (.if_icmp .ne 18, 3) := dk_160 0 18 (dk_at dksX0_costsOf_0 19 rfl rfl)
theorem dX0_costsOf_22 : decode cX0_costsOf 22 = .ok (.aload_n 0, 1) := dk_42 (dk_at dksX0_costsOf_0 22 rfl rfl)
theorem dX0_costsOf_23 : decode cX0_costsOf 23 = .ok (.getfield 59, 3) := dk_180 0 59 (dk_at dksX0_costsOf_1 0 rfl rfl)
theorem dX0_costsOf_26 : decode cX0_costsOf 26 = .ok (.aload_n 0, 1) := dk_42 (dk_at dksX0_costsOf_1 3 rfl rfl)
theorem dX0_costsOf_27 : decode cX0_costsOf 27 = .ok (.getfield 48, 3) := dk_180 0 48 (dk_at dksX0_costsOf_1 4 rfl rfl)
theorem dX0_costsOf_30 : decode cX0_costsOf 30 = .ok (.iload_n 3, 1) := dk_29 (dk_at dksX0_costsOf_1 7 rfl rfl)
theorem dX0_costsOf_31 : decode cX0_costsOf 31 = .ok (.invokevirtual 184, 3) := dk_182 0 184 (dk_at dksX0_costsOf_1 8 rfl rfl)
theorem dX0_costsOf_34 : decode cX0_costsOf 34 = .ok (.goto 4, 3) := dk_167 0 4 (dk_at dksX0_costsOf_1 11 rfl rfl)
theorem dX0_costsOf_37 : decode cX0_costsOf 37 = .ok (.iconst 0, 1) := dk_3 (dk_at dksX0_costsOf_1 14 rfl rfl)
theorem dX0_costsOf_38 : decode cX0_costsOf 38 = .ok (.iadd, 1) := dk_96 (dk_at dksX0_costsOf_1 15 rfl rfl)
theorem dX0_costsOf_39 : decode cX0_costsOf 39 = .ok (.istore_n 2, 1) := dk_61 (dk_at dksX0_costsOf_1 16 rfl rfl)
theorem dX0_costsOf_40 : decode cX0_costsOf 40 = .ok (.iinc 3 1, 3) := dk_132 3 1 (dk_at dksX0_costsOf_1 17 rfl rfl)
theorem dX0_costsOf_43 : decode cX0_costsOf 43 = .ok (.goto (-39), 3) := dk_167 255 217 (dk_at dksX0_costsOf_1 20 rfl rfl)
theorem dX0_costsOf_46 : decode cX0_costsOf 46 = .ok (.iload_n 2, 1) := dk_28 (dk_at dksX0_costsOf_1 23 rfl rfl)
theorem dX0_costsOf_47 : decode cX0_costsOf 47 = .ok (.ireturn, 1) := dk_172 (dk_at dksX0_costsOf_2 0 rfl rfl)
abbrev cX0_soonest : ByteArray := prog_1_method_31_code
def yX0_soonest : MethodName := ⟨RX0, "soonest", "(I)I"⟩
def dkwX0_soonest_2 : List UInt8 := [167, 0, 4, 29, 172, 132, 2, 1, 167, 255, 214, 16, 254, 172]
abbrev dktX0_soonest_2 : List UInt8 := dkwX0_soonest_2 ++ []
def dkwX0_soonest_1 : List UInt8 := [62, 29, 155, 0, 26, 27, 154, 0, 7, 28, 167, 0, 17, 29, 42, 182, 0, 145, 160, 0, 8, 16, 253]
abbrev dktX0_soonest_1 : List UInt8 := dkwX0_soonest_1 ++ dktX0_soonest_2
def dkwX0_soonest_0 : List UInt8 := [27, 3, 4, 184, 0, 146, 154, 0, 5, 2, 172, 3, 61, 28, 16, 24, 163, 0, 42, 42, 28, 182, 0, 244]
abbrev dktX0_soonest_0 : List UInt8 := dkwX0_soonest_0 ++ dktX0_soonest_1
theorem dksX0_soonest_0 : cX0_soonest.data.toList.drop 0 = dktX0_soonest_0 := by decide +kernel
theorem dksX0_soonest_1 : cX0_soonest.data.toList.drop 24 = dktX0_soonest_1 := dk_seg dksX0_soonest_0 24 rfl rfl
theorem dksX0_soonest_2 : cX0_soonest.data.toList.drop 47 = dktX0_soonest_2 := dk_seg dksX0_soonest_1 23 rfl rfl
theorem dX0_soonest_0 : decode cX0_soonest 0 = .ok (.iload_n 1, 1) := dk_27 (dk_at dksX0_soonest_0 0 rfl rfl)
theorem dX0_soonest_1 : decode cX0_soonest 1 = .ok (.iconst 0, 1) := dk_3 (dk_at dksX0_soonest_0 1 rfl rfl)
theorem dX0_soonest_2 : decode cX0_soonest 2 = .ok (.iconst 1, 1) := dk_4 (dk_at dksX0_soonest_0 2 rfl rfl)
theorem dX0_soonest_3 : decode cX0_soonest 3 = .ok (.invokestatic 146, 3) := dk_184 0 146 (dk_at dksX0_soonest_0 3 rfl rfl)
theorem dX0_soonest_6 : decode cX0_soonest 6 = .ok (.ifCond .ne 5, 3) := dk_154 0 5 (dk_at dksX0_soonest_0 6 rfl rfl)
theorem dX0_soonest_9 : decode cX0_soonest 9 = .ok (.iconst (-1), 1) := dk_2 (dk_at dksX0_soonest_0 9 rfl rfl)
theorem dX0_soonest_10 : decode cX0_soonest 10 = .ok (.ireturn, 1) := dk_172 (dk_at dksX0_soonest_0 10 rfl rfl)
theorem dX0_soonest_11 : decode cX0_soonest 11 = .ok (.iconst 0, 1) := dk_3 (dk_at dksX0_soonest_0 11 rfl rfl)
theorem dX0_soonest_12 : decode cX0_soonest 12 = .ok (.istore_n 2, 1) := dk_61 (dk_at dksX0_soonest_0 12 rfl rfl)
theorem dX0_soonest_13 : decode cX0_soonest 13 = .ok (.iload_n 2, 1) := dk_28 (dk_at dksX0_soonest_0 13 rfl rfl)
theorem dX0_soonest_14 : decode cX0_soonest 14 = .ok (.bipush 24, 2) := dk_16 24 (dk_at dksX0_soonest_0 14 rfl rfl)
theorem dX0_soonest_16 : decode cX0_soonest 16 = .ok (.if_icmp .gt 42, 3) := dk_163 0 42 (dk_at dksX0_soonest_0 16 rfl rfl)
theorem dX0_soonest_19 : decode cX0_soonest 19 = .ok (.aload_n 0, 1) := dk_42 (dk_at dksX0_soonest_0 19 rfl rfl)
theorem dX0_soonest_20 : decode cX0_soonest 20 = .ok (.iload_n 2, 1) := dk_28 (dk_at dksX0_soonest_0 20 rfl rfl)
theorem dX0_soonest_21 : decode cX0_soonest 21 = .ok (.invokevirtual 244, 3) := dk_182 0 244 (dk_at dksX0_soonest_0 21 rfl rfl)
theorem dX0_soonest_24 : decode cX0_soonest 24 = .ok (.istore_n 3, 1) := dk_62 (dk_at dksX0_soonest_1 0 rfl rfl)
theorem dX0_soonest_25 : decode cX0_soonest 25 = .ok (.iload_n 3, 1) := dk_29 (dk_at dksX0_soonest_1 1 rfl rfl)
theorem dX0_soonest_26 : decode cX0_soonest 26 = .ok (.ifCond .lt 26, 3) := dk_155 0 26 (dk_at dksX0_soonest_1 2 rfl rfl)
theorem dX0_soonest_29 : decode cX0_soonest 29 = .ok (.iload_n 1, 1) := dk_27 (dk_at dksX0_soonest_1 5 rfl rfl)
theorem dX0_soonest_30 : decode cX0_soonest 30 = .ok (.ifCond .ne 7, 3) := dk_154 0 7 (dk_at dksX0_soonest_1 6 rfl rfl)
theorem dX0_soonest_33 : decode cX0_soonest 33 = .ok (.iload_n 2, 1) := dk_28 (dk_at dksX0_soonest_1 9 rfl rfl)
theorem dX0_soonest_34 : decode cX0_soonest 34 = .ok (.goto 17, 3) := dk_167 0 17 (dk_at dksX0_soonest_1 10 rfl rfl)
theorem dX0_soonest_37 : decode cX0_soonest 37 = .ok (.iload_n 3, 1) := dk_29 (dk_at dksX0_soonest_1 13 rfl rfl)
theorem dX0_soonest_38 : decode cX0_soonest 38 = .ok (.aload_n 0, 1) := dk_42 (dk_at dksX0_soonest_1 14 rfl rfl)
theorem dX0_soonest_39 : decode cX0_soonest 39 = .ok (.invokevirtual 145, 3) := dk_182 0 145 (dk_at dksX0_soonest_1 15 rfl rfl)
theorem dX0_soonest_42 : decode cX0_soonest 42 = .ok (.if_icmp .ne 8, 3) := dk_160 0 8 (dk_at dksX0_soonest_1 18 rfl rfl)
theorem dX0_soonest_45 : decode cX0_soonest 45 = .ok (.bipush (-3), 2) := dk_16 253 (dk_at dksX0_soonest_1 21 rfl rfl)
theorem dX0_soonest_47 : decode cX0_soonest 47 = .ok (.goto 4, 3) := dk_167 0 4 (dk_at dksX0_soonest_2 0 rfl rfl)
theorem dX0_soonest_50 : decode cX0_soonest 50 = .ok (.iload_n 3, 1) := dk_29 (dk_at dksX0_soonest_2 3 rfl rfl)
theorem dX0_soonest_51 : decode cX0_soonest 51 = .ok (.ireturn, 1) := dk_172 (dk_at dksX0_soonest_2 4 rfl rfl)
theorem dX0_soonest_52 : decode cX0_soonest 52 = .ok (.iinc 2 1, 3) := dk_132 2 1 (dk_at dksX0_soonest_2 5 rfl rfl)
theorem dX0_soonest_55 : decode cX0_soonest 55 = .ok (.goto (-42), 3) := dk_167 255 214 (dk_at dksX0_soonest_2 8 rfl rfl)
theorem dX0_soonest_58 : decode cX0_soonest 58 = .ok (.bipush (-2), 2) := dk_16 254 (dk_at dksX0_soonest_2 11 rfl rfl)
theorem dX0_soonest_60 : decode cX0_soonest 60 = .ok (.ireturn, 1) := dk_172 (dk_at dksX0_soonest_2 13 rfl rfl)
abbrev cX0_oneFor : ByteArray := prog_1_method_30_code
def yX0_oneFor : MethodName := ⟨RX0, "oneFor", "(I)I"⟩
def dkwX0_oneFor_3 : List UInt8 := [172]
abbrev dktX0_oneFor_3 : List UInt8 := dkwX0_oneFor_3 ++ []
def dkwX0_oneFor_2 : List UInt8 := [120, 130, 27, 182, 0, 228, 42, 182, 0, 154, 4, 100, 160, 0, 5, 28, 172, 132, 2, 1, 167, 255, 218, 2]
abbrev dktX0_oneFor_2 : List UInt8 := dkwX0_oneFor_2 ++ dktX0_oneFor_3
def dkwX0_oneFor_1 : List UInt8 := [182, 0, 145, 172, 3, 61, 28, 42, 182, 0, 145, 162, 0, 36, 42, 42, 180, 0, 59, 180, 0, 200, 4, 28]
abbrev dktX0_oneFor_1 : List UInt8 := dkwX0_oneFor_1 ++ dktX0_oneFor_2
def dkwX0_oneFor_0 : List UInt8 := [42, 42, 180, 0, 59, 180, 0, 200, 27, 182, 0, 228, 42, 182, 0, 154, 4, 100, 160, 0, 8, 42]
abbrev dktX0_oneFor_0 : List UInt8 := dkwX0_oneFor_0 ++ dktX0_oneFor_1
theorem dksX0_oneFor_0 : cX0_oneFor.data.toList.drop 0 = dktX0_oneFor_0 := by decide +kernel
theorem dksX0_oneFor_1 : cX0_oneFor.data.toList.drop 22 = dktX0_oneFor_1 := dk_seg dksX0_oneFor_0 22 rfl rfl
theorem dksX0_oneFor_2 : cX0_oneFor.data.toList.drop 46 = dktX0_oneFor_2 := dk_seg dksX0_oneFor_1 24 rfl rfl
theorem dksX0_oneFor_3 : cX0_oneFor.data.toList.drop 70 = dktX0_oneFor_3 := dk_seg dksX0_oneFor_2 24 rfl rfl
theorem dX0_oneFor_0 : decode cX0_oneFor 0 = .ok (.aload_n 0, 1) := dk_42 (dk_at dksX0_oneFor_0 0 rfl rfl)
theorem dX0_oneFor_1 : decode cX0_oneFor 1 = .ok (.aload_n 0, 1) := dk_42 (dk_at dksX0_oneFor_0 1 rfl rfl)
theorem dX0_oneFor_2 : decode cX0_oneFor 2 = .ok (.getfield 59, 3) := dk_180 0 59 (dk_at dksX0_oneFor_0 2 rfl rfl)
theorem dX0_oneFor_5 : decode cX0_oneFor 5 = .ok (.getfield 200, 3) := dk_180 0 200 (dk_at dksX0_oneFor_0 5 rfl rfl)
theorem dX0_oneFor_8 : decode cX0_oneFor 8 = .ok (.iload_n 1, 1) := dk_27 (dk_at dksX0_oneFor_0 8 rfl rfl)
theorem dX0_oneFor_9 : decode cX0_oneFor 9 = .ok (.invokevirtual 228, 3) := dk_182 0 228 (dk_at dksX0_oneFor_0 9 rfl rfl)
theorem dX0_oneFor_12 : decode cX0_oneFor 12 = .ok (.aload_n 0, 1) := dk_42 (dk_at dksX0_oneFor_0 12 rfl rfl)
theorem dX0_oneFor_13 : decode cX0_oneFor 13 = .ok (.invokevirtual 154, 3) := dk_182 0 154 (dk_at dksX0_oneFor_0 13 rfl rfl)
theorem dX0_oneFor_16 : decode cX0_oneFor 16 = .ok (.iconst 1, 1) := dk_4 (dk_at dksX0_oneFor_0 16 rfl rfl)
theorem dX0_oneFor_17 : decode cX0_oneFor 17 = .ok (.isub, 1) := dk_100 (dk_at dksX0_oneFor_0 17 rfl rfl)
theorem dX0_oneFor_18 : decode cX0_oneFor 18 = .ok (.if_icmp .ne 8, 3) := dk_160 0 8 (dk_at dksX0_oneFor_0 18 rfl rfl)
theorem dX0_oneFor_21 : decode cX0_oneFor 21 = .ok (.aload_n 0, 1) := dk_42 (dk_at dksX0_oneFor_0 21 rfl rfl)
theorem dX0_oneFor_22 : decode cX0_oneFor 22 = .ok (.invokevirtual 145, 3) := dk_182 0 145 (dk_at dksX0_oneFor_1 0 rfl rfl)
theorem dX0_oneFor_25 : decode cX0_oneFor 25 = .ok (.ireturn, 1) := dk_172 (dk_at dksX0_oneFor_1 3 rfl rfl)
theorem dX0_oneFor_26 : decode cX0_oneFor 26 = .ok (.iconst 0, 1) := dk_3 (dk_at dksX0_oneFor_1 4 rfl rfl)
theorem dX0_oneFor_27 : decode cX0_oneFor 27 = .ok (.istore_n 2, 1) := dk_61 (dk_at dksX0_oneFor_1 5 rfl rfl)
theorem dX0_oneFor_28 : decode cX0_oneFor 28 = .ok (.iload_n 2, 1) := dk_28 (dk_at dksX0_oneFor_1 6 rfl rfl)
theorem dX0_oneFor_29 : decode cX0_oneFor 29 = .ok (.aload_n 0, 1) := dk_42 (dk_at dksX0_oneFor_1 7 rfl rfl)
theorem dX0_oneFor_30 : decode cX0_oneFor 30 = .ok (.invokevirtual 145, 3) := dk_182 0 145 (dk_at dksX0_oneFor_1 8 rfl rfl)
theorem dX0_oneFor_33 : decode cX0_oneFor 33 = .ok (.if_icmp .ge 36, 3) := dk_162 0 36 (dk_at dksX0_oneFor_1 11 rfl rfl)
theorem dX0_oneFor_36 : decode cX0_oneFor 36 = .ok (.aload_n 0, 1) := dk_42 (dk_at dksX0_oneFor_1 14 rfl rfl)
theorem dX0_oneFor_37 : decode cX0_oneFor 37 = .ok (.aload_n 0, 1) := dk_42 (dk_at dksX0_oneFor_1 15 rfl rfl)
theorem dX0_oneFor_38 : decode cX0_oneFor 38 = .ok (.getfield 59, 3) := dk_180 0 59 (dk_at dksX0_oneFor_1 16 rfl rfl)
theorem dX0_oneFor_41 : decode cX0_oneFor 41 = .ok (.getfield 200, 3) := dk_180 0 200 (dk_at dksX0_oneFor_1 19 rfl rfl)
theorem dX0_oneFor_44 : decode cX0_oneFor 44 = .ok (.iconst 1, 1) := dk_4 (dk_at dksX0_oneFor_1 22 rfl rfl)
theorem dX0_oneFor_45 : decode cX0_oneFor 45 = .ok (.iload_n 2, 1) := dk_28 (dk_at dksX0_oneFor_1 23 rfl rfl)
theorem dX0_oneFor_46 : decode cX0_oneFor 46 = .ok (.ishl, 1) := dk_120 (dk_at dksX0_oneFor_2 0 rfl rfl)
theorem dX0_oneFor_47 : decode cX0_oneFor 47 = .ok (.ixor, 1) := dk_130 (dk_at dksX0_oneFor_2 1 rfl rfl)
theorem dX0_oneFor_48 : decode cX0_oneFor 48 = .ok (.iload_n 1, 1) := dk_27 (dk_at dksX0_oneFor_2 2 rfl rfl)
theorem dX0_oneFor_49 : decode cX0_oneFor 49 = .ok (.invokevirtual 228, 3) := dk_182 0 228 (dk_at dksX0_oneFor_2 3 rfl rfl)
theorem dX0_oneFor_52 : decode cX0_oneFor 52 = .ok (.aload_n 0, 1) := dk_42 (dk_at dksX0_oneFor_2 6 rfl rfl)
theorem dX0_oneFor_53 : decode cX0_oneFor 53 = .ok (.invokevirtual 154, 3) := dk_182 0 154 (dk_at dksX0_oneFor_2 7 rfl rfl)
theorem dX0_oneFor_56 : decode cX0_oneFor 56 = .ok (.iconst 1, 1) := dk_4 (dk_at dksX0_oneFor_2 10 rfl rfl)
theorem dX0_oneFor_57 : decode cX0_oneFor 57 = .ok (.isub, 1) := dk_100 (dk_at dksX0_oneFor_2 11 rfl rfl)
theorem dX0_oneFor_58 : decode cX0_oneFor 58 = .ok (.if_icmp .ne 5, 3) := dk_160 0 5 (dk_at dksX0_oneFor_2 12 rfl rfl)
theorem dX0_oneFor_61 : decode cX0_oneFor 61 = .ok (.iload_n 2, 1) := dk_28 (dk_at dksX0_oneFor_2 15 rfl rfl)
theorem dX0_oneFor_62 : decode cX0_oneFor 62 = .ok (.ireturn, 1) := dk_172 (dk_at dksX0_oneFor_2 16 rfl rfl)
theorem dX0_oneFor_63 : decode cX0_oneFor 63 = .ok (.iinc 2 1, 3) := dk_132 2 1 (dk_at dksX0_oneFor_2 17 rfl rfl)
theorem dX0_oneFor_66 : decode cX0_oneFor 66 = .ok (.goto (-38), 3) := dk_167 255 218 (dk_at dksX0_oneFor_2 20 rfl rfl)
theorem dX0_oneFor_69 : decode cX0_oneFor 69 = .ok (.iconst (-1), 1) := dk_2 (dk_at dksX0_oneFor_2 23 rfl rfl)
theorem dX0_oneFor_70 : decode cX0_oneFor 70 = .ok (.ireturn, 1) := dk_172 (dk_at dksX0_oneFor_3 0 rfl rfl)
abbrev cX0_spread : ByteArray := prog_1_method_32_code
def yX0_spread : MethodName := ⟨RX0, "spread", "(II)I"⟩
def dkwX0_spread_2 : List UInt8 := [172]
abbrev dktX0_spread_2 : List UInt8 := dkwX0_spread_2 ++ []
def dkwX0_spread_1 : List UInt8 := [182, 0, 228, 42, 42, 180, 0, 59, 180, 0, 200, 4, 27, 120, 130, 28, 182, 0, 228, 130, 167, 0, 4, 2]
abbrev dktX0_spread_1 : List UInt8 := dkwX0_spread_1 ++ dktX0_spread_2
def dkwX0_spread_0 : List UInt8 := [42, 27, 182, 0, 150, 153, 0, 42, 28, 184, 0, 231, 153, 0, 35, 42, 42, 180, 0, 59, 180, 0, 200, 28]
abbrev dktX0_spread_0 : List UInt8 := dkwX0_spread_0 ++ dktX0_spread_1
theorem dksX0_spread_0 : cX0_spread.data.toList.drop 0 = dktX0_spread_0 := by decide +kernel
theorem dksX0_spread_1 : cX0_spread.data.toList.drop 24 = dktX0_spread_1 := dk_seg dksX0_spread_0 24 rfl rfl
theorem dksX0_spread_2 : cX0_spread.data.toList.drop 48 = dktX0_spread_2 := dk_seg dksX0_spread_1 24 rfl rfl
theorem dX0_spread_0 : decode cX0_spread 0 = .ok (.aload_n 0, 1) := dk_42 (dk_at dksX0_spread_0 0 rfl rfl)
theorem dX0_spread_1 : decode cX0_spread 1 = .ok (.iload_n 1, 1) := dk_27 (dk_at dksX0_spread_0 1 rfl rfl)
theorem dX0_spread_2 : decode cX0_spread 2 = .ok (.invokevirtual 150, 3) := dk_182 0 150 (dk_at dksX0_spread_0 2 rfl rfl)
theorem dX0_spread_5 : decode cX0_spread 5 = .ok (.ifCond .eq 42, 3) := dk_153 0 42 (dk_at dksX0_spread_0 5 rfl rfl)
theorem dX0_spread_8 : decode cX0_spread 8 = .ok (.iload_n 2, 1) := dk_28 (dk_at dksX0_spread_0 8 rfl rfl)
theorem dX0_spread_9 : decode cX0_spread 9 = .ok (.invokestatic 231, 3) := dk_184 0 231 (dk_at dksX0_spread_0 9 rfl rfl)
theorem dX0_spread_12 : decode cX0_spread 12 = .ok (.ifCond .eq 35, 3) := dk_153 0 35 (dk_at dksX0_spread_0 12 rfl rfl)
theorem dX0_spread_15 : decode cX0_spread 15 = .ok (.aload_n 0, 1) := dk_42 (dk_at dksX0_spread_0 15 rfl rfl)
theorem dX0_spread_16 : decode cX0_spread 16 = .ok (.aload_n 0, 1) := dk_42 (dk_at dksX0_spread_0 16 rfl rfl)
theorem dX0_spread_17 : decode cX0_spread 17 = .ok (.getfield 59, 3) := dk_180 0 59 (dk_at dksX0_spread_0 17 rfl rfl)
theorem dX0_spread_20 : decode cX0_spread 20 = .ok (.getfield 200, 3) := dk_180 0 200 (dk_at dksX0_spread_0 20 rfl rfl)
theorem dX0_spread_23 : decode cX0_spread 23 = .ok (.iload_n 2, 1) := dk_28 (dk_at dksX0_spread_0 23 rfl rfl)
theorem dX0_spread_24 : decode cX0_spread 24 = .ok (.invokevirtual 228, 3) := dk_182 0 228 (dk_at dksX0_spread_1 0 rfl rfl)
theorem dX0_spread_27 : decode cX0_spread 27 = .ok (.aload_n 0, 1) := dk_42 (dk_at dksX0_spread_1 3 rfl rfl)
theorem dX0_spread_28 : decode cX0_spread 28 = .ok (.aload_n 0, 1) := dk_42 (dk_at dksX0_spread_1 4 rfl rfl)
theorem dX0_spread_29 : decode cX0_spread 29 = .ok (.getfield 59, 3) := dk_180 0 59 (dk_at dksX0_spread_1 5 rfl rfl)
theorem dX0_spread_32 : decode cX0_spread 32 = .ok (.getfield 200, 3) := dk_180 0 200 (dk_at dksX0_spread_1 8 rfl rfl)
theorem dX0_spread_35 : decode cX0_spread 35 = .ok (.iconst 1, 1) := dk_4 (dk_at dksX0_spread_1 11 rfl rfl)
theorem dX0_spread_36 : decode cX0_spread 36 = .ok (.iload_n 1, 1) := dk_27 (dk_at dksX0_spread_1 12 rfl rfl)
theorem dX0_spread_37 : decode cX0_spread 37 = .ok (.ishl, 1) := dk_120 (dk_at dksX0_spread_1 13 rfl rfl)
theorem dX0_spread_38 : decode cX0_spread 38 = .ok (.ixor, 1) := dk_130 (dk_at dksX0_spread_1 14 rfl rfl)
theorem dX0_spread_39 : decode cX0_spread 39 = .ok (.iload_n 2, 1) := dk_28 (dk_at dksX0_spread_1 15 rfl rfl)
theorem dX0_spread_40 : decode cX0_spread 40 = .ok (.invokevirtual 228, 3) := dk_182 0 228 (dk_at dksX0_spread_1 16 rfl rfl)
theorem dX0_spread_43 : decode cX0_spread 43 = .ok (.ixor, 1) := dk_130 (dk_at dksX0_spread_1 19 rfl rfl)
theorem dX0_spread_44 : decode cX0_spread 44 = .ok (.goto 4, 3) := dk_167 0 4 (dk_at dksX0_spread_1 20 rfl rfl)
theorem dX0_spread_47 : decode cX0_spread 47 = .ok (.iconst (-1), 1) := dk_2 (dk_at dksX0_spread_1 23 rfl rfl)
theorem dX0_spread_48 : decode cX0_spread 48 = .ok (.ireturn, 1) := dk_172 (dk_at dksX0_spread_2 0 rfl rfl)
abbrev cX0_leads : ByteArray := prog_1_method_33_code
def yX0_leads : MethodName := ⟨RX0, "leads", "(III)I"⟩
def dkwX0_leads_3 : List UInt8 := [132, 6, 1, 167, 255, 218, 29, 154, 0, 8, 21, 4, 167, 0, 5, 21, 5, 172]
abbrev dktX0_leads_3 : List UInt8 := dkwX0_leads_3 ++ []
def dkwX0_leads_2 : List UInt8 := [28, 182, 0, 228, 27, 159, 0, 6, 167, 0, 15, 21, 4, 154, 0, 7, 21, 6, 54, 5, 132, 4, 1]
abbrev dktX0_leads_2 : List UInt8 := dkwX0_leads_2 ++ dktX0_leads_3
def dkwX0_leads_1 : List UInt8 := [2, 172, 3, 54, 4, 16, 254, 54, 5, 3, 54, 6, 21, 6, 42, 182, 0, 154, 162, 0, 35, 42, 21, 6]
abbrev dktX0_leads_1 : List UInt8 := dkwX0_leads_1 ++ dktX0_leads_2
def dkwX0_leads_0 : List UInt8 := [42, 27, 182, 0, 225, 153, 0, 19, 28, 184, 0, 231, 153, 0, 12, 29, 3, 4, 184, 0, 146, 154, 0, 5]
abbrev dktX0_leads_0 : List UInt8 := dkwX0_leads_0 ++ dktX0_leads_1
theorem dksX0_leads_0 : cX0_leads.data.toList.drop 0 = dktX0_leads_0 := by decide +kernel
theorem dksX0_leads_1 : cX0_leads.data.toList.drop 24 = dktX0_leads_1 := dk_seg dksX0_leads_0 24 rfl rfl
theorem dksX0_leads_2 : cX0_leads.data.toList.drop 48 = dktX0_leads_2 := dk_seg dksX0_leads_1 24 rfl rfl
theorem dksX0_leads_3 : cX0_leads.data.toList.drop 71 = dktX0_leads_3 := dk_seg dksX0_leads_2 23 rfl rfl
theorem dX0_leads_0 : decode cX0_leads 0 = .ok (.aload_n 0, 1) := dk_42 (dk_at dksX0_leads_0 0 rfl rfl)
theorem dX0_leads_1 : decode cX0_leads 1 = .ok (.iload_n 1, 1) := dk_27 (dk_at dksX0_leads_0 1 rfl rfl)
theorem dX0_leads_2 : decode cX0_leads 2 = .ok (.invokevirtual 225, 3) := dk_182 0 225 (dk_at dksX0_leads_0 2 rfl rfl)
theorem dX0_leads_5 : decode cX0_leads 5 = .ok (.ifCond .eq 19, 3) := dk_153 0 19 (dk_at dksX0_leads_0 5 rfl rfl)
theorem dX0_leads_8 : decode cX0_leads 8 = .ok (.iload_n 2, 1) := dk_28 (dk_at dksX0_leads_0 8 rfl rfl)
theorem dX0_leads_9 : decode cX0_leads 9 = .ok (.invokestatic 231, 3) := dk_184 0 231 (dk_at dksX0_leads_0 9 rfl rfl)
theorem dX0_leads_12 : decode cX0_leads 12 = .ok (.ifCond .eq 12, 3) := dk_153 0 12 (dk_at dksX0_leads_0 12 rfl rfl)
theorem dX0_leads_15 : decode cX0_leads 15 = .ok (.iload_n 3, 1) := dk_29 (dk_at dksX0_leads_0 15 rfl rfl)
theorem dX0_leads_16 : decode cX0_leads 16 = .ok (.iconst 0, 1) := dk_3 (dk_at dksX0_leads_0 16 rfl rfl)
theorem dX0_leads_17 : decode cX0_leads 17 = .ok (.iconst 1, 1) := dk_4 (dk_at dksX0_leads_0 17 rfl rfl)
theorem dX0_leads_18 : decode cX0_leads 18 = .ok (.invokestatic 146, 3) := dk_184 0 146 (dk_at dksX0_leads_0 18 rfl rfl)
theorem dX0_leads_21 : decode cX0_leads 21 = .ok (.ifCond .ne 5, 3) := dk_154 0 5 (dk_at dksX0_leads_0 21 rfl rfl)
theorem dX0_leads_24 : decode cX0_leads 24 = .ok (.iconst (-1), 1) := dk_2 (dk_at dksX0_leads_1 0 rfl rfl)
theorem dX0_leads_25 : decode cX0_leads 25 = .ok (.ireturn, 1) := dk_172 (dk_at dksX0_leads_1 1 rfl rfl)
theorem dX0_leads_26 : decode cX0_leads 26 = .ok (.iconst 0, 1) := dk_3 (dk_at dksX0_leads_1 2 rfl rfl)
theorem dX0_leads_27 : decode cX0_leads 27 = .ok (.istore 4, 2) := dk_54 4 (dk_at dksX0_leads_1 3 rfl rfl)
theorem dX0_leads_29 : decode cX0_leads 29 = .ok (.bipush (-2), 2) := dk_16 254 (dk_at dksX0_leads_1 5 rfl rfl)
theorem dX0_leads_31 : decode cX0_leads 31 = .ok (.istore 5, 2) := dk_54 5 (dk_at dksX0_leads_1 7 rfl rfl)
theorem dX0_leads_33 : decode cX0_leads 33 = .ok (.iconst 0, 1) := dk_3 (dk_at dksX0_leads_1 9 rfl rfl)
theorem dX0_leads_34 : decode cX0_leads 34 = .ok (.istore 6, 2) := dk_54 6 (dk_at dksX0_leads_1 10 rfl rfl)
theorem dX0_leads_36 : decode cX0_leads 36 = .ok (.iload 6, 2) := dk_21 6 (dk_at dksX0_leads_1 12 rfl rfl)
theorem dX0_leads_38 : decode cX0_leads 38 = .ok (.aload_n 0, 1) := dk_42 (dk_at dksX0_leads_1 14 rfl rfl)
theorem dX0_leads_39 : decode cX0_leads 39 = .ok (.invokevirtual 154, 3) := dk_182 0 154 (dk_at dksX0_leads_1 15 rfl rfl)
theorem dX0_leads_42 : decode cX0_leads 42 = .ok (.if_icmp .ge 35, 3) := dk_162 0 35 (dk_at dksX0_leads_1 18 rfl rfl)
theorem dX0_leads_45 : decode cX0_leads 45 = .ok (.aload_n 0, 1) := dk_42 (dk_at dksX0_leads_1 21 rfl rfl)
theorem dX0_leads_46 : decode cX0_leads 46 = .ok (.iload 6, 2) := dk_21 6 (dk_at dksX0_leads_1 22 rfl rfl)
theorem dX0_leads_48 : decode cX0_leads 48 = .ok (.iload_n 2, 1) := dk_28 (dk_at dksX0_leads_2 0 rfl rfl)
theorem dX0_leads_49 : decode cX0_leads 49 = .ok (.invokevirtual 228, 3) := dk_182 0 228 (dk_at dksX0_leads_2 1 rfl rfl)
theorem dX0_leads_52 : decode cX0_leads 52 = .ok (.iload_n 1, 1) := dk_27 (dk_at dksX0_leads_2 4 rfl rfl)
theorem dX0_leads_53 : decode cX0_leads 53 = .ok (.if_icmp .eq 6, 3) := dk_159 0 6 (dk_at dksX0_leads_2 5 rfl rfl)
theorem dX0_leads_56 : decode cX0_leads 56 = .ok (.goto 15, 3) := dk_167 0 15 (dk_at dksX0_leads_2 8 rfl rfl)
theorem dX0_leads_59 : decode cX0_leads 59 = .ok (.iload 4, 2) := dk_21 4 (dk_at dksX0_leads_2 11 rfl rfl)
theorem dX0_leads_61 : decode cX0_leads 61 = .ok (.ifCond .ne 7, 3) := dk_154 0 7 (dk_at dksX0_leads_2 13 rfl rfl)
theorem dX0_leads_64 : decode cX0_leads 64 = .ok (.iload 6, 2) := dk_21 6 (dk_at dksX0_leads_2 16 rfl rfl)
theorem dX0_leads_66 : decode cX0_leads 66 = .ok (.istore 5, 2) := dk_54 5 (dk_at dksX0_leads_2 18 rfl rfl)
theorem dX0_leads_68 : decode cX0_leads 68 = .ok (.iinc 4 1, 3) := dk_132 4 1 (dk_at dksX0_leads_2 20 rfl rfl)
theorem dX0_leads_71 : decode cX0_leads 71 = .ok (.iinc 6 1, 3) := dk_132 6 1 (dk_at dksX0_leads_3 0 rfl rfl)
theorem dX0_leads_74 : decode cX0_leads 74 = .ok (.goto (-38), 3) := dk_167 255 218 (dk_at dksX0_leads_3 3 rfl rfl)
theorem dX0_leads_77 : decode cX0_leads 77 = .ok (.iload_n 3, 1) := dk_29 (dk_at dksX0_leads_3 6 rfl rfl)
theorem dX0_leads_78 : decode cX0_leads 78 = .ok (.ifCond .ne 8, 3) := dk_154 0 8 (dk_at dksX0_leads_3 7 rfl rfl)
theorem dX0_leads_81 : decode cX0_leads 81 = .ok (.iload 4, 2) := dk_21 4 (dk_at dksX0_leads_3 10 rfl rfl)
theorem dX0_leads_83 : decode cX0_leads 83 = .ok (.goto 5, 3) := dk_167 0 5 (dk_at dksX0_leads_3 12 rfl rfl)
theorem dX0_leads_86 : decode cX0_leads 86 = .ok (.iload 5, 2) := dk_21 5 (dk_at dksX0_leads_3 15 rfl rfl)
theorem dX0_leads_88 : decode cX0_leads 88 = .ok (.ireturn, 1) := dk_172 (dk_at dksX0_leads_3 17 rfl rfl)
abbrev cX0_turnTo : ByteArray := prog_1_method_34_code
def yX0_turnTo : MethodName := ⟨RX0, "turnTo", "(II)I"⟩
def dkwX0_turnTo_3 : List UInt8 := [167, 255, 208, 29, 18, 234, 160, 0, 8, 16, 254, 167, 0, 4, 29, 172]
abbrev dktX0_turnTo_3 : List UInt8 := dkwX0_turnTo_3 ++ []
def dkwX0_turnTo_2 : List UInt8 := [180, 0, 200, 21, 4, 130, 28, 182, 0, 228, 27, 160, 0, 10, 42, 21, 4, 182, 0, 235, 62, 132, 4, 1]
abbrev dktX0_turnTo_2 : List UInt8 := dkwX0_turnTo_2 ++ dktX0_turnTo_3
def dkwX0_turnTo_1 : List UInt8 := [21, 4, 42, 182, 0, 154, 162, 0, 45, 42, 21, 4, 182, 0, 235, 29, 162, 0, 29, 42, 42, 180, 0, 59]
abbrev dktX0_turnTo_1 : List UInt8 := dkwX0_turnTo_1 ++ dktX0_turnTo_2
def dkwX0_turnTo_0 : List UInt8 := [42, 27, 182, 0, 225, 153, 0, 10, 28, 184, 0, 231, 154, 0, 5, 2, 172, 18, 234, 62, 3, 54, 4]
abbrev dktX0_turnTo_0 : List UInt8 := dkwX0_turnTo_0 ++ dktX0_turnTo_1
theorem dksX0_turnTo_0 : cX0_turnTo.data.toList.drop 0 = dktX0_turnTo_0 := by decide +kernel
theorem dksX0_turnTo_1 : cX0_turnTo.data.toList.drop 23 = dktX0_turnTo_1 := dk_seg dksX0_turnTo_0 23 rfl rfl
theorem dksX0_turnTo_2 : cX0_turnTo.data.toList.drop 47 = dktX0_turnTo_2 := dk_seg dksX0_turnTo_1 24 rfl rfl
theorem dksX0_turnTo_3 : cX0_turnTo.data.toList.drop 71 = dktX0_turnTo_3 := dk_seg dksX0_turnTo_2 24 rfl rfl
theorem dX0_turnTo_0 : decode cX0_turnTo 0 = .ok (.aload_n 0, 1) := dk_42 (dk_at dksX0_turnTo_0 0 rfl rfl)
theorem dX0_turnTo_1 : decode cX0_turnTo 1 = .ok (.iload_n 1, 1) := dk_27 (dk_at dksX0_turnTo_0 1 rfl rfl)
theorem dX0_turnTo_2 : decode cX0_turnTo 2 = .ok (.invokevirtual 225, 3) := dk_182 0 225 (dk_at dksX0_turnTo_0 2 rfl rfl)
theorem dX0_turnTo_5 : decode cX0_turnTo 5 = .ok (.ifCond .eq 10, 3) := dk_153 0 10 (dk_at dksX0_turnTo_0 5 rfl rfl)
theorem dX0_turnTo_8 : decode cX0_turnTo 8 = .ok (.iload_n 2, 1) := dk_28 (dk_at dksX0_turnTo_0 8 rfl rfl)
theorem dX0_turnTo_9 : decode cX0_turnTo 9 = .ok (.invokestatic 231, 3) := dk_184 0 231 (dk_at dksX0_turnTo_0 9 rfl rfl)
theorem dX0_turnTo_12 : decode cX0_turnTo 12 = .ok (.ifCond .ne 5, 3) := dk_154 0 5 (dk_at dksX0_turnTo_0 12 rfl rfl)
theorem dX0_turnTo_15 : decode cX0_turnTo 15 = .ok (.iconst (-1), 1) := dk_2 (dk_at dksX0_turnTo_0 15 rfl rfl)
theorem dX0_turnTo_16 : decode cX0_turnTo 16 = .ok (.ireturn, 1) := dk_172 (dk_at dksX0_turnTo_0 16 rfl rfl)
theorem dX0_turnTo_17 : decode cX0_turnTo 17 = .ok (.ldc 234, 2) := dk_18 234 (dk_at dksX0_turnTo_0 17 rfl rfl)
theorem dX0_turnTo_19 : decode cX0_turnTo 19 = .ok (.istore_n 3, 1) := dk_62 (dk_at dksX0_turnTo_0 19 rfl rfl)
theorem dX0_turnTo_20 : decode cX0_turnTo 20 = .ok (.iconst 0, 1) := dk_3 (dk_at dksX0_turnTo_0 20 rfl rfl)
theorem dX0_turnTo_21 : decode cX0_turnTo 21 = .ok (.istore 4, 2) := dk_54 4 (dk_at dksX0_turnTo_0 21 rfl rfl)
theorem dX0_turnTo_23 : decode cX0_turnTo 23 = .ok (.iload 4, 2) := dk_21 4 (dk_at dksX0_turnTo_1 0 rfl rfl)
theorem dX0_turnTo_25 : decode cX0_turnTo 25 = .ok (.aload_n 0, 1) := dk_42 (dk_at dksX0_turnTo_1 2 rfl rfl)
theorem dX0_turnTo_26 : decode cX0_turnTo 26 = .ok (.invokevirtual 154, 3) := dk_182 0 154 (dk_at dksX0_turnTo_1 3 rfl rfl)
theorem dX0_turnTo_29 : decode cX0_turnTo 29 = .ok (.if_icmp .ge 45, 3) := dk_162 0 45 (dk_at dksX0_turnTo_1 6 rfl rfl)
theorem dX0_turnTo_32 : decode cX0_turnTo 32 = .ok (.aload_n 0, 1) := dk_42 (dk_at dksX0_turnTo_1 9 rfl rfl)
theorem dX0_turnTo_33 : decode cX0_turnTo 33 = .ok (.iload 4, 2) := dk_21 4 (dk_at dksX0_turnTo_1 10 rfl rfl)
theorem dX0_turnTo_35 : decode cX0_turnTo 35 = .ok (.invokevirtual 235, 3) := dk_182 0 235 (dk_at dksX0_turnTo_1 12 rfl rfl)
theorem dX0_turnTo_38 : decode cX0_turnTo 38 = .ok (.iload_n 3, 1) := dk_29 (dk_at dksX0_turnTo_1 15 rfl rfl)
theorem dX0_turnTo_39 : decode cX0_turnTo 39 = .ok (.if_icmp .ge 29, 3) := dk_162 0 29 (dk_at dksX0_turnTo_1 16 rfl rfl)
theorem dX0_turnTo_42 : decode cX0_turnTo 42 = .ok (.aload_n 0, 1) := dk_42 (dk_at dksX0_turnTo_1 19 rfl rfl)
theorem dX0_turnTo_43 : decode cX0_turnTo 43 = .ok (.aload_n 0, 1) := dk_42 (dk_at dksX0_turnTo_1 20 rfl rfl)
theorem dX0_turnTo_44 : decode cX0_turnTo 44 = .ok (.getfield 59, 3) := dk_180 0 59 (dk_at dksX0_turnTo_1 21 rfl rfl)
theorem dX0_turnTo_47 : decode cX0_turnTo 47 = .ok (.getfield 200, 3) := dk_180 0 200 (dk_at dksX0_turnTo_2 0 rfl rfl)
theorem dX0_turnTo_50 : decode cX0_turnTo 50 = .ok (.iload 4, 2) := dk_21 4 (dk_at dksX0_turnTo_2 3 rfl rfl)
theorem dX0_turnTo_52 : decode cX0_turnTo 52 = .ok (.ixor, 1) := dk_130 (dk_at dksX0_turnTo_2 5 rfl rfl)
theorem dX0_turnTo_53 : decode cX0_turnTo 53 = .ok (.iload_n 2, 1) := dk_28 (dk_at dksX0_turnTo_2 6 rfl rfl)
theorem dX0_turnTo_54 : decode cX0_turnTo 54 = .ok (.invokevirtual 228, 3) := dk_182 0 228 (dk_at dksX0_turnTo_2 7 rfl rfl)
theorem dX0_turnTo_57 : decode cX0_turnTo 57 = .ok (.iload_n 1, 1) := dk_27 (dk_at dksX0_turnTo_2 10 rfl rfl)
theorem dX0_turnTo_58 : decode cX0_turnTo 58 = .ok (.if_icmp .ne 10, 3) := dk_160 0 10 (dk_at dksX0_turnTo_2 11 rfl rfl)
theorem dX0_turnTo_61 : decode cX0_turnTo 61 = .ok (.aload_n 0, 1) := dk_42 (dk_at dksX0_turnTo_2 14 rfl rfl)
theorem dX0_turnTo_62 : decode cX0_turnTo 62 = .ok (.iload 4, 2) := dk_21 4 (dk_at dksX0_turnTo_2 15 rfl rfl)
theorem dX0_turnTo_64 : decode cX0_turnTo 64 = .ok (.invokevirtual 235, 3) := dk_182 0 235 (dk_at dksX0_turnTo_2 17 rfl rfl)
theorem dX0_turnTo_67 : decode cX0_turnTo 67 = .ok (.istore_n 3, 1) := dk_62 (dk_at dksX0_turnTo_2 20 rfl rfl)
theorem dX0_turnTo_68 : decode cX0_turnTo 68 = .ok (.iinc 4 1, 3) := dk_132 4 1 (dk_at dksX0_turnTo_2 21 rfl rfl)
theorem dX0_turnTo_71 : decode cX0_turnTo 71 = .ok (.goto (-48), 3) := dk_167 255 208 (dk_at dksX0_turnTo_3 0 rfl rfl)
theorem dX0_turnTo_74 : decode cX0_turnTo 74 = .ok (.iload_n 3, 1) := dk_29 (dk_at dksX0_turnTo_3 3 rfl rfl)
theorem dX0_turnTo_75 : decode cX0_turnTo 75 = .ok (.ldc 234, 2) := dk_18 234 (dk_at dksX0_turnTo_3 4 rfl rfl)
theorem dX0_turnTo_77 : decode cX0_turnTo 77 = .ok (.if_icmp .ne 8, 3) := dk_160 0 8 (dk_at dksX0_turnTo_3 6 rfl rfl)
theorem dX0_turnTo_80 : decode cX0_turnTo 80 = .ok (.bipush (-2), 2) := dk_16 254 (dk_at dksX0_turnTo_3 9 rfl rfl)
theorem dX0_turnTo_82 : decode cX0_turnTo 82 = .ok (.goto 4, 3) := dk_167 0 4 (dk_at dksX0_turnTo_3 11 rfl rfl)
theorem dX0_turnTo_85 : decode cX0_turnTo 85 = .ok (.iload_n 3, 1) := dk_29 (dk_at dksX0_turnTo_3 14 rfl rfl)
theorem dX0_turnTo_86 : decode cX0_turnTo 86 = .ok (.ireturn, 1) := dk_172 (dk_at dksX0_turnTo_3 15 rfl rfl)
abbrev cX0_round : ByteArray := prog_1_method_35_code
def yX0_round : MethodName := ⟨RX0, "round", "(II)I"⟩
def dkwX0_round_6 : List UInt8 := [42, 180, 0, 83, 182, 0, 211, 132, 5, 1, 167, 255, 147, 28, 154, 0, 7, 29, 167, 0, 5, 21, 4, 172]
abbrev dktX0_round_6 : List UInt8 := dkwX0_round_6 ++ []
def dkwX0_round_5 : List UInt8 := [167, 255, 190, 42, 180, 0, 63, 42, 182, 0, 154, 4, 100, 181, 0, 200, 42, 180, 0, 63, 42, 180, 0, 48]
abbrev dktX0_round_5 : List UInt8 := dkwX0_round_5 ++ dktX0_round_6
def dkwX0_round_4 : List UInt8 := [167, 0, 16, 42, 180, 0, 63, 42, 180, 0, 48, 21, 6, 182, 0, 184, 96, 54, 4, 132, 6, 1]
abbrev dktX0_round_4 : List UInt8 := dkwX0_round_4 ++ dktX0_round_5
def dkwX0_round_3 : List UInt8 := [3, 167, 0, 4, 4, 96, 62, 21, 4, 42, 180, 0, 63, 21, 6, 182, 0, 158, 153, 0, 7, 3]
abbrev dktX0_round_3 : List UInt8 := dkwX0_round_3 ++ dktX0_round_4
def dkwX0_round_2 : List UInt8 := [54, 6, 21, 6, 42, 182, 0, 145, 162, 0, 63, 29, 42, 180, 0, 63, 21, 6, 182, 0, 158, 153, 0, 7]
abbrev dktX0_round_2 : List UInt8 := dkwX0_round_2 ++ dktX0_round_3
def dkwX0_round_1 : List UInt8 := [54, 4, 42, 180, 0, 63, 42, 180, 0, 59, 182, 0, 193, 3, 54, 5, 21, 5, 27, 162, 0, 109, 3]
abbrev dktX0_round_1 : List UInt8 := dkwX0_round_1 ++ dktX0_round_2
def dkwX0_round_0 : List UInt8 := [27, 4, 16, 48, 184, 0, 146, 153, 0, 12, 28, 3, 4, 184, 0, 146, 154, 0, 5, 2, 172, 3, 62, 3]
abbrev dktX0_round_0 : List UInt8 := dkwX0_round_0 ++ dktX0_round_1
theorem dksX0_round_0 : cX0_round.data.toList.drop 0 = dktX0_round_0 := by decide +kernel
theorem dksX0_round_1 : cX0_round.data.toList.drop 24 = dktX0_round_1 := dk_seg dksX0_round_0 24 rfl rfl
theorem dksX0_round_2 : cX0_round.data.toList.drop 47 = dktX0_round_2 := dk_seg dksX0_round_1 23 rfl rfl
theorem dksX0_round_3 : cX0_round.data.toList.drop 71 = dktX0_round_3 := dk_seg dksX0_round_2 24 rfl rfl
theorem dksX0_round_4 : cX0_round.data.toList.drop 93 = dktX0_round_4 := dk_seg dksX0_round_3 22 rfl rfl
theorem dksX0_round_5 : cX0_round.data.toList.drop 115 = dktX0_round_5 := dk_seg dksX0_round_4 22 rfl rfl
theorem dksX0_round_6 : cX0_round.data.toList.drop 139 = dktX0_round_6 := dk_seg dksX0_round_5 24 rfl rfl
theorem dX0_round_0 : decode cX0_round 0 = .ok (.iload_n 1, 1) := dk_27 (dk_at dksX0_round_0 0 rfl rfl)
theorem dX0_round_1 : decode cX0_round 1 = .ok (.iconst 1, 1) := dk_4 (dk_at dksX0_round_0 1 rfl rfl)
theorem dX0_round_2 : decode cX0_round 2 = .ok (.bipush 48, 2) := dk_16 48 (dk_at dksX0_round_0 2 rfl rfl)
theorem dX0_round_4 : decode cX0_round 4 = .ok (.invokestatic 146, 3) := dk_184 0 146 (dk_at dksX0_round_0 4 rfl rfl)
theorem dX0_round_7 : decode cX0_round 7 = .ok (.ifCond .eq 12, 3) := dk_153 0 12 (dk_at dksX0_round_0 7 rfl rfl)
theorem dX0_round_10 : decode cX0_round 10 = .ok (.iload_n 2, 1) := dk_28 (dk_at dksX0_round_0 10 rfl rfl)
theorem dX0_round_11 : decode cX0_round 11 = .ok (.iconst 0, 1) := dk_3 (dk_at dksX0_round_0 11 rfl rfl)
theorem dX0_round_12 : decode cX0_round 12 = .ok (.iconst 1, 1) := dk_4 (dk_at dksX0_round_0 12 rfl rfl)
theorem dX0_round_13 : decode cX0_round 13 = .ok (.invokestatic 146, 3) := dk_184 0 146 (dk_at dksX0_round_0 13 rfl rfl)
theorem dX0_round_16 : decode cX0_round 16 = .ok (.ifCond .ne 5, 3) := dk_154 0 5 (dk_at dksX0_round_0 16 rfl rfl)
theorem dX0_round_19 : decode cX0_round 19 = .ok (.iconst (-1), 1) := dk_2 (dk_at dksX0_round_0 19 rfl rfl)
theorem dX0_round_20 : decode cX0_round 20 = .ok (.ireturn, 1) := dk_172 (dk_at dksX0_round_0 20 rfl rfl)
theorem dX0_round_21 : decode cX0_round 21 = .ok (.iconst 0, 1) := dk_3 (dk_at dksX0_round_0 21 rfl rfl)
theorem dX0_round_22 : decode cX0_round 22 = .ok (.istore_n 3, 1) := dk_62 (dk_at dksX0_round_0 22 rfl rfl)
theorem dX0_round_23 : decode cX0_round 23 = .ok (.iconst 0, 1) := dk_3 (dk_at dksX0_round_0 23 rfl rfl)
theorem dX0_round_24 : decode cX0_round 24 = .ok (.istore 4, 2) := dk_54 4 (dk_at dksX0_round_1 0 rfl rfl)
theorem dX0_round_26 : decode cX0_round 26 = .ok (.aload_n 0, 1) := dk_42 (dk_at dksX0_round_1 2 rfl rfl)
theorem dX0_round_27 : decode cX0_round 27 = .ok (.getfield 63, 3) := dk_180 0 63 (dk_at dksX0_round_1 3 rfl rfl)
theorem dX0_round_30 : decode cX0_round 30 = .ok (.aload_n 0, 1) := dk_42 (dk_at dksX0_round_1 6 rfl rfl)
theorem dX0_round_31 : decode cX0_round 31 = .ok (.getfield 59, 3) := dk_180 0 59 (dk_at dksX0_round_1 7 rfl rfl)
theorem dX0_round_34 : decode cX0_round 34 = .ok (.invokevirtual 193, 3) := dk_182 0 193 (dk_at dksX0_round_1 10 rfl rfl)
theorem dX0_round_37 : decode cX0_round 37 = .ok (.iconst 0, 1) := dk_3 (dk_at dksX0_round_1 13 rfl rfl)
theorem dX0_round_38 : decode cX0_round 38 = .ok (.istore 5, 2) := dk_54 5 (dk_at dksX0_round_1 14 rfl rfl)
theorem dX0_round_40 : decode cX0_round 40 = .ok (.iload 5, 2) := dk_21 5 (dk_at dksX0_round_1 16 rfl rfl)
theorem dX0_round_42 : decode cX0_round 42 = .ok (.iload_n 1, 1) := dk_27 (dk_at dksX0_round_1 18 rfl rfl)
theorem dX0_round_43 : decode cX0_round 43 = .ok (.if_icmp .ge 109, 3) := dk_162 0 109 (dk_at dksX0_round_1 19 rfl rfl)
theorem dX0_round_46 : decode cX0_round 46 = .ok (.iconst 0, 1) := dk_3 (dk_at dksX0_round_1 22 rfl rfl)
theorem dX0_round_47 : decode cX0_round 47 = .ok (.istore 6, 2) := dk_54 6 (dk_at dksX0_round_2 0 rfl rfl)
theorem dX0_round_49 : decode cX0_round 49 = .ok (.iload 6, 2) := dk_21 6 (dk_at dksX0_round_2 2 rfl rfl)
theorem dX0_round_51 : decode cX0_round 51 = .ok (.aload_n 0, 1) := dk_42 (dk_at dksX0_round_2 4 rfl rfl)
theorem dX0_round_52 : decode cX0_round 52 = .ok (.invokevirtual 145, 3) := dk_182 0 145 (dk_at dksX0_round_2 5 rfl rfl)
theorem dX0_round_55 : decode cX0_round 55 = .ok (.if_icmp .ge 63, 3) := dk_162 0 63 (dk_at dksX0_round_2 8 rfl rfl)
theorem dX0_round_58 : decode cX0_round 58 = .ok (.iload_n 3, 1) := dk_29 (dk_at dksX0_round_2 11 rfl rfl)
theorem dX0_round_59 : decode cX0_round 59 = .ok (.aload_n 0, 1) := dk_42 (dk_at dksX0_round_2 12 rfl rfl)
theorem dX0_round_60 : decode cX0_round 60 = .ok (.getfield 63, 3) := dk_180 0 63 (dk_at dksX0_round_2 13 rfl rfl)
theorem dX0_round_63 : decode cX0_round 63 = .ok (.iload 6, 2) := dk_21 6 (dk_at dksX0_round_2 16 rfl rfl)
theorem dX0_round_65 : decode cX0_round 65 = .ok (.invokevirtual 158, 3) := dk_182 0 158 (dk_at dksX0_round_2 18 rfl rfl)
theorem dX0_round_68 : decode cX0_round 68 = .ok (.ifCond .eq 7, 3) := dk_153 0 7 (dk_at dksX0_round_2 21 rfl rfl)
theorem dX0_round_71 : decode cX0_round 71 = .ok (.iconst 0, 1) := dk_3 (dk_at dksX0_round_3 0 rfl rfl)
theorem dX0_round_72 : decode cX0_round 72 = .ok (.goto 4, 3) := dk_167 0 4 (dk_at dksX0_round_3 1 rfl rfl)
theorem dX0_round_75 : decode cX0_round 75 = .ok (.iconst 1, 1) := dk_4 (dk_at dksX0_round_3 4 rfl rfl)
theorem dX0_round_76 : decode cX0_round 76 = .ok (.iadd, 1) := dk_96 (dk_at dksX0_round_3 5 rfl rfl)
theorem dX0_round_77 : decode cX0_round 77 = .ok (.istore_n 3, 1) := dk_62 (dk_at dksX0_round_3 6 rfl rfl)
theorem dX0_round_78 : decode cX0_round 78 = .ok (.iload 4, 2) := dk_21 4 (dk_at dksX0_round_3 7 rfl rfl)
theorem dX0_round_80 : decode cX0_round 80 = .ok (.aload_n 0, 1) := dk_42 (dk_at dksX0_round_3 9 rfl rfl)
theorem dX0_round_81 : decode cX0_round 81 = .ok (.getfield 63, 3) := dk_180 0 63 (dk_at dksX0_round_3 10 rfl rfl)
theorem dX0_round_84 : decode cX0_round 84 = .ok (.iload 6, 2) := dk_21 6 (dk_at dksX0_round_3 13 rfl rfl)
theorem dX0_round_86 : decode cX0_round 86 = .ok (.invokevirtual 158, 3) := dk_182 0 158 (dk_at dksX0_round_3 15 rfl rfl)
theorem dX0_round_89 : decode cX0_round 89 = .ok (.ifCond .eq 7, 3) := dk_153 0 7 (dk_at dksX0_round_3 18 rfl rfl)
theorem dX0_round_92 : decode cX0_round 92 = .ok (.iconst 0, 1) := dk_3 (dk_at dksX0_round_3 21 rfl rfl)
theorem dX0_round_93 : decode cX0_round 93 = .ok (.goto 16, 3) := dk_167 0 16 (dk_at dksX0_round_4 0 rfl rfl)
theorem dX0_round_96 : decode cX0_round 96 = .ok (.aload_n 0, 1) := dk_42 (dk_at dksX0_round_4 3 rfl rfl)
theorem dX0_round_97 : decode cX0_round 97 = .ok (.getfield 63, 3) := dk_180 0 63 (dk_at dksX0_round_4 4 rfl rfl)
theorem dX0_round_100 : decode cX0_round 100 = .ok (.aload_n 0, 1) := dk_42 (dk_at dksX0_round_4 7 rfl rfl)
theorem dX0_round_101 : decode cX0_round 101 = .ok (.getfield 48, 3) := dk_180 0 48 (dk_at dksX0_round_4 8 rfl rfl)
theorem dX0_round_104 : decode cX0_round 104 = .ok (.iload 6, 2) := dk_21 6 (dk_at dksX0_round_4 11 rfl rfl)
theorem dX0_round_106 : decode cX0_round 106 = .ok (.invokevirtual 184, 3) := dk_182 0 184 (dk_at dksX0_round_4 13 rfl rfl)
theorem dX0_round_109 : decode cX0_round 109 = .ok (.iadd, 1) := dk_96 (dk_at dksX0_round_4 16 rfl rfl)
theorem dX0_round_110 : decode cX0_round 110 = .ok (.istore 4, 2) := dk_54 4 (dk_at dksX0_round_4 17 rfl rfl)
theorem dX0_round_112 : decode cX0_round 112 = .ok (.iinc 6 1, 3) := dk_132 6 1 (dk_at dksX0_round_4 19 rfl rfl)
theorem dX0_round_115 : decode cX0_round 115 = .ok (.goto (-66), 3) := dk_167 255 190 (dk_at dksX0_round_5 0 rfl rfl)
theorem dX0_round_118 : decode cX0_round 118 = .ok (.aload_n 0, 1) := dk_42 (dk_at dksX0_round_5 3 rfl rfl)
theorem dX0_round_119 : decode cX0_round 119 = .ok (.getfield 63, 3) := dk_180 0 63 (dk_at dksX0_round_5 4 rfl rfl)
theorem dX0_round_122 : decode cX0_round 122 = .ok (.aload_n 0, 1) := dk_42 (dk_at dksX0_round_5 7 rfl rfl)
theorem dX0_round_123 : decode cX0_round 123 = .ok (.invokevirtual 154, 3) := dk_182 0 154 (dk_at dksX0_round_5 8 rfl rfl)
theorem dX0_round_126 : decode cX0_round 126 = .ok (.iconst 1, 1) := dk_4 (dk_at dksX0_round_5 11 rfl rfl)
theorem dX0_round_127 : decode cX0_round 127 = .ok (.isub, 1) := dk_100 (dk_at dksX0_round_5 12 rfl rfl)
theorem dX0_round_128 : decode cX0_round 128 = .ok (.putfield 200, 3) := dk_181 0 200 (dk_at dksX0_round_5 13 rfl rfl)
theorem dX0_round_131 : decode cX0_round 131 = .ok (.aload_n 0, 1) := dk_42 (dk_at dksX0_round_5 16 rfl rfl)
theorem dX0_round_132 : decode cX0_round 132 = .ok (.getfield 63, 3) := dk_180 0 63 (dk_at dksX0_round_5 17 rfl rfl)
theorem dX0_round_135 : decode cX0_round 135 = .ok (.aload_n 0, 1) := dk_42 (dk_at dksX0_round_5 20 rfl rfl)
theorem dX0_round_136 : decode cX0_round 136 = .ok (.getfield 48, 3) := dk_180 0 48 (dk_at dksX0_round_5 21 rfl rfl)
theorem dX0_round_139 : decode cX0_round 139 = .ok (.aload_n 0, 1) := dk_42 (dk_at dksX0_round_6 0 rfl rfl)
theorem dX0_round_140 : decode cX0_round 140 = .ok (.getfield 83, 3) := dk_180 0 83 (dk_at dksX0_round_6 1 rfl rfl)
theorem dX0_round_143 : decode cX0_round 143 = .ok (.invokevirtual 211, 3) := dk_182 0 211 (dk_at dksX0_round_6 4 rfl rfl)
theorem dX0_round_146 : decode cX0_round 146 = .ok (.iinc 5 1, 3) := dk_132 5 1 (dk_at dksX0_round_6 7 rfl rfl)
theorem dX0_round_149 : decode cX0_round 149 = .ok (.goto (-109), 3) := dk_167 255 147 (dk_at dksX0_round_6 10 rfl rfl)
theorem dX0_round_152 : decode cX0_round 152 = .ok (.iload_n 2, 1) := dk_28 (dk_at dksX0_round_6 13 rfl rfl)
theorem dX0_round_153 : decode cX0_round 153 = .ok (.ifCond .ne 7, 3) := dk_154 0 7 (dk_at dksX0_round_6 14 rfl rfl)
theorem dX0_round_156 : decode cX0_round 156 = .ok (.iload_n 3, 1) := dk_29 (dk_at dksX0_round_6 17 rfl rfl)
theorem dX0_round_157 : decode cX0_round 157 = .ok (.goto 5, 3) := dk_167 0 5 (dk_at dksX0_round_6 18 rfl rfl)
theorem dX0_round_160 : decode cX0_round 160 = .ok (.iload 4, 2) := dk_21 4 (dk_at dksX0_round_6 21 rfl rfl)
theorem dX0_round_162 : decode cX0_round 162 = .ok (.ireturn, 1) := dk_172 (dk_at dksX0_round_6 23 rfl rfl)
abbrev cX0_rule : ByteArray := prog_1_method_36_code
def yX0_rule : MethodName := ⟨RX0, "rule", "(I)I"⟩
def dkwX0_rule_2 : List UInt8 := [153, 0, 9, 4, 29, 120, 167, 0, 4, 3, 128, 61, 132, 3, 1, 167, 255, 211, 28, 172]
abbrev dktX0_rule_2 : List UInt8 := dkwX0_rule_2 ++ []
def dkwX0_rule_1 : List UInt8 := [180, 0, 59, 42, 180, 0, 48, 27, 29, 4, 126, 29, 4, 122, 4, 126, 29, 5, 122, 182, 0, 247]
abbrev dktX0_rule_1 : List UInt8 := dkwX0_rule_1 ++ dktX0_rule_2
def dkwX0_rule_0 : List UInt8 := [42, 27, 182, 0, 150, 154, 0, 5, 2, 172, 3, 61, 3, 62, 29, 16, 8, 162, 0, 45, 28, 42]
abbrev dktX0_rule_0 : List UInt8 := dkwX0_rule_0 ++ dktX0_rule_1
theorem dksX0_rule_0 : cX0_rule.data.toList.drop 0 = dktX0_rule_0 := by decide +kernel
theorem dksX0_rule_1 : cX0_rule.data.toList.drop 22 = dktX0_rule_1 := dk_seg dksX0_rule_0 22 rfl rfl
theorem dksX0_rule_2 : cX0_rule.data.toList.drop 44 = dktX0_rule_2 := dk_seg dksX0_rule_1 22 rfl rfl
theorem dX0_rule_0 : decode cX0_rule 0 = .ok (.aload_n 0, 1) := dk_42 (dk_at dksX0_rule_0 0 rfl rfl)
theorem dX0_rule_1 : decode cX0_rule 1 = .ok (.iload_n 1, 1) := dk_27 (dk_at dksX0_rule_0 1 rfl rfl)
theorem dX0_rule_2 : decode cX0_rule 2 = .ok (.invokevirtual 150, 3) := dk_182 0 150 (dk_at dksX0_rule_0 2 rfl rfl)
theorem dX0_rule_5 : decode cX0_rule 5 = .ok (.ifCond .ne 5, 3) := dk_154 0 5 (dk_at dksX0_rule_0 5 rfl rfl)
theorem dX0_rule_8 : decode cX0_rule 8 = .ok (.iconst (-1), 1) := dk_2 (dk_at dksX0_rule_0 8 rfl rfl)
theorem dX0_rule_9 : decode cX0_rule 9 = .ok (.ireturn, 1) := dk_172 (dk_at dksX0_rule_0 9 rfl rfl)
theorem dX0_rule_10 : decode cX0_rule 10 = .ok (.iconst 0, 1) := dk_3 (dk_at dksX0_rule_0 10 rfl rfl)
theorem dX0_rule_11 : decode cX0_rule 11 = .ok (.istore_n 2, 1) := dk_61 (dk_at dksX0_rule_0 11 rfl rfl)
theorem dX0_rule_12 : decode cX0_rule 12 = .ok (.iconst 0, 1) := dk_3 (dk_at dksX0_rule_0 12 rfl rfl)
theorem dX0_rule_13 : decode cX0_rule 13 = .ok (.istore_n 3, 1) := dk_62 (dk_at dksX0_rule_0 13 rfl rfl)
theorem dX0_rule_14 : decode cX0_rule 14 = .ok (.iload_n 3, 1) := dk_29 (dk_at dksX0_rule_0 14 rfl rfl)
theorem dX0_rule_15 : decode cX0_rule 15 = .ok (.bipush 8, 2) := dk_16 8 (dk_at dksX0_rule_0 15 rfl rfl)
theorem dX0_rule_17 : decode cX0_rule 17 = .ok (.if_icmp .ge 45, 3) := dk_162 0 45 (dk_at dksX0_rule_0 17 rfl rfl)
theorem dX0_rule_20 : decode cX0_rule 20 = .ok (.iload_n 2, 1) := dk_28 (dk_at dksX0_rule_0 20 rfl rfl)
theorem dX0_rule_21 : decode cX0_rule 21 = .ok (.aload_n 0, 1) := dk_42 (dk_at dksX0_rule_0 21 rfl rfl)
theorem dX0_rule_22 : decode cX0_rule 22 = .ok (.getfield 59, 3) := dk_180 0 59 (dk_at dksX0_rule_1 0 rfl rfl)
theorem dX0_rule_25 : decode cX0_rule 25 = .ok (.aload_n 0, 1) := dk_42 (dk_at dksX0_rule_1 3 rfl rfl)
theorem dX0_rule_26 : decode cX0_rule 26 = .ok (.getfield 48, 3) := dk_180 0 48 (dk_at dksX0_rule_1 4 rfl rfl)
theorem dX0_rule_29 : decode cX0_rule 29 = .ok (.iload_n 1, 1) := dk_27 (dk_at dksX0_rule_1 7 rfl rfl)
theorem dX0_rule_30 : decode cX0_rule 30 = .ok (.iload_n 3, 1) := dk_29 (dk_at dksX0_rule_1 8 rfl rfl)
theorem dX0_rule_31 : decode cX0_rule 31 = .ok (.iconst 1, 1) := dk_4 (dk_at dksX0_rule_1 9 rfl rfl)
theorem dX0_rule_32 : decode cX0_rule 32 = .ok (.iand, 1) := dk_126 (dk_at dksX0_rule_1 10 rfl rfl)
theorem dX0_rule_33 : decode cX0_rule 33 = .ok (.iload_n 3, 1) := dk_29 (dk_at dksX0_rule_1 11 rfl rfl)
theorem dX0_rule_34 : decode cX0_rule 34 = .ok (.iconst 1, 1) := dk_4 (dk_at dksX0_rule_1 12 rfl rfl)
theorem dX0_rule_35 : decode cX0_rule 35 = .ok (.ishr, 1) := dk_122 (dk_at dksX0_rule_1 13 rfl rfl)
theorem dX0_rule_36 : decode cX0_rule 36 = .ok (.iconst 1, 1) := dk_4 (dk_at dksX0_rule_1 14 rfl rfl)
theorem dX0_rule_37 : decode cX0_rule 37 = .ok (.iand, 1) := dk_126 (dk_at dksX0_rule_1 15 rfl rfl)
theorem dX0_rule_38 : decode cX0_rule 38 = .ok (.iload_n 3, 1) := dk_29 (dk_at dksX0_rule_1 16 rfl rfl)
theorem dX0_rule_39 : decode cX0_rule 39 = .ok (.iconst 2, 1) := dk_5 (dk_at dksX0_rule_1 17 rfl rfl)
theorem dX0_rule_40 : decode cX0_rule 40 = .ok (.ishr, 1) := dk_122 (dk_at dksX0_rule_1 18 rfl rfl)
theorem dX0_rule_41 : decode cX0_rule 41 = .ok (.invokevirtual 247, 3) := dk_182 0 247 (dk_at dksX0_rule_1 19 rfl rfl)
theorem dX0_rule_44 : decode cX0_rule 44 = .ok (.ifCond .eq 9, 3) := dk_153 0 9 (dk_at dksX0_rule_2 0 rfl rfl)
theorem dX0_rule_47 : decode cX0_rule 47 = .ok (.iconst 1, 1) := dk_4 (dk_at dksX0_rule_2 3 rfl rfl)
theorem dX0_rule_48 : decode cX0_rule 48 = .ok (.iload_n 3, 1) := dk_29 (dk_at dksX0_rule_2 4 rfl rfl)
theorem dX0_rule_49 : decode cX0_rule 49 = .ok (.ishl, 1) := dk_120 (dk_at dksX0_rule_2 5 rfl rfl)
theorem dX0_rule_50 : decode cX0_rule 50 = .ok (.goto 4, 3) := dk_167 0 4 (dk_at dksX0_rule_2 6 rfl rfl)
theorem dX0_rule_53 : decode cX0_rule 53 = .ok (.iconst 0, 1) := dk_3 (dk_at dksX0_rule_2 9 rfl rfl)
theorem dX0_rule_54 : decode cX0_rule 54 = .ok (.ior, 1) := dk_128 (dk_at dksX0_rule_2 10 rfl rfl)
theorem dX0_rule_55 : decode cX0_rule 55 = .ok (.istore_n 2, 1) := dk_61 (dk_at dksX0_rule_2 11 rfl rfl)
theorem dX0_rule_56 : decode cX0_rule 56 = .ok (.iinc 3 1, 3) := dk_132 3 1 (dk_at dksX0_rule_2 12 rfl rfl)
theorem dX0_rule_59 : decode cX0_rule 59 = .ok (.goto (-45), 3) := dk_167 255 211 (dk_at dksX0_rule_2 15 rfl rfl)
theorem dX0_rule_62 : decode cX0_rule 62 = .ok (.iload_n 2, 1) := dk_28 (dk_at dksX0_rule_2 18 rfl rfl)
theorem dX0_rule_63 : decode cX0_rule 63 = .ok (.ireturn, 1) := dk_172 (dk_at dksX0_rule_2 19 rfl rfl)
abbrev cX0_coldest : ByteArray := prog_1_method_37_code
def yX0_coldest : MethodName := ⟨RX0, "coldest", "(I)I"⟩
def dkwX0_coldest_5 : List UInt8 := [29, 172]
abbrev dktX0_coldest_5 : List UInt8 := dkwX0_coldest_5 ++ []
def dkwX0_coldest_4 : List UInt8 := [180, 0, 48, 42, 180, 0, 83, 182, 0, 211, 132, 4, 1, 167, 255, 180, 27, 154, 0, 7, 28, 167, 0, 4]
abbrev dktX0_coldest_4 : List UInt8 := dkwX0_coldest_4 ++ dktX0_coldest_5
def dkwX0_coldest_3 : List UInt8 := [132, 6, 1, 167, 255, 226, 21, 5, 29, 164, 0, 9, 21, 4, 61, 21, 5, 62, 42, 180, 0, 63, 42]
abbrev dktX0_coldest_3 : List UInt8 := dkwX0_coldest_3 ++ dktX0_coldest_4
def dkwX0_coldest_2 : List UInt8 := [182, 0, 145, 162, 0, 27, 21, 5, 42, 180, 0, 63, 42, 180, 0, 48, 21, 6, 182, 0, 181, 96, 54, 5]
abbrev dktX0_coldest_2 : List UInt8 := dkwX0_coldest_2 ++ dktX0_coldest_3
def dkwX0_coldest_1 : List UInt8 := [182, 0, 193, 3, 54, 4, 21, 4, 16, 24, 162, 0, 75, 3, 54, 5, 3, 54, 6, 21, 6, 42]
abbrev dktX0_coldest_1 : List UInt8 := dkwX0_coldest_1 ++ dktX0_coldest_2
def dkwX0_coldest_0 : List UInt8 := [27, 3, 4, 184, 0, 146, 154, 0, 5, 2, 172, 3, 61, 2, 62, 42, 180, 0, 63, 42, 180, 0, 59]
abbrev dktX0_coldest_0 : List UInt8 := dkwX0_coldest_0 ++ dktX0_coldest_1
theorem dksX0_coldest_0 : cX0_coldest.data.toList.drop 0 = dktX0_coldest_0 := by decide +kernel
theorem dksX0_coldest_1 : cX0_coldest.data.toList.drop 23 = dktX0_coldest_1 := dk_seg dksX0_coldest_0 23 rfl rfl
theorem dksX0_coldest_2 : cX0_coldest.data.toList.drop 45 = dktX0_coldest_2 := dk_seg dksX0_coldest_1 22 rfl rfl
theorem dksX0_coldest_3 : cX0_coldest.data.toList.drop 69 = dktX0_coldest_3 := dk_seg dksX0_coldest_2 24 rfl rfl
theorem dksX0_coldest_4 : cX0_coldest.data.toList.drop 92 = dktX0_coldest_4 := dk_seg dksX0_coldest_3 23 rfl rfl
theorem dksX0_coldest_5 : cX0_coldest.data.toList.drop 116 = dktX0_coldest_5 := dk_seg dksX0_coldest_4 24 rfl rfl
theorem dX0_coldest_0 : decode cX0_coldest 0 = .ok (.iload_n 1, 1) := dk_27 (dk_at dksX0_coldest_0 0 rfl rfl)
theorem dX0_coldest_1 : decode cX0_coldest 1 = .ok (.iconst 0, 1) := dk_3 (dk_at dksX0_coldest_0 1 rfl rfl)
theorem dX0_coldest_2 : decode cX0_coldest 2 = .ok (.iconst 1, 1) := dk_4 (dk_at dksX0_coldest_0 2 rfl rfl)
theorem dX0_coldest_3 : decode cX0_coldest 3 = .ok (.invokestatic 146, 3) := dk_184 0 146 (dk_at dksX0_coldest_0 3 rfl rfl)
theorem dX0_coldest_6 : decode cX0_coldest 6 = .ok (.ifCond .ne 5, 3) := dk_154 0 5 (dk_at dksX0_coldest_0 6 rfl rfl)
theorem dX0_coldest_9 : decode cX0_coldest 9 = .ok (.iconst (-1), 1) := dk_2 (dk_at dksX0_coldest_0 9 rfl rfl)
theorem dX0_coldest_10 : decode cX0_coldest 10 = .ok (.ireturn, 1) := dk_172 (dk_at dksX0_coldest_0 10 rfl rfl)
theorem dX0_coldest_11 : decode cX0_coldest 11 = .ok (.iconst 0, 1) := dk_3 (dk_at dksX0_coldest_0 11 rfl rfl)
theorem dX0_coldest_12 : decode cX0_coldest 12 = .ok (.istore_n 2, 1) := dk_61 (dk_at dksX0_coldest_0 12 rfl rfl)
theorem dX0_coldest_13 : decode cX0_coldest 13 = .ok (.iconst (-1), 1) := dk_2 (dk_at dksX0_coldest_0 13 rfl rfl)
theorem dX0_coldest_14 : decode cX0_coldest 14 = .ok (.istore_n 3, 1) := dk_62 (dk_at dksX0_coldest_0 14 rfl rfl)
theorem dX0_coldest_15 : decode cX0_coldest 15 = .ok (.aload_n 0, 1) := dk_42 (dk_at dksX0_coldest_0 15 rfl rfl)
theorem dX0_coldest_16 : decode cX0_coldest 16 = .ok (.getfield 63, 3) := dk_180 0 63 (dk_at dksX0_coldest_0 16 rfl rfl)
theorem dX0_coldest_19 : decode cX0_coldest 19 = .ok (.aload_n 0, 1) := dk_42 (dk_at dksX0_coldest_0 19 rfl rfl)
theorem dX0_coldest_20 : decode cX0_coldest 20 = .ok (.getfield 59, 3) := dk_180 0 59 (dk_at dksX0_coldest_0 20 rfl rfl)
theorem dX0_coldest_23 : decode cX0_coldest 23 = .ok (.invokevirtual 193, 3) := dk_182 0 193 (dk_at dksX0_coldest_1 0 rfl rfl)
theorem dX0_coldest_26 : decode cX0_coldest 26 = .ok (.iconst 0, 1) := dk_3 (dk_at dksX0_coldest_1 3 rfl rfl)
theorem dX0_coldest_27 : decode cX0_coldest 27 = .ok (.istore 4, 2) := dk_54 4 (dk_at dksX0_coldest_1 4 rfl rfl)
theorem dX0_coldest_29 : decode cX0_coldest 29 = .ok (.iload 4, 2) := dk_21 4 (dk_at dksX0_coldest_1 6 rfl rfl)
theorem dX0_coldest_31 : decode cX0_coldest 31 = .ok (.bipush 24, 2) := dk_16 24 (dk_at dksX0_coldest_1 8 rfl rfl)
theorem dX0_coldest_33 : decode cX0_coldest 33 = .ok (.if_icmp .ge 75, 3) := dk_162 0 75 (dk_at dksX0_coldest_1 10 rfl rfl)
theorem dX0_coldest_36 : decode cX0_coldest 36 = .ok (.iconst 0, 1) := dk_3 (dk_at dksX0_coldest_1 13 rfl rfl)
theorem dX0_coldest_37 : decode cX0_coldest 37 = .ok (.istore 5, 2) := dk_54 5 (dk_at dksX0_coldest_1 14 rfl rfl)
theorem dX0_coldest_39 : decode cX0_coldest 39 = .ok (.iconst 0, 1) := dk_3 (dk_at dksX0_coldest_1 16 rfl rfl)
theorem dX0_coldest_40 : decode cX0_coldest 40 = .ok (.istore 6, 2) := dk_54 6 (dk_at dksX0_coldest_1 17 rfl rfl)
theorem dX0_coldest_42 : decode cX0_coldest 42 = .ok (.iload 6, 2) := dk_21 6 (dk_at dksX0_coldest_1 19 rfl rfl)
theorem dX0_coldest_44 : decode cX0_coldest 44 = .ok (.aload_n 0, 1) := dk_42 (dk_at dksX0_coldest_1 21 rfl rfl)
theorem dX0_coldest_45 : decode cX0_coldest 45 = .ok (.invokevirtual 145, 3) := dk_182 0 145 (dk_at dksX0_coldest_2 0 rfl rfl)
theorem dX0_coldest_48 : decode cX0_coldest 48 = .ok (.if_icmp .ge 27, 3) := dk_162 0 27 (dk_at dksX0_coldest_2 3 rfl rfl)
theorem dX0_coldest_51 : decode cX0_coldest 51 = .ok (.iload 5, 2) := dk_21 5 (dk_at dksX0_coldest_2 6 rfl rfl)
theorem dX0_coldest_53 : decode cX0_coldest 53 = .ok (.aload_n 0, 1) := dk_42 (dk_at dksX0_coldest_2 8 rfl rfl)
theorem dX0_coldest_54 : decode cX0_coldest 54 = .ok (.getfield 63, 3) := dk_180 0 63 (dk_at dksX0_coldest_2 9 rfl rfl)
theorem dX0_coldest_57 : decode cX0_coldest 57 = .ok (.aload_n 0, 1) := dk_42 (dk_at dksX0_coldest_2 12 rfl rfl)
theorem dX0_coldest_58 : decode cX0_coldest 58 = .ok (.getfield 48, 3) := dk_180 0 48 (dk_at dksX0_coldest_2 13 rfl rfl)
theorem dX0_coldest_61 : decode cX0_coldest 61 = .ok (.iload 6, 2) := dk_21 6 (dk_at dksX0_coldest_2 16 rfl rfl)
theorem dX0_coldest_63 : decode cX0_coldest 63 = .ok (.invokevirtual 181, 3) := dk_182 0 181 (dk_at dksX0_coldest_2 18 rfl rfl)
theorem dX0_coldest_66 : decode cX0_coldest 66 = .ok (.iadd, 1) := dk_96 (dk_at dksX0_coldest_2 21 rfl rfl)
theorem dX0_coldest_67 : decode cX0_coldest 67 = .ok (.istore 5, 2) := dk_54 5 (dk_at dksX0_coldest_2 22 rfl rfl)
theorem dX0_coldest_69 : decode cX0_coldest 69 = .ok (.iinc 6 1, 3) := dk_132 6 1 (dk_at dksX0_coldest_3 0 rfl rfl)
theorem dX0_coldest_72 : decode cX0_coldest 72 = .ok (.goto (-30), 3) := dk_167 255 226 (dk_at dksX0_coldest_3 3 rfl rfl)
theorem dX0_coldest_75 : decode cX0_coldest 75 = .ok (.iload 5, 2) := dk_21 5 (dk_at dksX0_coldest_3 6 rfl rfl)
theorem dX0_coldest_77 : decode cX0_coldest 77 = .ok (.iload_n 3, 1) := dk_29 (dk_at dksX0_coldest_3 8 rfl rfl)
theorem dX0_coldest_78 : decode cX0_coldest 78 = .ok (.if_icmp .le 9, 3) := dk_164 0 9 (dk_at dksX0_coldest_3 9 rfl rfl)
theorem dX0_coldest_81 : decode cX0_coldest 81 = .ok (.iload 4, 2) := dk_21 4 (dk_at dksX0_coldest_3 12 rfl rfl)
theorem dX0_coldest_83 : decode cX0_coldest 83 = .ok (.istore_n 2, 1) := dk_61 (dk_at dksX0_coldest_3 14 rfl rfl)
theorem dX0_coldest_84 : decode cX0_coldest 84 = .ok (.iload 5, 2) := dk_21 5 (dk_at dksX0_coldest_3 15 rfl rfl)
theorem dX0_coldest_86 : decode cX0_coldest 86 = .ok (.istore_n 3, 1) := dk_62 (dk_at dksX0_coldest_3 17 rfl rfl)
theorem dX0_coldest_87 : decode cX0_coldest 87 = .ok (.aload_n 0, 1) := dk_42 (dk_at dksX0_coldest_3 18 rfl rfl)
theorem dX0_coldest_88 : decode cX0_coldest 88 = .ok (.getfield 63, 3) := dk_180 0 63 (dk_at dksX0_coldest_3 19 rfl rfl)
theorem dX0_coldest_91 : decode cX0_coldest 91 = .ok (.aload_n 0, 1) := dk_42 (dk_at dksX0_coldest_3 22 rfl rfl)
theorem dX0_coldest_92 : decode cX0_coldest 92 = .ok (.getfield 48, 3) := dk_180 0 48 (dk_at dksX0_coldest_4 0 rfl rfl)
theorem dX0_coldest_95 : decode cX0_coldest 95 = .ok (.aload_n 0, 1) := dk_42 (dk_at dksX0_coldest_4 3 rfl rfl)
theorem dX0_coldest_96 : decode cX0_coldest 96 = .ok (.getfield 83, 3) := dk_180 0 83 (dk_at dksX0_coldest_4 4 rfl rfl)
theorem dX0_coldest_99 : decode cX0_coldest 99 = .ok (.invokevirtual 211, 3) := dk_182 0 211 (dk_at dksX0_coldest_4 7 rfl rfl)
theorem dX0_coldest_102 : decode cX0_coldest 102 = .ok (.iinc 4 1, 3) := dk_132 4 1 (dk_at dksX0_coldest_4 10 rfl rfl)
theorem dX0_coldest_105 : decode cX0_coldest 105 = .ok (.goto (-76), 3) := dk_167 255 180 (dk_at dksX0_coldest_4 13 rfl rfl)
theorem dX0_coldest_108 : decode cX0_coldest 108 = .ok (.iload_n 1, 1) := dk_27 (dk_at dksX0_coldest_4 16 rfl rfl)
theorem dX0_coldest_109 : decode cX0_coldest 109 = .ok (.ifCond .ne 7, 3) := dk_154 0 7 (dk_at dksX0_coldest_4 17 rfl rfl)
theorem dX0_coldest_112 : decode cX0_coldest 112 = .ok (.iload_n 2, 1) := dk_28 (dk_at dksX0_coldest_4 20 rfl rfl)
theorem dX0_coldest_113 : decode cX0_coldest 113 = .ok (.goto 4, 3) := dk_167 0 4 (dk_at dksX0_coldest_4 21 rfl rfl)
theorem dX0_coldest_116 : decode cX0_coldest 116 = .ok (.iload_n 3, 1) := dk_29 (dk_at dksX0_coldest_5 0 rfl rfl)
theorem dX0_coldest_117 : decode cX0_coldest 117 = .ok (.ireturn, 1) := dk_172 (dk_at dksX0_coldest_5 1 rfl rfl)
abbrev cX0_run : ByteArray := prog_1_method_39_code
def yX0_run : MethodName := ⟨RX0, "run", "(I)I"⟩
def dkwX0_run_2 : List UInt8 := [21, 4, 61, 21, 5, 62, 132, 4, 1, 167, 255, 221, 27, 154, 0, 7, 29, 167, 0, 4, 28, 172]
abbrev dktX0_run_2 : List UInt8 := dkwX0_run_2 ++ []
def dkwX0_run_1 : List UInt8 := [182, 0, 145, 162, 0, 32, 42, 21, 4, 182, 0, 254, 54, 5, 21, 5, 29, 163, 0, 6, 167, 0, 9]
abbrev dktX0_run_1 : List UInt8 := dkwX0_run_1 ++ dktX0_run_2
def dkwX0_run_0 : List UInt8 := [27, 3, 4, 184, 0, 146, 154, 0, 5, 2, 172, 16, 254, 61, 3, 62, 3, 54, 4, 21, 4, 42]
abbrev dktX0_run_0 : List UInt8 := dkwX0_run_0 ++ dktX0_run_1
theorem dksX0_run_0 : cX0_run.data.toList.drop 0 = dktX0_run_0 := by decide +kernel
theorem dksX0_run_1 : cX0_run.data.toList.drop 22 = dktX0_run_1 := dk_seg dksX0_run_0 22 rfl rfl
theorem dksX0_run_2 : cX0_run.data.toList.drop 45 = dktX0_run_2 := dk_seg dksX0_run_1 23 rfl rfl
theorem dX0_run_0 : decode cX0_run 0 = .ok (.iload_n 1, 1) := dk_27 (dk_at dksX0_run_0 0 rfl rfl)
theorem dX0_run_1 : decode cX0_run 1 = .ok (.iconst 0, 1) := dk_3 (dk_at dksX0_run_0 1 rfl rfl)
theorem dX0_run_2 : decode cX0_run 2 = .ok (.iconst 1, 1) := dk_4 (dk_at dksX0_run_0 2 rfl rfl)
theorem dX0_run_3 : decode cX0_run 3 = .ok (.invokestatic 146, 3) := dk_184 0 146 (dk_at dksX0_run_0 3 rfl rfl)
theorem dX0_run_6 : decode cX0_run 6 = .ok (.ifCond .ne 5, 3) := dk_154 0 5 (dk_at dksX0_run_0 6 rfl rfl)
theorem dX0_run_9 : decode cX0_run 9 = .ok (.iconst (-1), 1) := dk_2 (dk_at dksX0_run_0 9 rfl rfl)
theorem dX0_run_10 : decode cX0_run 10 = .ok (.ireturn, 1) := dk_172 (dk_at dksX0_run_0 10 rfl rfl)
theorem dX0_run_11 : decode cX0_run 11 = .ok (.bipush (-2), 2) := dk_16 254 (dk_at dksX0_run_0 11 rfl rfl)
theorem dX0_run_13 : decode cX0_run 13 = .ok (.istore_n 2, 1) := dk_61 (dk_at dksX0_run_0 13 rfl rfl)
theorem dX0_run_14 : decode cX0_run 14 = .ok (.iconst 0, 1) := dk_3 (dk_at dksX0_run_0 14 rfl rfl)
theorem dX0_run_15 : decode cX0_run 15 = .ok (.istore_n 3, 1) := dk_62 (dk_at dksX0_run_0 15 rfl rfl)
theorem dX0_run_16 : decode cX0_run 16 = .ok (.iconst 0, 1) := dk_3 (dk_at dksX0_run_0 16 rfl rfl)
theorem dX0_run_17 : decode cX0_run 17 = .ok (.istore 4, 2) := dk_54 4 (dk_at dksX0_run_0 17 rfl rfl)
theorem dX0_run_19 : decode cX0_run 19 = .ok (.iload 4, 2) := dk_21 4 (dk_at dksX0_run_0 19 rfl rfl)
theorem dX0_run_21 : decode cX0_run 21 = .ok (.aload_n 0, 1) := dk_42 (dk_at dksX0_run_0 21 rfl rfl)
theorem dX0_run_22 : decode cX0_run 22 = .ok (.invokevirtual 145, 3) := dk_182 0 145 (dk_at dksX0_run_1 0 rfl rfl)
theorem dX0_run_25 : decode cX0_run 25 = .ok (.if_icmp .ge 32, 3) := dk_162 0 32 (dk_at dksX0_run_1 3 rfl rfl)
theorem dX0_run_28 : decode cX0_run 28 = .ok (.aload_n 0, 1) := dk_42 (dk_at dksX0_run_1 6 rfl rfl)
theorem dX0_run_29 : decode cX0_run 29 = .ok (.iload 4, 2) := dk_21 4 (dk_at dksX0_run_1 7 rfl rfl)
theorem dX0_run_31 : decode cX0_run 31 = .ok (.invokevirtual 254, 3) := dk_182 0 254 (dk_at dksX0_run_1 9 rfl rfl)
theorem dX0_run_34 : decode cX0_run 34 = .ok (.istore 5, 2) := dk_54 5 (dk_at dksX0_run_1 12 rfl rfl)
theorem dX0_run_36 : decode cX0_run 36 = .ok (.iload 5, 2) := dk_21 5 (dk_at dksX0_run_1 14 rfl rfl)
theorem dX0_run_38 : decode cX0_run 38 = .ok (.iload_n 3, 1) := dk_29 (dk_at dksX0_run_1 16 rfl rfl)
theorem dX0_run_39 : decode cX0_run 39 = .ok (.if_icmp .gt 6, 3) := dk_163 0 6 (dk_at dksX0_run_1 17 rfl rfl)
theorem dX0_run_42 : decode cX0_run 42 = .ok (.goto 9, 3) := dk_167 0 9 (dk_at dksX0_run_1 20 rfl rfl)
theorem dX0_run_45 : decode cX0_run 45 = .ok (.iload 4, 2) := dk_21 4 (dk_at dksX0_run_2 0 rfl rfl)
theorem dX0_run_47 : decode cX0_run 47 = .ok (.istore_n 2, 1) := dk_61 (dk_at dksX0_run_2 2 rfl rfl)
theorem dX0_run_48 : decode cX0_run 48 = .ok (.iload 5, 2) := dk_21 5 (dk_at dksX0_run_2 3 rfl rfl)
theorem dX0_run_50 : decode cX0_run 50 = .ok (.istore_n 3, 1) := dk_62 (dk_at dksX0_run_2 5 rfl rfl)
theorem dX0_run_51 : decode cX0_run 51 = .ok (.iinc 4 1, 3) := dk_132 4 1 (dk_at dksX0_run_2 6 rfl rfl)
theorem dX0_run_54 : decode cX0_run 54 = .ok (.goto (-35), 3) := dk_167 255 221 (dk_at dksX0_run_2 9 rfl rfl)
theorem dX0_run_57 : decode cX0_run 57 = .ok (.iload_n 1, 1) := dk_27 (dk_at dksX0_run_2 12 rfl rfl)
theorem dX0_run_58 : decode cX0_run 58 = .ok (.ifCond .ne 7, 3) := dk_154 0 7 (dk_at dksX0_run_2 13 rfl rfl)
theorem dX0_run_61 : decode cX0_run 61 = .ok (.iload_n 3, 1) := dk_29 (dk_at dksX0_run_2 16 rfl rfl)
theorem dX0_run_62 : decode cX0_run 62 = .ok (.goto 4, 3) := dk_167 0 4 (dk_at dksX0_run_2 17 rfl rfl)
theorem dX0_run_65 : decode cX0_run 65 = .ok (.iload_n 2, 1) := dk_28 (dk_at dksX0_run_2 20 rfl rfl)
theorem dX0_run_66 : decode cX0_run 66 = .ok (.ireturn, 1) := dk_172 (dk_at dksX0_run_2 21 rfl rfl)
abbrev cX0_runFrom : ByteArray := prog_1_method_38_code
def yX0_runFrom : MethodName := ⟨RX0, "runFrom", "(I)I"⟩
def dkwX0_runFrom_3 : List UInt8 := [167, 255, 189, 28, 172]
abbrev dktX0_runFrom_3 : List UInt8 := dkwX0_runFrom_3 ++ []
def dkwX0_runFrom_2 : List UInt8 := [42, 180, 0, 59, 27, 182, 0, 158, 160, 0, 18, 29, 4, 96, 42, 182, 0, 145, 112, 62, 132, 2, 1]
abbrev dktX0_runFrom_2 : List UInt8 := dkwX0_runFrom_2 ++ dktX0_runFrom_3
def dkwX0_runFrom_1 : List UInt8 := [4, 96, 42, 182, 0, 145, 162, 0, 44, 42, 180, 0, 59, 29, 4, 96, 42, 182, 0, 145, 112, 182, 0, 158]
abbrev dktX0_runFrom_1 : List UInt8 := dkwX0_runFrom_1 ++ dktX0_runFrom_2
def dkwX0_runFrom_0 : List UInt8 := [4, 61, 27, 62, 28, 42, 182, 0, 145, 162, 0, 65, 42, 180, 0, 48, 180, 0, 251, 4, 159, 0, 13, 29]
abbrev dktX0_runFrom_0 : List UInt8 := dkwX0_runFrom_0 ++ dktX0_runFrom_1
theorem dksX0_runFrom_0 : cX0_runFrom.data.toList.drop 0 = dktX0_runFrom_0 := by decide +kernel
theorem dksX0_runFrom_1 : cX0_runFrom.data.toList.drop 24 = dktX0_runFrom_1 := dk_seg dksX0_runFrom_0 24 rfl rfl
theorem dksX0_runFrom_2 : cX0_runFrom.data.toList.drop 48 = dktX0_runFrom_2 := dk_seg dksX0_runFrom_1 24 rfl rfl
theorem dksX0_runFrom_3 : cX0_runFrom.data.toList.drop 71 = dktX0_runFrom_3 := dk_seg dksX0_runFrom_2 23 rfl rfl
theorem dX0_runFrom_0 : decode cX0_runFrom 0 = .ok (.iconst 1, 1) := dk_4 (dk_at dksX0_runFrom_0 0 rfl rfl)
theorem dX0_runFrom_1 : decode cX0_runFrom 1 = .ok (.istore_n 2, 1) := dk_61 (dk_at dksX0_runFrom_0 1 rfl rfl)
theorem dX0_runFrom_2 : decode cX0_runFrom 2 = .ok (.iload_n 1, 1) := dk_27 (dk_at dksX0_runFrom_0 2 rfl rfl)
theorem dX0_runFrom_3 : decode cX0_runFrom 3 = .ok (.istore_n 3, 1) := dk_62 (dk_at dksX0_runFrom_0 3 rfl rfl)
theorem dX0_runFrom_4 : decode cX0_runFrom 4 = .ok (.iload_n 2, 1) := dk_28 (dk_at dksX0_runFrom_0 4 rfl rfl)
theorem dX0_runFrom_5 : decode cX0_runFrom 5 = .ok (.aload_n 0, 1) := dk_42 (dk_at dksX0_runFrom_0 5 rfl rfl)
theorem dX0_runFrom_6 : decode cX0_runFrom 6 = .ok (.invokevirtual 145, 3) := dk_182 0 145 (dk_at dksX0_runFrom_0 6 rfl rfl)
theorem dX0_runFrom_9 : decode cX0_runFrom 9 = .ok (.if_icmp .ge 65, 3) := dk_162 0 65 (dk_at dksX0_runFrom_0 9 rfl rfl)
theorem dX0_runFrom_12 : decode cX0_runFrom 12 = .ok (.aload_n 0, 1) := dk_42 (dk_at dksX0_runFrom_0 12 rfl rfl)
theorem dX0_runFrom_13 : decode cX0_runFrom 13 = .ok (.getfield 48, 3) := dk_180 0 48 (dk_at dksX0_runFrom_0 13 rfl rfl)
theorem dX0_runFrom_16 : decode cX0_runFrom 16 = .ok (.getfield 251, 3) := dk_180 0 251 (dk_at dksX0_runFrom_0 16 rfl rfl)
theorem dX0_runFrom_19 : decode cX0_runFrom 19 = .ok (.iconst 1, 1) := dk_4 (dk_at dksX0_runFrom_0 19 rfl rfl)
theorem dX0_runFrom_20 : decode cX0_runFrom 20 = .ok (.if_icmp .eq 13, 3) := dk_159 0 13 (dk_at dksX0_runFrom_0 20 rfl rfl)
theorem dX0_runFrom_23 : decode cX0_runFrom 23 = .ok (.iload_n 3, 1) := dk_29 (dk_at dksX0_runFrom_0 23 rfl rfl)
theorem dX0_runFrom_24 : decode cX0_runFrom 24 = .ok (.iconst 1, 1) := dk_4 (dk_at dksX0_runFrom_1 0 rfl rfl)
theorem dX0_runFrom_25 : decode cX0_runFrom 25 = .ok (.iadd, 1) := dk_96 (dk_at dksX0_runFrom_1 1 rfl rfl)
theorem dX0_runFrom_26 : decode cX0_runFrom 26 = .ok (.aload_n 0, 1) := dk_42 (dk_at dksX0_runFrom_1 2 rfl rfl)
theorem dX0_runFrom_27 : decode cX0_runFrom 27 = .ok (.invokevirtual 145, 3) := dk_182 0 145 (dk_at dksX0_runFrom_1 3 rfl rfl)
theorem dX0_runFrom_30 : decode cX0_runFrom 30 = .ok (.if_icmp .ge 44, 3) := dk_162 0 44 (dk_at dksX0_runFrom_1 6 rfl rfl)
theorem dX0_runFrom_33 : decode cX0_runFrom 33 = .ok (.aload_n 0, 1) := dk_42 (dk_at dksX0_runFrom_1 9 rfl rfl)
theorem dX0_runFrom_34 : decode cX0_runFrom 34 = .ok (.getfield 59, 3) := dk_180 0 59 (dk_at dksX0_runFrom_1 10 rfl rfl)
theorem dX0_runFrom_37 : decode cX0_runFrom 37 = .ok (.iload_n 3, 1) := dk_29 (dk_at dksX0_runFrom_1 13 rfl rfl)
theorem dX0_runFrom_38 : decode cX0_runFrom 38 = .ok (.iconst 1, 1) := dk_4 (dk_at dksX0_runFrom_1 14 rfl rfl)
theorem dX0_runFrom_39 : decode cX0_runFrom 39 = .ok (.iadd, 1) := dk_96 (dk_at dksX0_runFrom_1 15 rfl rfl)
theorem dX0_runFrom_40 : decode cX0_runFrom 40 = .ok (.aload_n 0, 1) := dk_42 (dk_at dksX0_runFrom_1 16 rfl rfl)
theorem dX0_runFrom_41 : decode cX0_runFrom 41 = .ok (.invokevirtual 145, 3) := dk_182 0 145 (dk_at dksX0_runFrom_1 17 rfl rfl)
theorem dX0_runFrom_44 : decode cX0_runFrom 44 = .ok (.irem, 1) := dk_112 (dk_at dksX0_runFrom_1 20 rfl rfl)
theorem dX0_runFrom_45 : decode cX0_runFrom 45 = .ok (.invokevirtual 158, 3) := dk_182 0 158 (dk_at dksX0_runFrom_1 21 rfl rfl)
theorem dX0_runFrom_48 : decode cX0_runFrom 48 = .ok (.aload_n 0, 1) := dk_42 (dk_at dksX0_runFrom_2 0 rfl rfl)
theorem dX0_runFrom_49 : decode cX0_runFrom 49 = .ok (.getfield 59, 3) := dk_180 0 59 (dk_at dksX0_runFrom_2 1 rfl rfl)
theorem dX0_runFrom_52 : decode cX0_runFrom 52 = .ok (.iload_n 1, 1) := dk_27 (dk_at dksX0_runFrom_2 4 rfl rfl)
theorem dX0_runFrom_53 : decode cX0_runFrom 53 = .ok (.invokevirtual 158, 3) := dk_182 0 158 (dk_at dksX0_runFrom_2 5 rfl rfl)
theorem dX0_runFrom_56 : decode cX0_runFrom 56 = .ok (.if_icmp .ne 18, 3) := dk_160 0 18 (dk_at dksX0_runFrom_2 8 rfl rfl)
theorem dX0_runFrom_59 : decode cX0_runFrom 59 = .ok (.iload_n 3, 1) := dk_29 (dk_at dksX0_runFrom_2 11 rfl rfl)
theorem dX0_runFrom_60 : decode cX0_runFrom 60 = .ok (.iconst 1, 1) := dk_4 (dk_at dksX0_runFrom_2 12 rfl rfl)
theorem dX0_runFrom_61 : decode cX0_runFrom 61 = .ok (.iadd, 1) := dk_96 (dk_at dksX0_runFrom_2 13 rfl rfl)
theorem dX0_runFrom_62 : decode cX0_runFrom 62 = .ok (.aload_n 0, 1) := dk_42 (dk_at dksX0_runFrom_2 14 rfl rfl)
theorem dX0_runFrom_63 : decode cX0_runFrom 63 = .ok (.invokevirtual 145, 3) := dk_182 0 145 (dk_at dksX0_runFrom_2 15 rfl rfl)
theorem dX0_runFrom_66 : decode cX0_runFrom 66 = .ok (.irem, 1) := dk_112 (dk_at dksX0_runFrom_2 18 rfl rfl)
theorem dX0_runFrom_67 : decode cX0_runFrom 67 = .ok (.istore_n 3, 1) := dk_62 (dk_at dksX0_runFrom_2 19 rfl rfl)
theorem dX0_runFrom_68 : decode cX0_runFrom 68 = .ok (.iinc 2 1, 3) := dk_132 2 1 (dk_at dksX0_runFrom_2 20 rfl rfl)
theorem dX0_runFrom_71 : decode cX0_runFrom 71 = .ok (.goto (-67), 3) := dk_167 255 189 (dk_at dksX0_runFrom_3 0 rfl rfl)
theorem dX0_runFrom_74 : decode cX0_runFrom 74 = .ok (.iload_n 2, 1) := dk_28 (dk_at dksX0_runFrom_3 3 rfl rfl)
theorem dX0_runFrom_75 : decode cX0_runFrom 75 = .ok (.ireturn, 1) := dk_172 (dk_at dksX0_runFrom_3 4 rfl rfl)
abbrev cX0_unlike : ByteArray := prog_1_method_40_code
def yX0_unlike : MethodName := ⟨RX0, "unlike", "()I"⟩
def dkwX0_unlike_2 : List UInt8 := [160, 0, 20, 42, 180, 0, 48, 180, 0, 251, 4, 160, 0, 9, 27, 5, 108, 167, 0, 4, 27, 172]
abbrev dktX0_unlike_2 : List UInt8 := dkwX0_unlike_2 ++ []
def dkwX0_unlike_1 : List UInt8 := [182, 1, 1, 153, 0, 7, 4, 167, 0, 4, 3, 96, 60, 132, 2, 1, 167, 255, 222, 42, 182, 0, 145, 5]
abbrev dktX0_unlike_1 : List UInt8 := dkwX0_unlike_1 ++ dktX0_unlike_2
def dkwX0_unlike_0 : List UInt8 := [3, 60, 3, 61, 28, 42, 182, 0, 145, 162, 0, 32, 27, 42, 180, 0, 59, 42, 180, 0, 48, 28]
abbrev dktX0_unlike_0 : List UInt8 := dkwX0_unlike_0 ++ dktX0_unlike_1
theorem dksX0_unlike_0 : cX0_unlike.data.toList.drop 0 = dktX0_unlike_0 := by decide +kernel
theorem dksX0_unlike_1 : cX0_unlike.data.toList.drop 22 = dktX0_unlike_1 := dk_seg dksX0_unlike_0 22 rfl rfl
theorem dksX0_unlike_2 : cX0_unlike.data.toList.drop 46 = dktX0_unlike_2 := dk_seg dksX0_unlike_1 24 rfl rfl
theorem dX0_unlike_0 : decode cX0_unlike 0 = .ok (.iconst 0, 1) := dk_3 (dk_at dksX0_unlike_0 0 rfl rfl)
theorem dX0_unlike_1 : decode cX0_unlike 1 = .ok (.istore_n 1, 1) := dk_60 (dk_at dksX0_unlike_0 1 rfl rfl)
theorem dX0_unlike_2 : decode cX0_unlike 2 = .ok (.iconst 0, 1) := dk_3 (dk_at dksX0_unlike_0 2 rfl rfl)
theorem dX0_unlike_3 : decode cX0_unlike 3 = .ok (.istore_n 2, 1) := dk_61 (dk_at dksX0_unlike_0 3 rfl rfl)
theorem dX0_unlike_4 : decode cX0_unlike 4 = .ok (.iload_n 2, 1) := dk_28 (dk_at dksX0_unlike_0 4 rfl rfl)
theorem dX0_unlike_5 : decode cX0_unlike 5 = .ok (.aload_n 0, 1) := dk_42 (dk_at dksX0_unlike_0 5 rfl rfl)
theorem dX0_unlike_6 : decode cX0_unlike 6 = .ok (.invokevirtual 145, 3) := dk_182 0 145 (dk_at dksX0_unlike_0 6 rfl rfl)
theorem dX0_unlike_9 : decode cX0_unlike 9 = .ok (.if_icmp .ge 32, 3) := dk_162 0 32 (dk_at dksX0_unlike_0 9 rfl rfl)
theorem dX0_unlike_12 : decode cX0_unlike 12 = .ok (.iload_n 1, 1) := dk_27 (dk_at dksX0_unlike_0 12 rfl rfl)
theorem dX0_unlike_13 : decode cX0_unlike 13 = .ok (.aload_n 0, 1) := dk_42 (dk_at dksX0_unlike_0 13 rfl rfl)
theorem dX0_unlike_14 : decode cX0_unlike 14 = .ok (.getfield 59, 3) := dk_180 0 59 (dk_at dksX0_unlike_0 14 rfl rfl)
theorem dX0_unlike_17 : decode cX0_unlike 17 = .ok (.aload_n 0, 1) := dk_42 (dk_at dksX0_unlike_0 17 rfl rfl)
theorem dX0_unlike_18 : decode cX0_unlike 18 = .ok (.getfield 48, 3) := dk_180 0 48 (dk_at dksX0_unlike_0 18 rfl rfl)
theorem dX0_unlike_21 : decode cX0_unlike 21 = .ok (.iload_n 2, 1) := dk_28 (dk_at dksX0_unlike_0 21 rfl rfl)
theorem dX0_unlike_22 : decode cX0_unlike 22 = .ok (.invokevirtual 257, 3) := dk_182 1 1 (dk_at dksX0_unlike_1 0 rfl rfl)
theorem dX0_unlike_25 : decode cX0_unlike 25 = .ok (.ifCond .eq 7, 3) := dk_153 0 7 (dk_at dksX0_unlike_1 3 rfl rfl)
theorem dX0_unlike_28 : decode cX0_unlike 28 = .ok (.iconst 1, 1) := dk_4 (dk_at dksX0_unlike_1 6 rfl rfl)
theorem dX0_unlike_29 : decode cX0_unlike 29 = .ok (.goto 4, 3) := dk_167 0 4 (dk_at dksX0_unlike_1 7 rfl rfl)
theorem dX0_unlike_32 : decode cX0_unlike 32 = .ok (.iconst 0, 1) := dk_3 (dk_at dksX0_unlike_1 10 rfl rfl)
theorem dX0_unlike_33 : decode cX0_unlike 33 = .ok (.iadd, 1) := dk_96 (dk_at dksX0_unlike_1 11 rfl rfl)
theorem dX0_unlike_34 : decode cX0_unlike 34 = .ok (.istore_n 1, 1) := dk_60 (dk_at dksX0_unlike_1 12 rfl rfl)
theorem dX0_unlike_35 : decode cX0_unlike 35 = .ok (.iinc 2 1, 3) := dk_132 2 1 (dk_at dksX0_unlike_1 13 rfl rfl)
theorem dX0_unlike_38 : decode cX0_unlike 38 = .ok (.goto (-34), 3) := dk_167 255 222 (dk_at dksX0_unlike_1 16 rfl rfl)
theorem dX0_unlike_41 : decode cX0_unlike 41 = .ok (.aload_n 0, 1) := dk_42 (dk_at dksX0_unlike_1 19 rfl rfl)
theorem dX0_unlike_42 : decode cX0_unlike 42 = .ok (.invokevirtual 145, 3) := dk_182 0 145 (dk_at dksX0_unlike_1 20 rfl rfl)
theorem dX0_unlike_45 : decode cX0_unlike 45 = .ok (.iconst 2, 1) := dk_5 (dk_at dksX0_unlike_1 23 rfl rfl)
theorem dX0_unlike_46 : decode cX0_unlike 46 = .ok (.if_icmp .ne 20, 3) := dk_160 0 20 (dk_at dksX0_unlike_2 0 rfl rfl)
theorem dX0_unlike_49 : decode cX0_unlike 49 = .ok (.aload_n 0, 1) := dk_42 (dk_at dksX0_unlike_2 3 rfl rfl)
theorem dX0_unlike_50 : decode cX0_unlike 50 = .ok (.getfield 48, 3) := dk_180 0 48 (dk_at dksX0_unlike_2 4 rfl rfl)
theorem dX0_unlike_53 : decode cX0_unlike 53 = .ok (.getfield 251, 3) := dk_180 0 251 (dk_at dksX0_unlike_2 7 rfl rfl)
theorem dX0_unlike_56 : decode cX0_unlike 56 = .ok (.iconst 1, 1) := dk_4 (dk_at dksX0_unlike_2 10 rfl rfl)
theorem dX0_unlike_57 : decode cX0_unlike 57 = .ok (.if_icmp .ne 9, 3) := dk_160 0 9 (dk_at dksX0_unlike_2 11 rfl rfl)
theorem dX0_unlike_60 : decode cX0_unlike 60 = .ok (.iload_n 1, 1) := dk_27 (dk_at dksX0_unlike_2 14 rfl rfl)
theorem dX0_unlike_61 : decode cX0_unlike 61 = .ok (.iconst 2, 1) := dk_5 (dk_at dksX0_unlike_2 15 rfl rfl)
theorem dX0_unlike_62 : decode cX0_unlike 62 = .ok (.idiv, 1) := dk_108 (dk_at dksX0_unlike_2 16 rfl rfl)
theorem dX0_unlike_63 : decode cX0_unlike 63 = .ok (.goto 4, 3) := dk_167 0 4 (dk_at dksX0_unlike_2 17 rfl rfl)
theorem dX0_unlike_66 : decode cX0_unlike 66 = .ok (.iload_n 1, 1) := dk_27 (dk_at dksX0_unlike_2 20 rfl rfl)
theorem dX0_unlike_67 : decode cX0_unlike 67 = .ok (.ireturn, 1) := dk_172 (dk_at dksX0_unlike_2 21 rfl rfl)
abbrev cX0_eden : ByteArray := prog_1_method_41_code
def yX0_eden : MethodName := ⟨RX0, "eden", "(I)I"⟩
def dkwX0_eden_4 : List UInt8 := [167, 255, 228, 28, 172]
abbrev dktX0_eden_4 : List UInt8 := dkwX0_eden_4 ++ []
def dkwX0_eden_3 : List UInt8 := [162, 0, 26, 28, 42, 180, 0, 90, 29, 51, 153, 0, 7, 3, 167, 0, 4, 4, 96, 61, 132, 3, 1]
abbrev dktX0_eden_3 : List UInt8 := dkwX0_eden_3 ++ dktX0_eden_4
def dkwX0_eden_2 : List UInt8 := [180, 0, 90, 42, 29, 27, 182, 0, 228, 4, 84, 132, 3, 1, 167, 255, 233, 3, 62, 29, 42, 182, 0, 154]
abbrev dktX0_eden_2 : List UInt8 := dkwX0_eden_2 ++ dktX0_eden_3
def dkwX0_eden_1 : List UInt8 := [42, 180, 0, 90, 29, 3, 84, 132, 3, 1, 167, 255, 238, 3, 62, 29, 42, 182, 0, 154, 162, 0, 21, 42]
abbrev dktX0_eden_1 : List UInt8 := dkwX0_eden_1 ++ dktX0_eden_2
def dkwX0_eden_0 : List UInt8 := [27, 4, 16, 24, 184, 0, 146, 154, 0, 5, 2, 172, 3, 61, 3, 62, 29, 42, 182, 0, 154, 162, 0, 16]
abbrev dktX0_eden_0 : List UInt8 := dkwX0_eden_0 ++ dktX0_eden_1
theorem dksX0_eden_0 : cX0_eden.data.toList.drop 0 = dktX0_eden_0 := by decide +kernel
theorem dksX0_eden_1 : cX0_eden.data.toList.drop 24 = dktX0_eden_1 := dk_seg dksX0_eden_0 24 rfl rfl
theorem dksX0_eden_2 : cX0_eden.data.toList.drop 48 = dktX0_eden_2 := dk_seg dksX0_eden_1 24 rfl rfl
theorem dksX0_eden_3 : cX0_eden.data.toList.drop 72 = dktX0_eden_3 := dk_seg dksX0_eden_2 24 rfl rfl
theorem dksX0_eden_4 : cX0_eden.data.toList.drop 95 = dktX0_eden_4 := dk_seg dksX0_eden_3 23 rfl rfl
theorem dX0_eden_0 : decode cX0_eden 0 = .ok (.iload_n 1, 1) := dk_27 (dk_at dksX0_eden_0 0 rfl rfl)
theorem dX0_eden_1 : decode cX0_eden 1 = .ok (.iconst 1, 1) := dk_4 (dk_at dksX0_eden_0 1 rfl rfl)
theorem dX0_eden_2 : decode cX0_eden 2 = .ok (.bipush 24, 2) := dk_16 24 (dk_at dksX0_eden_0 2 rfl rfl)
theorem dX0_eden_4 : decode cX0_eden 4 = .ok (.invokestatic 146, 3) := dk_184 0 146 (dk_at dksX0_eden_0 4 rfl rfl)
theorem dX0_eden_7 : decode cX0_eden 7 = .ok (.ifCond .ne 5, 3) := dk_154 0 5 (dk_at dksX0_eden_0 7 rfl rfl)
theorem dX0_eden_10 : decode cX0_eden 10 = .ok (.iconst (-1), 1) := dk_2 (dk_at dksX0_eden_0 10 rfl rfl)
theorem dX0_eden_11 : decode cX0_eden 11 = .ok (.ireturn, 1) := dk_172 (dk_at dksX0_eden_0 11 rfl rfl)
theorem dX0_eden_12 : decode cX0_eden 12 = .ok (.iconst 0, 1) := dk_3 (dk_at dksX0_eden_0 12 rfl rfl)
theorem dX0_eden_13 : decode cX0_eden 13 = .ok (.istore_n 2, 1) := dk_61 (dk_at dksX0_eden_0 13 rfl rfl)
theorem dX0_eden_14 : decode cX0_eden 14 = .ok (.iconst 0, 1) := dk_3 (dk_at dksX0_eden_0 14 rfl rfl)
theorem dX0_eden_15 : decode cX0_eden 15 = .ok (.istore_n 3, 1) := dk_62 (dk_at dksX0_eden_0 15 rfl rfl)
theorem dX0_eden_16 : decode cX0_eden 16 = .ok (.iload_n 3, 1) := dk_29 (dk_at dksX0_eden_0 16 rfl rfl)
theorem dX0_eden_17 : decode cX0_eden 17 = .ok (.aload_n 0, 1) := dk_42 (dk_at dksX0_eden_0 17 rfl rfl)
theorem dX0_eden_18 : decode cX0_eden 18 = .ok (.invokevirtual 154, 3) := dk_182 0 154 (dk_at dksX0_eden_0 18 rfl rfl)
theorem dX0_eden_21 : decode cX0_eden 21 = .ok (.if_icmp .ge 16, 3) := dk_162 0 16 (dk_at dksX0_eden_0 21 rfl rfl)
theorem dX0_eden_24 : decode cX0_eden 24 = .ok (.aload_n 0, 1) := dk_42 (dk_at dksX0_eden_1 0 rfl rfl)
theorem dX0_eden_25 : decode cX0_eden 25 = .ok (.getfield 90, 3) := dk_180 0 90 (dk_at dksX0_eden_1 1 rfl rfl)
theorem dX0_eden_28 : decode cX0_eden 28 = .ok (.iload_n 3, 1) := dk_29 (dk_at dksX0_eden_1 4 rfl rfl)
theorem dX0_eden_29 : decode cX0_eden 29 = .ok (.iconst 0, 1) := dk_3 (dk_at dksX0_eden_1 5 rfl rfl)
theorem dX0_eden_30 : decode cX0_eden 30 = .ok (.bastore, 1) := dk_84 (dk_at dksX0_eden_1 6 rfl rfl)
theorem dX0_eden_31 : decode cX0_eden 31 = .ok (.iinc 3 1, 3) := dk_132 3 1 (dk_at dksX0_eden_1 7 rfl rfl)
theorem dX0_eden_34 : decode cX0_eden 34 = .ok (.goto (-18), 3) := dk_167 255 238 (dk_at dksX0_eden_1 10 rfl rfl)
theorem dX0_eden_37 : decode cX0_eden 37 = .ok (.iconst 0, 1) := dk_3 (dk_at dksX0_eden_1 13 rfl rfl)
theorem dX0_eden_38 : decode cX0_eden 38 = .ok (.istore_n 3, 1) := dk_62 (dk_at dksX0_eden_1 14 rfl rfl)
theorem dX0_eden_39 : decode cX0_eden 39 = .ok (.iload_n 3, 1) := dk_29 (dk_at dksX0_eden_1 15 rfl rfl)
theorem dX0_eden_40 : decode cX0_eden 40 = .ok (.aload_n 0, 1) := dk_42 (dk_at dksX0_eden_1 16 rfl rfl)
theorem dX0_eden_41 : decode cX0_eden 41 = .ok (.invokevirtual 154, 3) := dk_182 0 154 (dk_at dksX0_eden_1 17 rfl rfl)
theorem dX0_eden_44 : decode cX0_eden 44 = .ok (.if_icmp .ge 21, 3) := dk_162 0 21 (dk_at dksX0_eden_1 20 rfl rfl)
theorem dX0_eden_47 : decode cX0_eden 47 = .ok (.aload_n 0, 1) := dk_42 (dk_at dksX0_eden_1 23 rfl rfl)
theorem dX0_eden_48 : decode cX0_eden 48 = .ok (.getfield 90, 3) := dk_180 0 90 (dk_at dksX0_eden_2 0 rfl rfl)
theorem dX0_eden_51 : decode cX0_eden 51 = .ok (.aload_n 0, 1) := dk_42 (dk_at dksX0_eden_2 3 rfl rfl)
theorem dX0_eden_52 : decode cX0_eden 52 = .ok (.iload_n 3, 1) := dk_29 (dk_at dksX0_eden_2 4 rfl rfl)
theorem dX0_eden_53 : decode cX0_eden 53 = .ok (.iload_n 1, 1) := dk_27 (dk_at dksX0_eden_2 5 rfl rfl)
theorem dX0_eden_54 : decode cX0_eden 54 = .ok (.invokevirtual 228, 3) := dk_182 0 228 (dk_at dksX0_eden_2 6 rfl rfl)
theorem dX0_eden_57 : decode cX0_eden 57 = .ok (.iconst 1, 1) := dk_4 (dk_at dksX0_eden_2 9 rfl rfl)
theorem dX0_eden_58 : decode cX0_eden 58 = .ok (.bastore, 1) := dk_84 (dk_at dksX0_eden_2 10 rfl rfl)
theorem dX0_eden_59 : decode cX0_eden 59 = .ok (.iinc 3 1, 3) := dk_132 3 1 (dk_at dksX0_eden_2 11 rfl rfl)
theorem dX0_eden_62 : decode cX0_eden 62 = .ok (.goto (-23), 3) := dk_167 255 233 (dk_at dksX0_eden_2 14 rfl rfl)
theorem dX0_eden_65 : decode cX0_eden 65 = .ok (.iconst 0, 1) := dk_3 (dk_at dksX0_eden_2 17 rfl rfl)
theorem dX0_eden_66 : decode cX0_eden 66 = .ok (.istore_n 3, 1) := dk_62 (dk_at dksX0_eden_2 18 rfl rfl)
theorem dX0_eden_67 : decode cX0_eden 67 = .ok (.iload_n 3, 1) := dk_29 (dk_at dksX0_eden_2 19 rfl rfl)
theorem dX0_eden_68 : decode cX0_eden 68 = .ok (.aload_n 0, 1) := dk_42 (dk_at dksX0_eden_2 20 rfl rfl)
theorem dX0_eden_69 : decode cX0_eden 69 = .ok (.invokevirtual 154, 3) := dk_182 0 154 (dk_at dksX0_eden_2 21 rfl rfl)
theorem dX0_eden_72 : decode cX0_eden 72 = .ok (.if_icmp .ge 26, 3) := dk_162 0 26 (dk_at dksX0_eden_3 0 rfl rfl)
theorem dX0_eden_75 : decode cX0_eden 75 = .ok (.iload_n 2, 1) := dk_28 (dk_at dksX0_eden_3 3 rfl rfl)
theorem dX0_eden_76 : decode cX0_eden 76 = .ok (.aload_n 0, 1) := dk_42 (dk_at dksX0_eden_3 4 rfl rfl)
theorem dX0_eden_77 : decode cX0_eden 77 = .ok (.getfield 90, 3) := dk_180 0 90 (dk_at dksX0_eden_3 5 rfl rfl)
theorem dX0_eden_80 : decode cX0_eden 80 = .ok (.iload_n 3, 1) := dk_29 (dk_at dksX0_eden_3 8 rfl rfl)
theorem dX0_eden_81 : decode cX0_eden 81 = .ok (.baload, 1) := dk_51 (dk_at dksX0_eden_3 9 rfl rfl)
theorem dX0_eden_82 : decode cX0_eden 82 = .ok (.ifCond .eq 7, 3) := dk_153 0 7 (dk_at dksX0_eden_3 10 rfl rfl)
theorem dX0_eden_85 : decode cX0_eden 85 = .ok (.iconst 0, 1) := dk_3 (dk_at dksX0_eden_3 13 rfl rfl)
theorem dX0_eden_86 : decode cX0_eden 86 = .ok (.goto 4, 3) := dk_167 0 4 (dk_at dksX0_eden_3 14 rfl rfl)
theorem dX0_eden_89 : decode cX0_eden 89 = .ok (.iconst 1, 1) := dk_4 (dk_at dksX0_eden_3 17 rfl rfl)
theorem dX0_eden_90 : decode cX0_eden 90 = .ok (.iadd, 1) := dk_96 (dk_at dksX0_eden_3 18 rfl rfl)
theorem dX0_eden_91 : decode cX0_eden 91 = .ok (.istore_n 2, 1) := dk_61 (dk_at dksX0_eden_3 19 rfl rfl)
theorem dX0_eden_92 : decode cX0_eden 92 = .ok (.iinc 3 1, 3) := dk_132 3 1 (dk_at dksX0_eden_3 20 rfl rfl)
theorem dX0_eden_95 : decode cX0_eden 95 = .ok (.goto (-28), 3) := dk_167 255 228 (dk_at dksX0_eden_4 0 rfl rfl)
theorem dX0_eden_98 : decode cX0_eden 98 = .ok (.iload_n 2, 1) := dk_28 (dk_at dksX0_eden_4 3 rfl rfl)
theorem dX0_eden_99 : decode cX0_eden 99 = .ok (.ireturn, 1) := dk_172 (dk_at dksX0_eden_4 4 rfl rfl)
abbrev cX0_duel : ByteArray := prog_1_method_43_code
def yX0_duel : MethodName := ⟨RX0, "duel", "(II)I"⟩
def dkwX0_duel_4 : List UInt8 := [21, 4, 172]
abbrev dktX0_duel_4 : List UInt8 := dkwX0_duel_4 ++ []
def dkwX0_duel_3 : List UInt8 := [21, 6, 54, 4, 132, 5, 1, 167, 255, 208, 29, 155, 0, 8, 28, 4, 160, 0, 7, 29, 167, 0, 5]
abbrev dktX0_duel_3 : List UInt8 := dkwX0_duel_3 ++ dktX0_duel_4
def dkwX0_duel_2 : List UInt8 := [21, 5, 120, 130, 27, 182, 1, 4, 54, 6, 21, 6, 21, 4, 161, 0, 6, 167, 0, 10, 21, 5, 62]
abbrev dktX0_duel_2 : List UInt8 := dkwX0_duel_2 ++ dktX0_duel_3
def dkwX0_duel_1 : List UInt8 := [54, 4, 3, 54, 5, 21, 5, 42, 182, 0, 145, 162, 0, 45, 42, 42, 180, 0, 59, 180, 0, 200, 4]
abbrev dktX0_duel_1 : List UInt8 := dkwX0_duel_1 ++ dktX0_duel_2
def dkwX0_duel_0 : List UInt8 := [27, 184, 0, 231, 153, 0, 12, 28, 3, 4, 184, 0, 146, 154, 0, 5, 2, 172, 16, 254, 62, 18, 234]
abbrev dktX0_duel_0 : List UInt8 := dkwX0_duel_0 ++ dktX0_duel_1
theorem dksX0_duel_0 : cX0_duel.data.toList.drop 0 = dktX0_duel_0 := by decide +kernel
theorem dksX0_duel_1 : cX0_duel.data.toList.drop 23 = dktX0_duel_1 := dk_seg dksX0_duel_0 23 rfl rfl
theorem dksX0_duel_2 : cX0_duel.data.toList.drop 46 = dktX0_duel_2 := dk_seg dksX0_duel_1 23 rfl rfl
theorem dksX0_duel_3 : cX0_duel.data.toList.drop 69 = dktX0_duel_3 := dk_seg dksX0_duel_2 23 rfl rfl
theorem dksX0_duel_4 : cX0_duel.data.toList.drop 92 = dktX0_duel_4 := dk_seg dksX0_duel_3 23 rfl rfl
theorem dX0_duel_0 : decode cX0_duel 0 = .ok (.iload_n 1, 1) := dk_27 (dk_at dksX0_duel_0 0 rfl rfl)
theorem dX0_duel_1 : decode cX0_duel 1 = .ok (.invokestatic 231, 3) := dk_184 0 231 (dk_at dksX0_duel_0 1 rfl rfl)
theorem dX0_duel_4 : decode cX0_duel 4 = .ok (.ifCond .eq 12, 3) := dk_153 0 12 (dk_at dksX0_duel_0 4 rfl rfl)
theorem dX0_duel_7 : decode cX0_duel 7 = .ok (.iload_n 2, 1) := dk_28 (dk_at dksX0_duel_0 7 rfl rfl)
theorem dX0_duel_8 : decode cX0_duel 8 = .ok (.iconst 0, 1) := dk_3 (dk_at dksX0_duel_0 8 rfl rfl)
theorem dX0_duel_9 : decode cX0_duel 9 = .ok (.iconst 1, 1) := dk_4 (dk_at dksX0_duel_0 9 rfl rfl)
theorem dX0_duel_10 : decode cX0_duel 10 = .ok (.invokestatic 146, 3) := dk_184 0 146 (dk_at dksX0_duel_0 10 rfl rfl)
theorem dX0_duel_13 : decode cX0_duel 13 = .ok (.ifCond .ne 5, 3) := dk_154 0 5 (dk_at dksX0_duel_0 13 rfl rfl)
theorem dX0_duel_16 : decode cX0_duel 16 = .ok (.iconst (-1), 1) := dk_2 (dk_at dksX0_duel_0 16 rfl rfl)
theorem dX0_duel_17 : decode cX0_duel 17 = .ok (.ireturn, 1) := dk_172 (dk_at dksX0_duel_0 17 rfl rfl)
theorem dX0_duel_18 : decode cX0_duel 18 = .ok (.bipush (-2), 2) := dk_16 254 (dk_at dksX0_duel_0 18 rfl rfl)
theorem dX0_duel_20 : decode cX0_duel 20 = .ok (.istore_n 3, 1) := dk_62 (dk_at dksX0_duel_0 20 rfl rfl)
theorem dX0_duel_21 : decode cX0_duel 21 = .ok (.ldc 234, 2) := dk_18 234 (dk_at dksX0_duel_0 21 rfl rfl)
theorem dX0_duel_23 : decode cX0_duel 23 = .ok (.istore 4, 2) := dk_54 4 (dk_at dksX0_duel_1 0 rfl rfl)
theorem dX0_duel_25 : decode cX0_duel 25 = .ok (.iconst 0, 1) := dk_3 (dk_at dksX0_duel_1 2 rfl rfl)
theorem dX0_duel_26 : decode cX0_duel 26 = .ok (.istore 5, 2) := dk_54 5 (dk_at dksX0_duel_1 3 rfl rfl)
theorem dX0_duel_28 : decode cX0_duel 28 = .ok (.iload 5, 2) := dk_21 5 (dk_at dksX0_duel_1 5 rfl rfl)
theorem dX0_duel_30 : decode cX0_duel 30 = .ok (.aload_n 0, 1) := dk_42 (dk_at dksX0_duel_1 7 rfl rfl)
theorem dX0_duel_31 : decode cX0_duel 31 = .ok (.invokevirtual 145, 3) := dk_182 0 145 (dk_at dksX0_duel_1 8 rfl rfl)
theorem dX0_duel_34 : decode cX0_duel 34 = .ok (.if_icmp .ge 45, 3) := dk_162 0 45 (dk_at dksX0_duel_1 11 rfl rfl)
theorem dX0_duel_37 : decode cX0_duel 37 = .ok (.aload_n 0, 1) := dk_42 (dk_at dksX0_duel_1 14 rfl rfl)
theorem dX0_duel_38 : decode cX0_duel 38 = .ok (.aload_n 0, 1) := dk_42 (dk_at dksX0_duel_1 15 rfl rfl)
theorem dX0_duel_39 : decode cX0_duel 39 = .ok (.getfield 59, 3) := dk_180 0 59 (dk_at dksX0_duel_1 16 rfl rfl)
theorem dX0_duel_42 : decode cX0_duel 42 = .ok (.getfield 200, 3) := dk_180 0 200 (dk_at dksX0_duel_1 19 rfl rfl)
theorem dX0_duel_45 : decode cX0_duel 45 = .ok (.iconst 1, 1) := dk_4 (dk_at dksX0_duel_1 22 rfl rfl)
theorem dX0_duel_46 : decode cX0_duel 46 = .ok (.iload 5, 2) := dk_21 5 (dk_at dksX0_duel_2 0 rfl rfl)
theorem dX0_duel_48 : decode cX0_duel 48 = .ok (.ishl, 1) := dk_120 (dk_at dksX0_duel_2 2 rfl rfl)
theorem dX0_duel_49 : decode cX0_duel 49 = .ok (.ixor, 1) := dk_130 (dk_at dksX0_duel_2 3 rfl rfl)
theorem dX0_duel_50 : decode cX0_duel 50 = .ok (.iload_n 1, 1) := dk_27 (dk_at dksX0_duel_2 4 rfl rfl)
theorem dX0_duel_51 : decode cX0_duel 51 = .ok (.invokevirtual 260, 3) := dk_182 1 4 (dk_at dksX0_duel_2 5 rfl rfl)
theorem dX0_duel_54 : decode cX0_duel 54 = .ok (.istore 6, 2) := dk_54 6 (dk_at dksX0_duel_2 8 rfl rfl)
theorem dX0_duel_56 : decode cX0_duel 56 = .ok (.iload 6, 2) := dk_21 6 (dk_at dksX0_duel_2 10 rfl rfl)
theorem dX0_duel_58 : decode cX0_duel 58 = .ok (.iload 4, 2) := dk_21 4 (dk_at dksX0_duel_2 12 rfl rfl)
theorem dX0_duel_60 : decode cX0_duel 60 = .ok (.if_icmp .lt 6, 3) := dk_161 0 6 (dk_at dksX0_duel_2 14 rfl rfl)
theorem dX0_duel_63 : decode cX0_duel 63 = .ok (.goto 10, 3) := dk_167 0 10 (dk_at dksX0_duel_2 17 rfl rfl)
theorem dX0_duel_66 : decode cX0_duel 66 = .ok (.iload 5, 2) := dk_21 5 (dk_at dksX0_duel_2 20 rfl rfl)
theorem dX0_duel_68 : decode cX0_duel 68 = .ok (.istore_n 3, 1) := dk_62 (dk_at dksX0_duel_2 22 rfl rfl)
theorem dX0_duel_69 : decode cX0_duel 69 = .ok (.iload 6, 2) := dk_21 6 (dk_at dksX0_duel_3 0 rfl rfl)
theorem dX0_duel_71 : decode cX0_duel 71 = .ok (.istore 4, 2) := dk_54 4 (dk_at dksX0_duel_3 2 rfl rfl)
theorem dX0_duel_73 : decode cX0_duel 73 = .ok (.iinc 5 1, 3) := dk_132 5 1 (dk_at dksX0_duel_3 4 rfl rfl)
theorem dX0_duel_76 : decode cX0_duel 76 = .ok (.goto (-48), 3) := dk_167 255 208 (dk_at dksX0_duel_3 7 rfl rfl)
theorem dX0_duel_79 : decode cX0_duel 79 = .ok (.iload_n 3, 1) := dk_29 (dk_at dksX0_duel_3 10 rfl rfl)
theorem dX0_duel_80 : decode cX0_duel 80 = .ok (.ifCond .lt 8, 3) := dk_155 0 8 (dk_at dksX0_duel_3 11 rfl rfl)
theorem dX0_duel_83 : decode cX0_duel 83 = .ok (.iload_n 2, 1) := dk_28 (dk_at dksX0_duel_3 14 rfl rfl)
theorem dX0_duel_84 : decode cX0_duel 84 = .ok (.iconst 1, 1) := dk_4 (dk_at dksX0_duel_3 15 rfl rfl)
theorem dX0_duel_85 : decode cX0_duel 85 = .ok (.if_icmp .ne 7, 3) := dk_160 0 7 (dk_at dksX0_duel_3 16 rfl rfl)
theorem dX0_duel_88 : decode cX0_duel 88 = .ok (.iload_n 3, 1) := dk_29 (dk_at dksX0_duel_3 19 rfl rfl)
theorem dX0_duel_89 : decode cX0_duel 89 = .ok (.goto 5, 3) := dk_167 0 5 (dk_at dksX0_duel_3 20 rfl rfl)
theorem dX0_duel_92 : decode cX0_duel 92 = .ok (.iload 4, 2) := dk_21 4 (dk_at dksX0_duel_4 0 rfl rfl)
theorem dX0_duel_94 : decode cX0_duel 94 = .ok (.ireturn, 1) := dk_172 (dk_at dksX0_duel_4 2 rfl rfl)
abbrev cX0_mostOf : ByteArray := prog_1_method_42_code
def yX0_mostOf : MethodName := ⟨RX0, "mostOf", "(II)I"⟩
def dkwX0_mostOf_2 : List UInt8 := [172]
abbrev dktX0_mostOf_2 : List UInt8 := dkwX0_mostOf_2 ++ []
def dkwX0_mostOf_1 : List UInt8 := [27, 4, 21, 4, 120, 130, 28, 182, 0, 228, 184, 0, 239, 184, 0, 13, 62, 132, 4, 1, 167, 255, 225, 29]
abbrev dktX0_mostOf_1 : List UInt8 := dkwX0_mostOf_1 ++ dktX0_mostOf_2
def dkwX0_mostOf_0 : List UInt8 := [42, 27, 28, 182, 0, 228, 184, 0, 239, 62, 3, 54, 4, 21, 4, 42, 182, 0, 145, 162, 0, 28, 29, 42]
abbrev dktX0_mostOf_0 : List UInt8 := dkwX0_mostOf_0 ++ dktX0_mostOf_1
theorem dksX0_mostOf_0 : cX0_mostOf.data.toList.drop 0 = dktX0_mostOf_0 := by decide +kernel
theorem dksX0_mostOf_1 : cX0_mostOf.data.toList.drop 24 = dktX0_mostOf_1 := dk_seg dksX0_mostOf_0 24 rfl rfl
theorem dksX0_mostOf_2 : cX0_mostOf.data.toList.drop 48 = dktX0_mostOf_2 := dk_seg dksX0_mostOf_1 24 rfl rfl
theorem dX0_mostOf_0 : decode cX0_mostOf 0 = .ok (.aload_n 0, 1) := dk_42 (dk_at dksX0_mostOf_0 0 rfl rfl)
theorem dX0_mostOf_1 : decode cX0_mostOf 1 = .ok (.iload_n 1, 1) := dk_27 (dk_at dksX0_mostOf_0 1 rfl rfl)
theorem dX0_mostOf_2 : decode cX0_mostOf 2 = .ok (.iload_n 2, 1) := dk_28 (dk_at dksX0_mostOf_0 2 rfl rfl)
theorem dX0_mostOf_3 : decode cX0_mostOf 3 = .ok (.invokevirtual 228, 3) := dk_182 0 228 (dk_at dksX0_mostOf_0 3 rfl rfl)
theorem dX0_mostOf_6 : decode cX0_mostOf 6 = .ok (.invokestatic 239, 3) := dk_184 0 239 (dk_at dksX0_mostOf_0 6 rfl rfl)
theorem dX0_mostOf_9 : decode cX0_mostOf 9 = .ok (.istore_n 3, 1) := dk_62 (dk_at dksX0_mostOf_0 9 rfl rfl)
theorem dX0_mostOf_10 : decode cX0_mostOf 10 = .ok (.iconst 0, 1) := dk_3 (dk_at dksX0_mostOf_0 10 rfl rfl)
theorem dX0_mostOf_11 : decode cX0_mostOf 11 = .ok (.istore 4, 2) := dk_54 4 (dk_at dksX0_mostOf_0 11 rfl rfl)
theorem dX0_mostOf_13 : decode cX0_mostOf 13 = .ok (.iload 4, 2) := dk_21 4 (dk_at dksX0_mostOf_0 13 rfl rfl)
theorem dX0_mostOf_15 : decode cX0_mostOf 15 = .ok (.aload_n 0, 1) := dk_42 (dk_at dksX0_mostOf_0 15 rfl rfl)
theorem dX0_mostOf_16 : decode cX0_mostOf 16 = .ok (.invokevirtual 145, 3) := dk_182 0 145 (dk_at dksX0_mostOf_0 16 rfl rfl)
theorem dX0_mostOf_19 : decode cX0_mostOf 19 = .ok (.if_icmp .ge 28, 3) := dk_162 0 28 (dk_at dksX0_mostOf_0 19 rfl rfl)
theorem dX0_mostOf_22 : decode cX0_mostOf 22 = .ok (.iload_n 3, 1) := dk_29 (dk_at dksX0_mostOf_0 22 rfl rfl)
theorem dX0_mostOf_23 : decode cX0_mostOf 23 = .ok (.aload_n 0, 1) := dk_42 (dk_at dksX0_mostOf_0 23 rfl rfl)
theorem dX0_mostOf_24 : decode cX0_mostOf 24 = .ok (.iload_n 1, 1) := dk_27 (dk_at dksX0_mostOf_1 0 rfl rfl)
theorem dX0_mostOf_25 : decode cX0_mostOf 25 = .ok (.iconst 1, 1) := dk_4 (dk_at dksX0_mostOf_1 1 rfl rfl)
theorem dX0_mostOf_26 : decode cX0_mostOf 26 = .ok (.iload 4, 2) := dk_21 4 (dk_at dksX0_mostOf_1 2 rfl rfl)
theorem dX0_mostOf_28 : decode cX0_mostOf 28 = .ok (.ishl, 1) := dk_120 (dk_at dksX0_mostOf_1 4 rfl rfl)
theorem dX0_mostOf_29 : decode cX0_mostOf 29 = .ok (.ixor, 1) := dk_130 (dk_at dksX0_mostOf_1 5 rfl rfl)
theorem dX0_mostOf_30 : decode cX0_mostOf 30 = .ok (.iload_n 2, 1) := dk_28 (dk_at dksX0_mostOf_1 6 rfl rfl)
theorem dX0_mostOf_31 : decode cX0_mostOf 31 = .ok (.invokevirtual 228, 3) := dk_182 0 228 (dk_at dksX0_mostOf_1 7 rfl rfl)
theorem dX0_mostOf_34 : decode cX0_mostOf 34 = .ok (.invokestatic 239, 3) := dk_184 0 239 (dk_at dksX0_mostOf_1 10 rfl rfl)
theorem dX0_mostOf_37 : decode cX0_mostOf 37 = .ok (.invokestatic 13, 3) := dk_184 0 13 (dk_at dksX0_mostOf_1 13 rfl rfl)
theorem dX0_mostOf_40 : decode cX0_mostOf 40 = .ok (.istore_n 3, 1) := dk_62 (dk_at dksX0_mostOf_1 16 rfl rfl)
theorem dX0_mostOf_41 : decode cX0_mostOf 41 = .ok (.iinc 4 1, 3) := dk_132 4 1 (dk_at dksX0_mostOf_1 17 rfl rfl)
theorem dX0_mostOf_44 : decode cX0_mostOf 44 = .ok (.goto (-31), 3) := dk_167 255 225 (dk_at dksX0_mostOf_1 20 rfl rfl)
theorem dX0_mostOf_47 : decode cX0_mostOf 47 = .ok (.iload_n 3, 1) := dk_29 (dk_at dksX0_mostOf_1 23 rfl rfl)
theorem dX0_mostOf_48 : decode cX0_mostOf 48 = .ok (.ireturn, 1) := dk_172 (dk_at dksX0_mostOf_2 0 rfl rfl)
abbrev cX0_sentry : ByteArray := prog_1_method_45_code
def yX0_sentry : MethodName := ⟨RX0, "sentry", "(II)I"⟩
def dkwX0_sentry_3 : List UInt8 := [155, 0, 7, 28, 154, 0, 7, 29, 167, 0, 5, 21, 4, 172]
abbrev dktX0_sentry_3 : List UInt8 := dkwX0_sentry_3 ++ []
def dkwX0_sentry_2 : List UInt8 := [21, 4, 163, 0, 6, 167, 0, 10, 21, 5, 62, 21, 6, 54, 4, 132, 5, 1, 167, 255, 218, 29]
abbrev dktX0_sentry_2 : List UInt8 := dkwX0_sentry_2 ++ dktX0_sentry_3
def dkwX0_sentry_1 : List UInt8 := [3, 54, 5, 21, 5, 42, 182, 0, 145, 162, 0, 35, 42, 21, 5, 27, 182, 1, 7, 54, 6, 21, 6]
abbrev dktX0_sentry_1 : List UInt8 := dkwX0_sentry_1 ++ dktX0_sentry_2
def dkwX0_sentry_0 : List UInt8 := [27, 184, 0, 231, 153, 0, 12, 28, 3, 4, 184, 0, 146, 154, 0, 5, 2, 172, 16, 254, 62, 2, 54, 4]
abbrev dktX0_sentry_0 : List UInt8 := dkwX0_sentry_0 ++ dktX0_sentry_1
theorem dksX0_sentry_0 : cX0_sentry.data.toList.drop 0 = dktX0_sentry_0 := by decide +kernel
theorem dksX0_sentry_1 : cX0_sentry.data.toList.drop 24 = dktX0_sentry_1 := dk_seg dksX0_sentry_0 24 rfl rfl
theorem dksX0_sentry_2 : cX0_sentry.data.toList.drop 47 = dktX0_sentry_2 := dk_seg dksX0_sentry_1 23 rfl rfl
theorem dksX0_sentry_3 : cX0_sentry.data.toList.drop 69 = dktX0_sentry_3 := dk_seg dksX0_sentry_2 22 rfl rfl
theorem dX0_sentry_0 : decode cX0_sentry 0 = .ok (.iload_n 1, 1) := dk_27 (dk_at dksX0_sentry_0 0 rfl rfl)
theorem dX0_sentry_1 : decode cX0_sentry 1 = .ok (.invokestatic 231, 3) := dk_184 0 231 (dk_at dksX0_sentry_0 1 rfl rfl)
theorem dX0_sentry_4 : decode cX0_sentry 4 = .ok (.ifCond .eq 12, 3) := dk_153 0 12 (dk_at dksX0_sentry_0 4 rfl rfl)
theorem dX0_sentry_7 : decode cX0_sentry 7 = .ok (.iload_n 2, 1) := dk_28 (dk_at dksX0_sentry_0 7 rfl rfl)
theorem dX0_sentry_8 : decode cX0_sentry 8 = .ok (.iconst 0, 1) := dk_3 (dk_at dksX0_sentry_0 8 rfl rfl)
theorem dX0_sentry_9 : decode cX0_sentry 9 = .ok (.iconst 1, 1) := dk_4 (dk_at dksX0_sentry_0 9 rfl rfl)
theorem dX0_sentry_10 : decode cX0_sentry 10 = .ok (.invokestatic 146, 3) := dk_184 0 146 (dk_at dksX0_sentry_0 10 rfl rfl)
theorem dX0_sentry_13 : decode cX0_sentry 13 = .ok (.ifCond .ne 5, 3) := dk_154 0 5 (dk_at dksX0_sentry_0 13 rfl rfl)
theorem dX0_sentry_16 : decode cX0_sentry 16 = .ok (.iconst (-1), 1) := dk_2 (dk_at dksX0_sentry_0 16 rfl rfl)
theorem dX0_sentry_17 : decode cX0_sentry 17 = .ok (.ireturn, 1) := dk_172 (dk_at dksX0_sentry_0 17 rfl rfl)
theorem dX0_sentry_18 : decode cX0_sentry 18 = .ok (.bipush (-2), 2) := dk_16 254 (dk_at dksX0_sentry_0 18 rfl rfl)
theorem dX0_sentry_20 : decode cX0_sentry 20 = .ok (.istore_n 3, 1) := dk_62 (dk_at dksX0_sentry_0 20 rfl rfl)
theorem dX0_sentry_21 : decode cX0_sentry 21 = .ok (.iconst (-1), 1) := dk_2 (dk_at dksX0_sentry_0 21 rfl rfl)
theorem dX0_sentry_22 : decode cX0_sentry 22 = .ok (.istore 4, 2) := dk_54 4 (dk_at dksX0_sentry_0 22 rfl rfl)
theorem dX0_sentry_24 : decode cX0_sentry 24 = .ok (.iconst 0, 1) := dk_3 (dk_at dksX0_sentry_1 0 rfl rfl)
theorem dX0_sentry_25 : decode cX0_sentry 25 = .ok (.istore 5, 2) := dk_54 5 (dk_at dksX0_sentry_1 1 rfl rfl)
theorem dX0_sentry_27 : decode cX0_sentry 27 = .ok (.iload 5, 2) := dk_21 5 (dk_at dksX0_sentry_1 3 rfl rfl)
theorem dX0_sentry_29 : decode cX0_sentry 29 = .ok (.aload_n 0, 1) := dk_42 (dk_at dksX0_sentry_1 5 rfl rfl)
theorem dX0_sentry_30 : decode cX0_sentry 30 = .ok (.invokevirtual 145, 3) := dk_182 0 145 (dk_at dksX0_sentry_1 6 rfl rfl)
theorem dX0_sentry_33 : decode cX0_sentry 33 = .ok (.if_icmp .ge 35, 3) := dk_162 0 35 (dk_at dksX0_sentry_1 9 rfl rfl)
theorem dX0_sentry_36 : decode cX0_sentry 36 = .ok (.aload_n 0, 1) := dk_42 (dk_at dksX0_sentry_1 12 rfl rfl)
theorem dX0_sentry_37 : decode cX0_sentry 37 = .ok (.iload 5, 2) := dk_21 5 (dk_at dksX0_sentry_1 13 rfl rfl)
theorem dX0_sentry_39 : decode cX0_sentry 39 = .ok (.iload_n 1, 1) := dk_27 (dk_at dksX0_sentry_1 15 rfl rfl)
theorem dX0_sentry_40 : decode cX0_sentry 40 = .ok (.invokevirtual 263, 3) := dk_182 1 7 (dk_at dksX0_sentry_1 16 rfl rfl)
theorem dX0_sentry_43 : decode cX0_sentry 43 = .ok (.istore 6, 2) := dk_54 6 (dk_at dksX0_sentry_1 19 rfl rfl)
theorem dX0_sentry_45 : decode cX0_sentry 45 = .ok (.iload 6, 2) := dk_21 6 (dk_at dksX0_sentry_1 21 rfl rfl)
theorem dX0_sentry_47 : decode cX0_sentry 47 = .ok (.iload 4, 2) := dk_21 4 (dk_at dksX0_sentry_2 0 rfl rfl)
theorem dX0_sentry_49 : decode cX0_sentry 49 = .ok (.if_icmp .gt 6, 3) := dk_163 0 6 (dk_at dksX0_sentry_2 2 rfl rfl)
theorem dX0_sentry_52 : decode cX0_sentry 52 = .ok (.goto 10, 3) := dk_167 0 10 (dk_at dksX0_sentry_2 5 rfl rfl)
theorem dX0_sentry_55 : decode cX0_sentry 55 = .ok (.iload 5, 2) := dk_21 5 (dk_at dksX0_sentry_2 8 rfl rfl)
theorem dX0_sentry_57 : decode cX0_sentry 57 = .ok (.istore_n 3, 1) := dk_62 (dk_at dksX0_sentry_2 10 rfl rfl)
theorem dX0_sentry_58 : decode cX0_sentry 58 = .ok (.iload 6, 2) := dk_21 6 (dk_at dksX0_sentry_2 11 rfl rfl)
theorem dX0_sentry_60 : decode cX0_sentry 60 = .ok (.istore 4, 2) := dk_54 4 (dk_at dksX0_sentry_2 13 rfl rfl)
theorem dX0_sentry_62 : decode cX0_sentry 62 = .ok (.iinc 5 1, 3) := dk_132 5 1 (dk_at dksX0_sentry_2 15 rfl rfl)
theorem dX0_sentry_65 : decode cX0_sentry 65 = .ok (.goto (-38), 3) := dk_167 255 218 (dk_at dksX0_sentry_2 18 rfl rfl)
theorem dX0_sentry_68 : decode cX0_sentry 68 = .ok (.iload_n 3, 1) := dk_29 (dk_at dksX0_sentry_2 21 rfl rfl)
theorem dX0_sentry_69 : decode cX0_sentry 69 = .ok (.ifCond .lt 7, 3) := dk_155 0 7 (dk_at dksX0_sentry_3 0 rfl rfl)
theorem dX0_sentry_72 : decode cX0_sentry 72 = .ok (.iload_n 2, 1) := dk_28 (dk_at dksX0_sentry_3 3 rfl rfl)
theorem dX0_sentry_73 : decode cX0_sentry 73 = .ok (.ifCond .ne 7, 3) := dk_154 0 7 (dk_at dksX0_sentry_3 4 rfl rfl)
theorem dX0_sentry_76 : decode cX0_sentry 76 = .ok (.iload_n 3, 1) := dk_29 (dk_at dksX0_sentry_3 7 rfl rfl)
theorem dX0_sentry_77 : decode cX0_sentry 77 = .ok (.goto 5, 3) := dk_167 0 5 (dk_at dksX0_sentry_3 8 rfl rfl)
theorem dX0_sentry_80 : decode cX0_sentry 80 = .ok (.iload 4, 2) := dk_21 4 (dk_at dksX0_sentry_3 11 rfl rfl)
theorem dX0_sentry_82 : decode cX0_sentry 82 = .ok (.ireturn, 1) := dk_172 (dk_at dksX0_sentry_3 13 rfl rfl)
abbrev cX0_worstBut : ByteArray := prog_1_method_44_code
def yX0_worstBut : MethodName := ⟨RX0, "worstBut", "(II)I"⟩
def dkwX0_worstBut_3 : List UInt8 := [62, 132, 4, 1, 167, 255, 213, 29, 172]
abbrev dktX0_worstBut_3 : List UInt8 := dkwX0_worstBut_3 ++ []
def dkwX0_worstBut_2 : List UInt8 := [29, 42, 42, 180, 0, 59, 180, 0, 200, 4, 21, 4, 120, 130, 28, 182, 0, 228, 184, 0, 239, 184, 0, 8]
abbrev dktX0_worstBut_2 : List UInt8 := dkwX0_worstBut_2 ++ dktX0_worstBut_3
def dkwX0_worstBut_1 : List UInt8 := [167, 0, 5, 18, 234, 62, 3, 54, 4, 21, 4, 42, 182, 0, 145, 162, 0, 40, 21, 4, 27, 159, 0, 28]
abbrev dktX0_worstBut_1 : List UInt8 := dkwX0_worstBut_1 ++ dktX0_worstBut_2
def dkwX0_worstBut_0 : List UInt8 := [42, 182, 0, 145, 4, 160, 0, 21, 42, 42, 180, 0, 59, 180, 0, 200, 28, 182, 0, 228, 184, 0, 239]
abbrev dktX0_worstBut_0 : List UInt8 := dkwX0_worstBut_0 ++ dktX0_worstBut_1
theorem dksX0_worstBut_0 : cX0_worstBut.data.toList.drop 0 = dktX0_worstBut_0 := by decide +kernel
theorem dksX0_worstBut_1 : cX0_worstBut.data.toList.drop 23 = dktX0_worstBut_1 := dk_seg dksX0_worstBut_0 23 rfl rfl
theorem dksX0_worstBut_2 : cX0_worstBut.data.toList.drop 47 = dktX0_worstBut_2 := dk_seg dksX0_worstBut_1 24 rfl rfl
theorem dksX0_worstBut_3 : cX0_worstBut.data.toList.drop 71 = dktX0_worstBut_3 := dk_seg dksX0_worstBut_2 24 rfl rfl
theorem dX0_worstBut_0 : decode cX0_worstBut 0 = .ok (.aload_n 0, 1) := dk_42 (dk_at dksX0_worstBut_0 0 rfl rfl)
theorem dX0_worstBut_1 : decode cX0_worstBut 1 = .ok (.invokevirtual 145, 3) := dk_182 0 145 (dk_at dksX0_worstBut_0 1 rfl rfl)
theorem dX0_worstBut_4 : decode cX0_worstBut 4 = .ok (.iconst 1, 1) := dk_4 (dk_at dksX0_worstBut_0 4 rfl rfl)
theorem dX0_worstBut_5 : decode cX0_worstBut 5 = .ok (.if_icmp .ne 21, 3) := dk_160 0 21 (dk_at dksX0_worstBut_0 5 rfl rfl)
theorem dX0_worstBut_8 : decode cX0_worstBut 8 = .ok (.aload_n 0, 1) := dk_42 (dk_at dksX0_worstBut_0 8 rfl rfl)
theorem dX0_worstBut_9 : decode cX0_worstBut 9 = .ok (.aload_n 0, 1) := dk_42 (dk_at dksX0_worstBut_0 9 rfl rfl)
theorem dX0_worstBut_10 : decode cX0_worstBut 10 = .ok (.getfield 59, 3) := dk_180 0 59 (dk_at dksX0_worstBut_0 10 rfl rfl)
theorem dX0_worstBut_13 : decode cX0_worstBut 13 = .ok (.getfield 200, 3) := dk_180 0 200 (dk_at dksX0_worstBut_0 13 rfl rfl)
theorem dX0_worstBut_16 : decode cX0_worstBut 16 = .ok (.iload_n 2, 1) := dk_28 (dk_at dksX0_worstBut_0 16 rfl rfl)
theorem dX0_worstBut_17 : decode cX0_worstBut 17 = .ok (.invokevirtual 228, 3) := dk_182 0 228 (dk_at dksX0_worstBut_0 17 rfl rfl)
theorem dX0_worstBut_20 : decode cX0_worstBut 20 = .ok (.invokestatic 239, 3) := dk_184 0 239 (dk_at dksX0_worstBut_0 20 rfl rfl)
theorem dX0_worstBut_23 : decode cX0_worstBut 23 = .ok (.goto 5, 3) := dk_167 0 5 (dk_at dksX0_worstBut_1 0 rfl rfl)
theorem dX0_worstBut_26 : decode cX0_worstBut 26 = .ok (.ldc 234, 2) := dk_18 234 (dk_at dksX0_worstBut_1 3 rfl rfl)
theorem dX0_worstBut_28 : decode cX0_worstBut 28 = .ok (.istore_n 3, 1) := dk_62 (dk_at dksX0_worstBut_1 5 rfl rfl)
theorem dX0_worstBut_29 : decode cX0_worstBut 29 = .ok (.iconst 0, 1) := dk_3 (dk_at dksX0_worstBut_1 6 rfl rfl)
theorem dX0_worstBut_30 : decode cX0_worstBut 30 = .ok (.istore 4, 2) := dk_54 4 (dk_at dksX0_worstBut_1 7 rfl rfl)
theorem dX0_worstBut_32 : decode cX0_worstBut 32 = .ok (.iload 4, 2) := dk_21 4 (dk_at dksX0_worstBut_1 9 rfl rfl)
theorem dX0_worstBut_34 : decode cX0_worstBut 34 = .ok (.aload_n 0, 1) := dk_42 (dk_at dksX0_worstBut_1 11 rfl rfl)
theorem dX0_worstBut_35 : decode cX0_worstBut 35 = .ok (.invokevirtual 145, 3) := dk_182 0 145 (dk_at dksX0_worstBut_1 12 rfl rfl)
theorem dX0_worstBut_38 : decode cX0_worstBut 38 = .ok (.if_icmp .ge 40, 3) := dk_162 0 40 (dk_at dksX0_worstBut_1 15 rfl rfl)
theorem dX0_worstBut_41 : decode cX0_worstBut 41 = .ok (.iload 4, 2) := dk_21 4 (dk_at dksX0_worstBut_1 18 rfl rfl)
theorem dX0_worstBut_43 : decode cX0_worstBut 43 = .ok (.iload_n 1, 1) := dk_27 (dk_at dksX0_worstBut_1 20 rfl rfl)
theorem dX0_worstBut_44 : decode cX0_worstBut 44 = .ok (.if_icmp .eq 28, 3) := dk_159 0 28 (dk_at dksX0_worstBut_1 21 rfl rfl)
theorem dX0_worstBut_47 : decode cX0_worstBut 47 = .ok (.iload_n 3, 1) := dk_29 (dk_at dksX0_worstBut_2 0 rfl rfl)
theorem dX0_worstBut_48 : decode cX0_worstBut 48 = .ok (.aload_n 0, 1) := dk_42 (dk_at dksX0_worstBut_2 1 rfl rfl)
theorem dX0_worstBut_49 : decode cX0_worstBut 49 = .ok (.aload_n 0, 1) := dk_42 (dk_at dksX0_worstBut_2 2 rfl rfl)
theorem dX0_worstBut_50 : decode cX0_worstBut 50 = .ok (.getfield 59, 3) := dk_180 0 59 (dk_at dksX0_worstBut_2 3 rfl rfl)
theorem dX0_worstBut_53 : decode cX0_worstBut 53 = .ok (.getfield 200, 3) := dk_180 0 200 (dk_at dksX0_worstBut_2 6 rfl rfl)
theorem dX0_worstBut_56 : decode cX0_worstBut 56 = .ok (.iconst 1, 1) := dk_4 (dk_at dksX0_worstBut_2 9 rfl rfl)
theorem dX0_worstBut_57 : decode cX0_worstBut 57 = .ok (.iload 4, 2) := dk_21 4 (dk_at dksX0_worstBut_2 10 rfl rfl)
theorem dX0_worstBut_59 : decode cX0_worstBut 59 = .ok (.ishl, 1) := dk_120 (dk_at dksX0_worstBut_2 12 rfl rfl)
theorem dX0_worstBut_60 : decode cX0_worstBut 60 = .ok (.ixor, 1) := dk_130 (dk_at dksX0_worstBut_2 13 rfl rfl)
theorem dX0_worstBut_61 : decode cX0_worstBut 61 = .ok (.iload_n 2, 1) := dk_28 (dk_at dksX0_worstBut_2 14 rfl rfl)
theorem dX0_worstBut_62 : decode cX0_worstBut 62 = .ok (.invokevirtual 228, 3) := dk_182 0 228 (dk_at dksX0_worstBut_2 15 rfl rfl)
theorem dX0_worstBut_65 : decode cX0_worstBut 65 = .ok (.invokestatic 239, 3) := dk_184 0 239 (dk_at dksX0_worstBut_2 18 rfl rfl)
theorem dX0_worstBut_68 : decode cX0_worstBut 68 = .ok (.invokestatic 8, 3) := dk_184 0 8 (dk_at dksX0_worstBut_2 21 rfl rfl)
theorem dX0_worstBut_71 : decode cX0_worstBut 71 = .ok (.istore_n 3, 1) := dk_62 (dk_at dksX0_worstBut_3 0 rfl rfl)
theorem dX0_worstBut_72 : decode cX0_worstBut 72 = .ok (.iinc 4 1, 3) := dk_132 4 1 (dk_at dksX0_worstBut_3 1 rfl rfl)
theorem dX0_worstBut_75 : decode cX0_worstBut 75 = .ok (.goto (-43), 3) := dk_167 255 213 (dk_at dksX0_worstBut_3 4 rfl rfl)
theorem dX0_worstBut_78 : decode cX0_worstBut 78 = .ok (.iload_n 3, 1) := dk_29 (dk_at dksX0_worstBut_3 7 rfl rfl)
theorem dX0_worstBut_79 : decode cX0_worstBut 79 = .ok (.ireturn, 1) := dk_172 (dk_at dksX0_worstBut_3 8 rfl rfl)
abbrev cX0_parting : ByteArray := prog_1_method_46_code
def yX0_parting : MethodName := ⟨RX0, "parting", "(I)I"⟩
def dkwX0_parting_3 : List UInt8 := [180, 0, 164, 28, 46, 172]
abbrev dktX0_parting_3 : List UInt8 := dkwX0_parting_3 ++ []
def dkwX0_parting_2 : List UInt8 := [46, 164, 0, 5, 29, 61, 132, 3, 1, 167, 255, 222, 27, 154, 0, 7, 28, 167, 0, 12, 42, 180, 0, 59]
abbrev dktX0_parting_2 : List UInt8 := dkwX0_parting_2 ++ dktX0_parting_3
def dkwX0_parting_1 : List UInt8 := [42, 182, 0, 145, 162, 0, 32, 42, 180, 0, 59, 180, 0, 164, 29, 46, 42, 180, 0, 59, 180, 0, 164, 28]
abbrev dktX0_parting_1 : List UInt8 := dkwX0_parting_1 ++ dktX0_parting_2
def dkwX0_parting_0 : List UInt8 := [27, 3, 4, 184, 0, 146, 153, 0, 10, 42, 182, 0, 145, 154, 0, 6, 18, 157, 172, 3, 61, 4, 62, 29]
abbrev dktX0_parting_0 : List UInt8 := dkwX0_parting_0 ++ dktX0_parting_1
theorem dksX0_parting_0 : cX0_parting.data.toList.drop 0 = dktX0_parting_0 := by decide +kernel
theorem dksX0_parting_1 : cX0_parting.data.toList.drop 24 = dktX0_parting_1 := dk_seg dksX0_parting_0 24 rfl rfl
theorem dksX0_parting_2 : cX0_parting.data.toList.drop 48 = dktX0_parting_2 := dk_seg dksX0_parting_1 24 rfl rfl
theorem dksX0_parting_3 : cX0_parting.data.toList.drop 72 = dktX0_parting_3 := dk_seg dksX0_parting_2 24 rfl rfl
theorem dX0_parting_0 : decode cX0_parting 0 = .ok (.iload_n 1, 1) := dk_27 (dk_at dksX0_parting_0 0 rfl rfl)
theorem dX0_parting_1 : decode cX0_parting 1 = .ok (.iconst 0, 1) := dk_3 (dk_at dksX0_parting_0 1 rfl rfl)
theorem dX0_parting_2 : decode cX0_parting 2 = .ok (.iconst 1, 1) := dk_4 (dk_at dksX0_parting_0 2 rfl rfl)
theorem dX0_parting_3 : decode cX0_parting 3 = .ok (.invokestatic 146, 3) := dk_184 0 146 (dk_at dksX0_parting_0 3 rfl rfl)
theorem dX0_parting_6 : decode cX0_parting 6 = .ok (.ifCond .eq 10, 3) := dk_153 0 10 (dk_at dksX0_parting_0 6 rfl rfl)
theorem dX0_parting_9 : decode cX0_parting 9 = .ok (.aload_n 0, 1) := dk_42 (dk_at dksX0_parting_0 9 rfl rfl)
theorem dX0_parting_10 : decode cX0_parting 10 = .ok (.invokevirtual 145, 3) := dk_182 0 145 (dk_at dksX0_parting_0 10 rfl rfl)
theorem dX0_parting_13 : decode cX0_parting 13 = .ok (.ifCond .ne 6, 3) := dk_154 0 6 (dk_at dksX0_parting_0 13 rfl rfl)
theorem dX0_parting_16 : decode cX0_parting 16 = .ok (.ldc 157, 2) := dk_18 157 (dk_at dksX0_parting_0 16 rfl rfl)
theorem dX0_parting_18 : decode cX0_parting 18 = .ok (.ireturn, 1) := dk_172 (dk_at dksX0_parting_0 18 rfl rfl)
theorem dX0_parting_19 : decode cX0_parting 19 = .ok (.iconst 0, 1) := dk_3 (dk_at dksX0_parting_0 19 rfl rfl)
theorem dX0_parting_20 : decode cX0_parting 20 = .ok (.istore_n 2, 1) := dk_61 (dk_at dksX0_parting_0 20 rfl rfl)
theorem dX0_parting_21 : decode cX0_parting 21 = .ok (.iconst 1, 1) := dk_4 (dk_at dksX0_parting_0 21 rfl rfl)
theorem dX0_parting_22 : decode cX0_parting 22 = .ok (.istore_n 3, 1) := dk_62 (dk_at dksX0_parting_0 22 rfl rfl)
theorem dX0_parting_23 : decode cX0_parting 23 = .ok (.iload_n 3, 1) := dk_29 (dk_at dksX0_parting_0 23 rfl rfl)
theorem dX0_parting_24 : decode cX0_parting 24 = .ok (.aload_n 0, 1) := dk_42 (dk_at dksX0_parting_1 0 rfl rfl)
theorem dX0_parting_25 : decode cX0_parting 25 = .ok (.invokevirtual 145, 3) := dk_182 0 145 (dk_at dksX0_parting_1 1 rfl rfl)
theorem dX0_parting_28 : decode cX0_parting 28 = .ok (.if_icmp .ge 32, 3) := dk_162 0 32 (dk_at dksX0_parting_1 4 rfl rfl)
theorem dX0_parting_31 : decode cX0_parting 31 = .ok (.aload_n 0, 1) := dk_42 (dk_at dksX0_parting_1 7 rfl rfl)
theorem dX0_parting_32 : decode cX0_parting 32 = .ok (.getfield 59, 3) := dk_180 0 59 (dk_at dksX0_parting_1 8 rfl rfl)
theorem dX0_parting_35 : decode cX0_parting 35 = .ok (.getfield 164, 3) := dk_180 0 164 (dk_at dksX0_parting_1 11 rfl rfl)
theorem dX0_parting_38 : decode cX0_parting 38 = .ok (.iload_n 3, 1) := dk_29 (dk_at dksX0_parting_1 14 rfl rfl)
theorem dX0_parting_39 : decode cX0_parting 39 = .ok (.iaload, 1) := dk_46 (dk_at dksX0_parting_1 15 rfl rfl)
theorem dX0_parting_40 : decode cX0_parting 40 = .ok (.aload_n 0, 1) := dk_42 (dk_at dksX0_parting_1 16 rfl rfl)
theorem dX0_parting_41 : decode cX0_parting 41 = .ok (.getfield 59, 3) := dk_180 0 59 (dk_at dksX0_parting_1 17 rfl rfl)
theorem dX0_parting_44 : decode cX0_parting 44 = .ok (.getfield 164, 3) := dk_180 0 164 (dk_at dksX0_parting_1 20 rfl rfl)
theorem dX0_parting_47 : decode cX0_parting 47 = .ok (.iload_n 2, 1) := dk_28 (dk_at dksX0_parting_1 23 rfl rfl)
theorem dX0_parting_48 : decode cX0_parting 48 = .ok (.iaload, 1) := dk_46 (dk_at dksX0_parting_2 0 rfl rfl)
theorem dX0_parting_49 : decode cX0_parting 49 = .ok (.if_icmp .le 5, 3) := dk_164 0 5 (dk_at dksX0_parting_2 1 rfl rfl)
theorem dX0_parting_52 : decode cX0_parting 52 = .ok (.iload_n 3, 1) := dk_29 (dk_at dksX0_parting_2 4 rfl rfl)
theorem dX0_parting_53 : decode cX0_parting 53 = .ok (.istore_n 2, 1) := dk_61 (dk_at dksX0_parting_2 5 rfl rfl)
theorem dX0_parting_54 : decode cX0_parting 54 = .ok (.iinc 3 1, 3) := dk_132 3 1 (dk_at dksX0_parting_2 6 rfl rfl)
theorem dX0_parting_57 : decode cX0_parting 57 = .ok (.goto (-34), 3) := dk_167 255 222 (dk_at dksX0_parting_2 9 rfl rfl)
theorem dX0_parting_60 : decode cX0_parting 60 = .ok (.iload_n 1, 1) := dk_27 (dk_at dksX0_parting_2 12 rfl rfl)
theorem dX0_parting_61 : decode cX0_parting 61 = .ok (.ifCond .ne 7, 3) := dk_154 0 7 (dk_at dksX0_parting_2 13 rfl rfl)
theorem dX0_parting_64 : decode cX0_parting 64 = .ok (.iload_n 2, 1) := dk_28 (dk_at dksX0_parting_2 16 rfl rfl)
theorem dX0_parting_65 : decode cX0_parting 65 = .ok (.goto 12, 3) := dk_167 0 12 (dk_at dksX0_parting_2 17 rfl rfl)
theorem dX0_parting_68 : decode cX0_parting 68 = .ok (.aload_n 0, 1) := dk_42 (dk_at dksX0_parting_2 20 rfl rfl)
theorem dX0_parting_69 : decode cX0_parting 69 = .ok (.getfield 59, 3) := dk_180 0 59 (dk_at dksX0_parting_2 21 rfl rfl)
theorem dX0_parting_72 : decode cX0_parting 72 = .ok (.getfield 164, 3) := dk_180 0 164 (dk_at dksX0_parting_3 0 rfl rfl)
theorem dX0_parting_75 : decode cX0_parting 75 = .ok (.iload_n 2, 1) := dk_28 (dk_at dksX0_parting_3 3 rfl rfl)
theorem dX0_parting_76 : decode cX0_parting 76 = .ok (.iaload, 1) := dk_46 (dk_at dksX0_parting_3 4 rfl rfl)
theorem dX0_parting_77 : decode cX0_parting 77 = .ok (.ireturn, 1) := dk_172 (dk_at dksX0_parting_3 5 rfl rfl)
abbrev cX0_shows : ByteArray := prog_1_method_47_code
def yX0_shows : MethodName := ⟨RX0, "shows", "(I)I"⟩
def dkwX0_shows_3 : List UInt8 := [28, 172]
abbrev dktX0_shows_3 : List UInt8 := dkwX0_shows_3 ++ []
def dkwX0_shows_2 : List UInt8 := [180, 0, 63, 180, 0, 164, 29, 46, 158, 0, 7, 4, 167, 0, 4, 3, 96, 61, 132, 3, 1, 167, 255, 225]
abbrev dktX0_shows_2 : List UInt8 := dkwX0_shows_2 ++ dktX0_shows_3
def dkwX0_shows_1 : List UInt8 := [180, 0, 63, 27, 42, 180, 0, 83, 182, 0, 218, 3, 62, 29, 42, 182, 0, 145, 162, 0, 29, 28, 42]
abbrev dktX0_shows_1 : List UInt8 := dkwX0_shows_1 ++ dktX0_shows_2
def dkwX0_shows_0 : List UInt8 := [27, 184, 0, 215, 154, 0, 5, 2, 172, 3, 61, 42, 180, 0, 63, 42, 180, 0, 59, 182, 0, 193, 42, 42]
abbrev dktX0_shows_0 : List UInt8 := dkwX0_shows_0 ++ dktX0_shows_1
theorem dksX0_shows_0 : cX0_shows.data.toList.drop 0 = dktX0_shows_0 := by decide +kernel
theorem dksX0_shows_1 : cX0_shows.data.toList.drop 24 = dktX0_shows_1 := dk_seg dksX0_shows_0 24 rfl rfl
theorem dksX0_shows_2 : cX0_shows.data.toList.drop 47 = dktX0_shows_2 := dk_seg dksX0_shows_1 23 rfl rfl
theorem dksX0_shows_3 : cX0_shows.data.toList.drop 71 = dktX0_shows_3 := dk_seg dksX0_shows_2 24 rfl rfl
theorem dX0_shows_0 : decode cX0_shows 0 = .ok (.iload_n 1, 1) := dk_27 (dk_at dksX0_shows_0 0 rfl rfl)
theorem dX0_shows_1 : decode cX0_shows 1 = .ok (.invokestatic 215, 3) := dk_184 0 215 (dk_at dksX0_shows_0 1 rfl rfl)
theorem dX0_shows_4 : decode cX0_shows 4 = .ok (.ifCond .ne 5, 3) := dk_154 0 5 (dk_at dksX0_shows_0 4 rfl rfl)
theorem dX0_shows_7 : decode cX0_shows 7 = .ok (.iconst (-1), 1) := dk_2 (dk_at dksX0_shows_0 7 rfl rfl)
theorem dX0_shows_8 : decode cX0_shows 8 = .ok (.ireturn, 1) := dk_172 (dk_at dksX0_shows_0 8 rfl rfl)
theorem dX0_shows_9 : decode cX0_shows 9 = .ok (.iconst 0, 1) := dk_3 (dk_at dksX0_shows_0 9 rfl rfl)
theorem dX0_shows_10 : decode cX0_shows 10 = .ok (.istore_n 2, 1) := dk_61 (dk_at dksX0_shows_0 10 rfl rfl)
theorem dX0_shows_11 : decode cX0_shows 11 = .ok (.aload_n 0, 1) := dk_42 (dk_at dksX0_shows_0 11 rfl rfl)
theorem dX0_shows_12 : decode cX0_shows 12 = .ok (.getfield 63, 3) := dk_180 0 63 (dk_at dksX0_shows_0 12 rfl rfl)
theorem dX0_shows_15 : decode cX0_shows 15 = .ok (.aload_n 0, 1) := dk_42 (dk_at dksX0_shows_0 15 rfl rfl)
theorem dX0_shows_16 : decode cX0_shows 16 = .ok (.getfield 59, 3) := dk_180 0 59 (dk_at dksX0_shows_0 16 rfl rfl)
theorem dX0_shows_19 : decode cX0_shows 19 = .ok (.invokevirtual 193, 3) := dk_182 0 193 (dk_at dksX0_shows_0 19 rfl rfl)
theorem dX0_shows_22 : decode cX0_shows 22 = .ok (.aload_n 0, 1) := dk_42 (dk_at dksX0_shows_0 22 rfl rfl)
theorem dX0_shows_23 : decode cX0_shows 23 = .ok (.aload_n 0, 1) := dk_42 (dk_at dksX0_shows_0 23 rfl rfl)
theorem dX0_shows_24 : decode cX0_shows 24 = .ok (.getfield 63, 3) := dk_180 0 63 (dk_at dksX0_shows_1 0 rfl rfl)
theorem dX0_shows_27 : decode cX0_shows 27 = .ok (.iload_n 1, 1) := dk_27 (dk_at dksX0_shows_1 3 rfl rfl)
theorem dX0_shows_28 : decode cX0_shows 28 = .ok (.aload_n 0, 1) := dk_42 (dk_at dksX0_shows_1 4 rfl rfl)
theorem dX0_shows_29 : decode cX0_shows 29 = .ok (.getfield 83, 3) := dk_180 0 83 (dk_at dksX0_shows_1 5 rfl rfl)
theorem dX0_shows_32 : decode cX0_shows 32 = .ok (.invokevirtual 218, 3) := dk_182 0 218 (dk_at dksX0_shows_1 8 rfl rfl)
theorem dX0_shows_35 : decode cX0_shows 35 = .ok (.iconst 0, 1) := dk_3 (dk_at dksX0_shows_1 11 rfl rfl)
theorem dX0_shows_36 : decode cX0_shows 36 = .ok (.istore_n 3, 1) := dk_62 (dk_at dksX0_shows_1 12 rfl rfl)
theorem dX0_shows_37 : decode cX0_shows 37 = .ok (.iload_n 3, 1) := dk_29 (dk_at dksX0_shows_1 13 rfl rfl)
theorem dX0_shows_38 : decode cX0_shows 38 = .ok (.aload_n 0, 1) := dk_42 (dk_at dksX0_shows_1 14 rfl rfl)
theorem dX0_shows_39 : decode cX0_shows 39 = .ok (.invokevirtual 145, 3) := dk_182 0 145 (dk_at dksX0_shows_1 15 rfl rfl)
theorem dX0_shows_42 : decode cX0_shows 42 = .ok (.if_icmp .ge 29, 3) := dk_162 0 29 (dk_at dksX0_shows_1 18 rfl rfl)
theorem dX0_shows_45 : decode cX0_shows 45 = .ok (.iload_n 2, 1) := dk_28 (dk_at dksX0_shows_1 21 rfl rfl)
theorem dX0_shows_46 : decode cX0_shows 46 = .ok (.aload_n 0, 1) := dk_42 (dk_at dksX0_shows_1 22 rfl rfl)
theorem dX0_shows_47 : decode cX0_shows 47 = .ok (.getfield 63, 3) := dk_180 0 63 (dk_at dksX0_shows_2 0 rfl rfl)
theorem dX0_shows_50 : decode cX0_shows 50 = .ok (.getfield 164, 3) := dk_180 0 164 (dk_at dksX0_shows_2 3 rfl rfl)
theorem dX0_shows_53 : decode cX0_shows 53 = .ok (.iload_n 3, 1) := dk_29 (dk_at dksX0_shows_2 6 rfl rfl)
theorem dX0_shows_54 : decode cX0_shows 54 = .ok (.iaload, 1) := dk_46 (dk_at dksX0_shows_2 7 rfl rfl)
theorem dX0_shows_55 : decode cX0_shows 55 = .ok (.ifCond .le 7, 3) := dk_158 0 7 (dk_at dksX0_shows_2 8 rfl rfl)
theorem dX0_shows_58 : decode cX0_shows 58 = .ok (.iconst 1, 1) := dk_4 (dk_at dksX0_shows_2 11 rfl rfl)
theorem dX0_shows_59 : decode cX0_shows 59 = .ok (.goto 4, 3) := dk_167 0 4 (dk_at dksX0_shows_2 12 rfl rfl)
theorem dX0_shows_62 : decode cX0_shows 62 = .ok (.iconst 0, 1) := dk_3 (dk_at dksX0_shows_2 15 rfl rfl)
theorem dX0_shows_63 : decode cX0_shows 63 = .ok (.iadd, 1) := dk_96 (dk_at dksX0_shows_2 16 rfl rfl)
theorem dX0_shows_64 : decode cX0_shows 64 = .ok (.istore_n 2, 1) := dk_61 (dk_at dksX0_shows_2 17 rfl rfl)
theorem dX0_shows_65 : decode cX0_shows 65 = .ok (.iinc 3 1, 3) := dk_132 3 1 (dk_at dksX0_shows_2 18 rfl rfl)
theorem dX0_shows_68 : decode cX0_shows 68 = .ok (.goto (-31), 3) := dk_167 255 225 (dk_at dksX0_shows_2 21 rfl rfl)
theorem dX0_shows_71 : decode cX0_shows 71 = .ok (.iload_n 2, 1) := dk_28 (dk_at dksX0_shows_3 0 rfl rfl)
theorem dX0_shows_72 : decode cX0_shows 72 = .ok (.ireturn, 1) := dk_172 (dk_at dksX0_shows_3 1 rfl rfl)
abbrev cX0_still : ByteArray := prog_1_method_48_code
def yX0_still : MethodName := ⟨RX0, "still", "(I)I"⟩
def dkwX0_still_4 : List UInt8 := [167, 0, 4, 29, 172]
abbrev dktX0_still_4 : List UInt8 := dkwX0_still_4 ++ []
def dkwX0_still_3 : List UInt8 := [161, 0, 6, 167, 0, 10, 21, 5, 62, 21, 6, 54, 4, 132, 5, 1, 167, 255, 194, 27, 154, 0, 7, 28]
abbrev dktX0_still_3 : List UInt8 := dkwX0_still_3 ++ dktX0_still_4
def dkwX0_still_2 : List UInt8 := [21, 5, 42, 180, 0, 59, 180, 0, 200, 130, 184, 0, 239, 54, 6, 132, 2, 1, 21, 6, 21, 4]
abbrev dktX0_still_2 : List UInt8 := dkwX0_still_2 ++ dktX0_still_3
def dkwX0_still_1 : List UInt8 := [21, 5, 42, 182, 0, 154, 162, 0, 59, 42, 21, 5, 4, 182, 0, 228, 21, 5, 159, 0, 6, 167, 0, 38]
abbrev dktX0_still_1 : List UInt8 := dkwX0_still_1 ++ dktX0_still_2
def dkwX0_still_0 : List UInt8 := [27, 3, 4, 184, 0, 146, 154, 0, 5, 2, 172, 3, 61, 16, 254, 62, 18, 234, 54, 4, 3, 54, 5]
abbrev dktX0_still_0 : List UInt8 := dkwX0_still_0 ++ dktX0_still_1
theorem dksX0_still_0 : cX0_still.data.toList.drop 0 = dktX0_still_0 := by decide +kernel
theorem dksX0_still_1 : cX0_still.data.toList.drop 23 = dktX0_still_1 := dk_seg dksX0_still_0 23 rfl rfl
theorem dksX0_still_2 : cX0_still.data.toList.drop 47 = dktX0_still_2 := dk_seg dksX0_still_1 24 rfl rfl
theorem dksX0_still_3 : cX0_still.data.toList.drop 69 = dktX0_still_3 := dk_seg dksX0_still_2 22 rfl rfl
theorem dksX0_still_4 : cX0_still.data.toList.drop 93 = dktX0_still_4 := dk_seg dksX0_still_3 24 rfl rfl
theorem dX0_still_0 : decode cX0_still 0 = .ok (.iload_n 1, 1) := dk_27 (dk_at dksX0_still_0 0 rfl rfl)
theorem dX0_still_1 : decode cX0_still 1 = .ok (.iconst 0, 1) := dk_3 (dk_at dksX0_still_0 1 rfl rfl)
theorem dX0_still_2 : decode cX0_still 2 = .ok (.iconst 1, 1) := dk_4 (dk_at dksX0_still_0 2 rfl rfl)
theorem dX0_still_3 : decode cX0_still 3 = .ok (.invokestatic 146, 3) := dk_184 0 146 (dk_at dksX0_still_0 3 rfl rfl)
theorem dX0_still_6 : decode cX0_still 6 = .ok (.ifCond .ne 5, 3) := dk_154 0 5 (dk_at dksX0_still_0 6 rfl rfl)
theorem dX0_still_9 : decode cX0_still 9 = .ok (.iconst (-1), 1) := dk_2 (dk_at dksX0_still_0 9 rfl rfl)
theorem dX0_still_10 : decode cX0_still 10 = .ok (.ireturn, 1) := dk_172 (dk_at dksX0_still_0 10 rfl rfl)
theorem dX0_still_11 : decode cX0_still 11 = .ok (.iconst 0, 1) := dk_3 (dk_at dksX0_still_0 11 rfl rfl)
theorem dX0_still_12 : decode cX0_still 12 = .ok (.istore_n 2, 1) := dk_61 (dk_at dksX0_still_0 12 rfl rfl)
theorem dX0_still_13 : decode cX0_still 13 = .ok (.bipush (-2), 2) := dk_16 254 (dk_at dksX0_still_0 13 rfl rfl)
theorem dX0_still_15 : decode cX0_still 15 = .ok (.istore_n 3, 1) := dk_62 (dk_at dksX0_still_0 15 rfl rfl)
theorem dX0_still_16 : decode cX0_still 16 = .ok (.ldc 234, 2) := dk_18 234 (dk_at dksX0_still_0 16 rfl rfl)
theorem dX0_still_18 : decode cX0_still 18 = .ok (.istore 4, 2) := dk_54 4 (dk_at dksX0_still_0 18 rfl rfl)
theorem dX0_still_20 : decode cX0_still 20 = .ok (.iconst 0, 1) := dk_3 (dk_at dksX0_still_0 20 rfl rfl)
theorem dX0_still_21 : decode cX0_still 21 = .ok (.istore 5, 2) := dk_54 5 (dk_at dksX0_still_0 21 rfl rfl)
theorem dX0_still_23 : decode cX0_still 23 = .ok (.iload 5, 2) := dk_21 5 (dk_at dksX0_still_1 0 rfl rfl)
theorem dX0_still_25 : decode cX0_still 25 = .ok (.aload_n 0, 1) := dk_42 (dk_at dksX0_still_1 2 rfl rfl)
theorem dX0_still_26 : decode cX0_still 26 = .ok (.invokevirtual 154, 3) := dk_182 0 154 (dk_at dksX0_still_1 3 rfl rfl)
theorem dX0_still_29 : decode cX0_still 29 = .ok (.if_icmp .ge 59, 3) := dk_162 0 59 (dk_at dksX0_still_1 6 rfl rfl)
theorem dX0_still_32 : decode cX0_still 32 = .ok (.aload_n 0, 1) := dk_42 (dk_at dksX0_still_1 9 rfl rfl)
theorem dX0_still_33 : decode cX0_still 33 = .ok (.iload 5, 2) := dk_21 5 (dk_at dksX0_still_1 10 rfl rfl)
theorem dX0_still_35 : decode cX0_still 35 = .ok (.iconst 1, 1) := dk_4 (dk_at dksX0_still_1 12 rfl rfl)
theorem dX0_still_36 : decode cX0_still 36 = .ok (.invokevirtual 228, 3) := dk_182 0 228 (dk_at dksX0_still_1 13 rfl rfl)
theorem dX0_still_39 : decode cX0_still 39 = .ok (.iload 5, 2) := dk_21 5 (dk_at dksX0_still_1 16 rfl rfl)
theorem dX0_still_41 : decode cX0_still 41 = .ok (.if_icmp .eq 6, 3) := dk_159 0 6 (dk_at dksX0_still_1 18 rfl rfl)
theorem dX0_still_44 : decode cX0_still 44 = .ok (.goto 38, 3) := dk_167 0 38 (dk_at dksX0_still_1 21 rfl rfl)
theorem dX0_still_47 : decode cX0_still 47 = .ok (.iload 5, 2) := dk_21 5 (dk_at dksX0_still_2 0 rfl rfl)
theorem dX0_still_49 : decode cX0_still 49 = .ok (.aload_n 0, 1) := dk_42 (dk_at dksX0_still_2 2 rfl rfl)
theorem dX0_still_50 : decode cX0_still 50 = .ok (.getfield 59, 3) := dk_180 0 59 (dk_at dksX0_still_2 3 rfl rfl)
theorem dX0_still_53 : decode cX0_still 53 = .ok (.getfield 200, 3) := dk_180 0 200 (dk_at dksX0_still_2 6 rfl rfl)
theorem dX0_still_56 : decode cX0_still 56 = .ok (.ixor, 1) := dk_130 (dk_at dksX0_still_2 9 rfl rfl)
theorem dX0_still_57 : decode cX0_still 57 = .ok (.invokestatic 239, 3) := dk_184 0 239 (dk_at dksX0_still_2 10 rfl rfl)
theorem dX0_still_60 : decode cX0_still 60 = .ok (.istore 6, 2) := dk_54 6 (dk_at dksX0_still_2 13 rfl rfl)
theorem dX0_still_62 : decode cX0_still 62 = .ok (.iinc 2 1, 3) := dk_132 2 1 (dk_at dksX0_still_2 15 rfl rfl)
theorem dX0_still_65 : decode cX0_still 65 = .ok (.iload 6, 2) := dk_21 6 (dk_at dksX0_still_2 18 rfl rfl)
theorem dX0_still_67 : decode cX0_still 67 = .ok (.iload 4, 2) := dk_21 4 (dk_at dksX0_still_2 20 rfl rfl)
theorem dX0_still_69 : decode cX0_still 69 = .ok (.if_icmp .lt 6, 3) := dk_161 0 6 (dk_at dksX0_still_3 0 rfl rfl)
theorem dX0_still_72 : decode cX0_still 72 = .ok (.goto 10, 3) := dk_167 0 10 (dk_at dksX0_still_3 3 rfl rfl)
theorem dX0_still_75 : decode cX0_still 75 = .ok (.iload 5, 2) := dk_21 5 (dk_at dksX0_still_3 6 rfl rfl)
theorem dX0_still_77 : decode cX0_still 77 = .ok (.istore_n 3, 1) := dk_62 (dk_at dksX0_still_3 8 rfl rfl)
theorem dX0_still_78 : decode cX0_still 78 = .ok (.iload 6, 2) := dk_21 6 (dk_at dksX0_still_3 9 rfl rfl)
theorem dX0_still_80 : decode cX0_still 80 = .ok (.istore 4, 2) := dk_54 4 (dk_at dksX0_still_3 11 rfl rfl)
theorem dX0_still_82 : decode cX0_still 82 = .ok (.iinc 5 1, 3) := dk_132 5 1 (dk_at dksX0_still_3 13 rfl rfl)
theorem dX0_still_85 : decode cX0_still 85 = .ok (.goto (-62), 3) := dk_167 255 194 (dk_at dksX0_still_3 16 rfl rfl)
theorem dX0_still_88 : decode cX0_still 88 = .ok (.iload_n 1, 1) := dk_27 (dk_at dksX0_still_3 19 rfl rfl)
theorem dX0_still_89 : decode cX0_still 89 = .ok (.ifCond .ne 7, 3) := dk_154 0 7 (dk_at dksX0_still_3 20 rfl rfl)
theorem dX0_still_92 : decode cX0_still 92 = .ok (.iload_n 2, 1) := dk_28 (dk_at dksX0_still_3 23 rfl rfl)
theorem dX0_still_93 : decode cX0_still 93 = .ok (.goto 4, 3) := dk_167 0 4 (dk_at dksX0_still_4 0 rfl rfl)
theorem dX0_still_96 : decode cX0_still 96 = .ok (.iload_n 3, 1) := dk_29 (dk_at dksX0_still_4 3 rfl rfl)
theorem dX0_still_97 : decode cX0_still 97 = .ok (.ireturn, 1) := dk_172 (dk_at dksX0_still_4 4 rfl rfl)
abbrev cX0_again : ByteArray := prog_1_method_49_code
def yX0_again : MethodName := ⟨RX0, "again", "()I"⟩
def dkwX0_again_2 : List UInt8 := [180, 0, 200, 160, 0, 5, 27, 172, 132, 1, 1, 167, 255, 212, 16, 254, 172]
abbrev dktX0_again_2 : List UInt8 := dkwX0_again_2 ++ []
def dkwX0_again_1 : List UInt8 := [42, 180, 0, 48, 42, 180, 0, 83, 182, 0, 211, 42, 180, 0, 63, 180, 0, 200, 42, 180, 0, 59]
abbrev dktX0_again_1 : List UInt8 := dkwX0_again_1 ++ dktX0_again_2
def dkwX0_again_0 : List UInt8 := [42, 180, 0, 63, 42, 180, 0, 59, 182, 0, 193, 4, 60, 27, 17, 0, 240, 163, 0, 43, 42, 180, 0, 63]
abbrev dktX0_again_0 : List UInt8 := dkwX0_again_0 ++ dktX0_again_1
theorem dksX0_again_0 : cX0_again.data.toList.drop 0 = dktX0_again_0 := by decide +kernel
theorem dksX0_again_1 : cX0_again.data.toList.drop 24 = dktX0_again_1 := dk_seg dksX0_again_0 24 rfl rfl
theorem dksX0_again_2 : cX0_again.data.toList.drop 46 = dktX0_again_2 := dk_seg dksX0_again_1 22 rfl rfl
theorem dX0_again_0 : decode cX0_again 0 = .ok (.aload_n 0, 1) := dk_42 (dk_at dksX0_again_0 0 rfl rfl)
theorem dX0_again_1 : decode cX0_again 1 = .ok (.getfield 63, 3) := dk_180 0 63 (dk_at dksX0_again_0 1 rfl rfl)
theorem dX0_again_4 : decode cX0_again 4 = .ok (.aload_n 0, 1) := dk_42 (dk_at dksX0_again_0 4 rfl rfl)
theorem dX0_again_5 : decode cX0_again 5 = .ok (.getfield 59, 3) := dk_180 0 59 (dk_at dksX0_again_0 5 rfl rfl)
theorem dX0_again_8 : decode cX0_again 8 = .ok (.invokevirtual 193, 3) := dk_182 0 193 (dk_at dksX0_again_0 8 rfl rfl)
theorem dX0_again_11 : decode cX0_again 11 = .ok (.iconst 1, 1) := dk_4 (dk_at dksX0_again_0 11 rfl rfl)
theorem dX0_again_12 : decode cX0_again 12 = .ok (.istore_n 1, 1) := dk_60 (dk_at dksX0_again_0 12 rfl rfl)
theorem dX0_again_13 : decode cX0_again 13 = .ok (.iload_n 1, 1) := dk_27 (dk_at dksX0_again_0 13 rfl rfl)
theorem dX0_again_14 : decode cX0_again 14 = .ok (.sipush 240, 3) := dk_17 0 240 (dk_at dksX0_again_0 14 rfl rfl)
theorem dX0_again_17 : decode cX0_again 17 = .ok (.if_icmp .gt 43, 3) := dk_163 0 43 (dk_at dksX0_again_0 17 rfl rfl)
theorem dX0_again_20 : decode cX0_again 20 = .ok (.aload_n 0, 1) := dk_42 (dk_at dksX0_again_0 20 rfl rfl)
theorem dX0_again_21 : decode cX0_again 21 = .ok (.getfield 63, 3) := dk_180 0 63 (dk_at dksX0_again_0 21 rfl rfl)
theorem dX0_again_24 : decode cX0_again 24 = .ok (.aload_n 0, 1) := dk_42 (dk_at dksX0_again_1 0 rfl rfl)
theorem dX0_again_25 : decode cX0_again 25 = .ok (.getfield 48, 3) := dk_180 0 48 (dk_at dksX0_again_1 1 rfl rfl)
theorem dX0_again_28 : decode cX0_again 28 = .ok (.aload_n 0, 1) := dk_42 (dk_at dksX0_again_1 4 rfl rfl)
theorem dX0_again_29 : decode cX0_again 29 = .ok (.getfield 83, 3) := dk_180 0 83 (dk_at dksX0_again_1 5 rfl rfl)
theorem dX0_again_32 : decode cX0_again 32 = .ok (.invokevirtual 211, 3) := dk_182 0 211 (dk_at dksX0_again_1 8 rfl rfl)
theorem dX0_again_35 : decode cX0_again 35 = .ok (.aload_n 0, 1) := dk_42 (dk_at dksX0_again_1 11 rfl rfl)
theorem dX0_again_36 : decode cX0_again 36 = .ok (.getfield 63, 3) := dk_180 0 63 (dk_at dksX0_again_1 12 rfl rfl)
theorem dX0_again_39 : decode cX0_again 39 = .ok (.getfield 200, 3) := dk_180 0 200 (dk_at dksX0_again_1 15 rfl rfl)
theorem dX0_again_42 : decode cX0_again 42 = .ok (.aload_n 0, 1) := dk_42 (dk_at dksX0_again_1 18 rfl rfl)
theorem dX0_again_43 : decode cX0_again 43 = .ok (.getfield 59, 3) := dk_180 0 59 (dk_at dksX0_again_1 19 rfl rfl)
theorem dX0_again_46 : decode cX0_again 46 = .ok (.getfield 200, 3) := dk_180 0 200 (dk_at dksX0_again_2 0 rfl rfl)
theorem dX0_again_49 : decode cX0_again 49 = .ok (.if_icmp .ne 5, 3) := dk_160 0 5 (dk_at dksX0_again_2 3 rfl rfl)
theorem dX0_again_52 : decode cX0_again 52 = .ok (.iload_n 1, 1) := dk_27 (dk_at dksX0_again_2 6 rfl rfl)
theorem dX0_again_53 : decode cX0_again 53 = .ok (.ireturn, 1) := dk_172 (dk_at dksX0_again_2 7 rfl rfl)
theorem dX0_again_54 : decode cX0_again 54 = .ok (.iinc 1 1, 3) := dk_132 1 1 (dk_at dksX0_again_2 8 rfl rfl)
theorem dX0_again_57 : decode cX0_again 57 = .ok (.goto (-44), 3) := dk_167 255 212 (dk_at dksX0_again_2 11 rfl rfl)
theorem dX0_again_60 : decode cX0_again 60 = .ok (.bipush (-2), 2) := dk_16 254 (dk_at dksX0_again_2 14 rfl rfl)
theorem dX0_again_62 : decode cX0_again 62 = .ok (.ireturn, 1) := dk_172 (dk_at dksX0_again_2 16 rfl rfl)
abbrev cX0_worst : ByteArray := prog_1_method_50_code
def yX0_worst : MethodName := ⟨RX0, "worst", "(II)I"⟩
def dkwX0_worst_4 : List UInt8 := [167, 0, 5, 21, 4, 172]
abbrev dktX0_worst_4 : List UInt8 := dkwX0_worst_4 ++ []
def dkwX0_worst_3 : List UInt8 := [21, 5, 62, 21, 6, 54, 4, 132, 5, 1, 167, 255, 205, 29, 155, 0, 7, 28, 154, 0, 7, 29]
abbrev dktX0_worst_3 : List UInt8 := dkwX0_worst_3 ++ dktX0_worst_4
def dkwX0_worst_2 : List UInt8 := [21, 5, 120, 130, 27, 182, 0, 228, 184, 0, 239, 54, 6, 21, 6, 21, 4, 161, 0, 6, 167, 0, 10]
abbrev dktX0_worst_2 : List UInt8 := dkwX0_worst_2 ++ dktX0_worst_3
def dkwX0_worst_1 : List UInt8 := [54, 4, 3, 54, 5, 21, 5, 42, 182, 0, 145, 162, 0, 48, 42, 42, 180, 0, 59, 180, 0, 200, 4]
abbrev dktX0_worst_1 : List UInt8 := dkwX0_worst_1 ++ dktX0_worst_2
def dkwX0_worst_0 : List UInt8 := [27, 184, 0, 231, 153, 0, 12, 28, 3, 4, 184, 0, 146, 154, 0, 5, 2, 172, 16, 254, 62, 18, 234]
abbrev dktX0_worst_0 : List UInt8 := dkwX0_worst_0 ++ dktX0_worst_1
theorem dksX0_worst_0 : cX0_worst.data.toList.drop 0 = dktX0_worst_0 := by decide +kernel
theorem dksX0_worst_1 : cX0_worst.data.toList.drop 23 = dktX0_worst_1 := dk_seg dksX0_worst_0 23 rfl rfl
theorem dksX0_worst_2 : cX0_worst.data.toList.drop 46 = dktX0_worst_2 := dk_seg dksX0_worst_1 23 rfl rfl
theorem dksX0_worst_3 : cX0_worst.data.toList.drop 69 = dktX0_worst_3 := dk_seg dksX0_worst_2 23 rfl rfl
theorem dksX0_worst_4 : cX0_worst.data.toList.drop 91 = dktX0_worst_4 := dk_seg dksX0_worst_3 22 rfl rfl
theorem dX0_worst_0 : decode cX0_worst 0 = .ok (.iload_n 1, 1) := dk_27 (dk_at dksX0_worst_0 0 rfl rfl)
theorem dX0_worst_1 : decode cX0_worst 1 = .ok (.invokestatic 231, 3) := dk_184 0 231 (dk_at dksX0_worst_0 1 rfl rfl)
theorem dX0_worst_4 : decode cX0_worst 4 = .ok (.ifCond .eq 12, 3) := dk_153 0 12 (dk_at dksX0_worst_0 4 rfl rfl)
theorem dX0_worst_7 : decode cX0_worst 7 = .ok (.iload_n 2, 1) := dk_28 (dk_at dksX0_worst_0 7 rfl rfl)
theorem dX0_worst_8 : decode cX0_worst 8 = .ok (.iconst 0, 1) := dk_3 (dk_at dksX0_worst_0 8 rfl rfl)
theorem dX0_worst_9 : decode cX0_worst 9 = .ok (.iconst 1, 1) := dk_4 (dk_at dksX0_worst_0 9 rfl rfl)
theorem dX0_worst_10 : decode cX0_worst 10 = .ok (.invokestatic 146, 3) := dk_184 0 146 (dk_at dksX0_worst_0 10 rfl rfl)
theorem dX0_worst_13 : decode cX0_worst 13 = .ok (.ifCond .ne 5, 3) := dk_154 0 5 (dk_at dksX0_worst_0 13 rfl rfl)
theorem dX0_worst_16 : decode cX0_worst 16 = .ok (.iconst (-1), 1) := dk_2 (dk_at dksX0_worst_0 16 rfl rfl)
theorem dX0_worst_17 : decode cX0_worst 17 = .ok (.ireturn, 1) := dk_172 (dk_at dksX0_worst_0 17 rfl rfl)
theorem dX0_worst_18 : decode cX0_worst 18 = .ok (.bipush (-2), 2) := dk_16 254 (dk_at dksX0_worst_0 18 rfl rfl)
theorem dX0_worst_20 : decode cX0_worst 20 = .ok (.istore_n 3, 1) := dk_62 (dk_at dksX0_worst_0 20 rfl rfl)
theorem dX0_worst_21 : decode cX0_worst 21 = .ok (.ldc 234, 2) := dk_18 234 (dk_at dksX0_worst_0 21 rfl rfl)
theorem dX0_worst_23 : decode cX0_worst 23 = .ok (.istore 4, 2) := dk_54 4 (dk_at dksX0_worst_1 0 rfl rfl)
theorem dX0_worst_25 : decode cX0_worst 25 = .ok (.iconst 0, 1) := dk_3 (dk_at dksX0_worst_1 2 rfl rfl)
theorem dX0_worst_26 : decode cX0_worst 26 = .ok (.istore 5, 2) := dk_54 5 (dk_at dksX0_worst_1 3 rfl rfl)
theorem dX0_worst_28 : decode cX0_worst 28 = .ok (.iload 5, 2) := dk_21 5 (dk_at dksX0_worst_1 5 rfl rfl)
theorem dX0_worst_30 : decode cX0_worst 30 = .ok (.aload_n 0, 1) := dk_42 (dk_at dksX0_worst_1 7 rfl rfl)
theorem dX0_worst_31 : decode cX0_worst 31 = .ok (.invokevirtual 145, 3) := dk_182 0 145 (dk_at dksX0_worst_1 8 rfl rfl)
theorem dX0_worst_34 : decode cX0_worst 34 = .ok (.if_icmp .ge 48, 3) := dk_162 0 48 (dk_at dksX0_worst_1 11 rfl rfl)
theorem dX0_worst_37 : decode cX0_worst 37 = .ok (.aload_n 0, 1) := dk_42 (dk_at dksX0_worst_1 14 rfl rfl)
theorem dX0_worst_38 : decode cX0_worst 38 = .ok (.aload_n 0, 1) := dk_42 (dk_at dksX0_worst_1 15 rfl rfl)
theorem dX0_worst_39 : decode cX0_worst 39 = .ok (.getfield 59, 3) := dk_180 0 59 (dk_at dksX0_worst_1 16 rfl rfl)
theorem dX0_worst_42 : decode cX0_worst 42 = .ok (.getfield 200, 3) := dk_180 0 200 (dk_at dksX0_worst_1 19 rfl rfl)
theorem dX0_worst_45 : decode cX0_worst 45 = .ok (.iconst 1, 1) := dk_4 (dk_at dksX0_worst_1 22 rfl rfl)
theorem dX0_worst_46 : decode cX0_worst 46 = .ok (.iload 5, 2) := dk_21 5 (dk_at dksX0_worst_2 0 rfl rfl)
theorem dX0_worst_48 : decode cX0_worst 48 = .ok (.ishl, 1) := dk_120 (dk_at dksX0_worst_2 2 rfl rfl)
theorem dX0_worst_49 : decode cX0_worst 49 = .ok (.ixor, 1) := dk_130 (dk_at dksX0_worst_2 3 rfl rfl)
theorem dX0_worst_50 : decode cX0_worst 50 = .ok (.iload_n 1, 1) := dk_27 (dk_at dksX0_worst_2 4 rfl rfl)
theorem dX0_worst_51 : decode cX0_worst 51 = .ok (.invokevirtual 228, 3) := dk_182 0 228 (dk_at dksX0_worst_2 5 rfl rfl)
theorem dX0_worst_54 : decode cX0_worst 54 = .ok (.invokestatic 239, 3) := dk_184 0 239 (dk_at dksX0_worst_2 8 rfl rfl)
theorem dX0_worst_57 : decode cX0_worst 57 = .ok (.istore 6, 2) := dk_54 6 (dk_at dksX0_worst_2 11 rfl rfl)
theorem dX0_worst_59 : decode cX0_worst 59 = .ok (.iload 6, 2) := dk_21 6 (dk_at dksX0_worst_2 13 rfl rfl)
theorem dX0_worst_61 : decode cX0_worst 61 = .ok (.iload 4, 2) := dk_21 4 (dk_at dksX0_worst_2 15 rfl rfl)
theorem dX0_worst_63 : decode cX0_worst 63 = .ok (.if_icmp .lt 6, 3) := dk_161 0 6 (dk_at dksX0_worst_2 17 rfl rfl)
theorem dX0_worst_66 : decode cX0_worst 66 = .ok (.goto 10, 3) := dk_167 0 10 (dk_at dksX0_worst_2 20 rfl rfl)
theorem dX0_worst_69 : decode cX0_worst 69 = .ok (.iload 5, 2) := dk_21 5 (dk_at dksX0_worst_3 0 rfl rfl)
theorem dX0_worst_71 : decode cX0_worst 71 = .ok (.istore_n 3, 1) := dk_62 (dk_at dksX0_worst_3 2 rfl rfl)
theorem dX0_worst_72 : decode cX0_worst 72 = .ok (.iload 6, 2) := dk_21 6 (dk_at dksX0_worst_3 3 rfl rfl)
theorem dX0_worst_74 : decode cX0_worst 74 = .ok (.istore 4, 2) := dk_54 4 (dk_at dksX0_worst_3 5 rfl rfl)
theorem dX0_worst_76 : decode cX0_worst 76 = .ok (.iinc 5 1, 3) := dk_132 5 1 (dk_at dksX0_worst_3 7 rfl rfl)
theorem dX0_worst_79 : decode cX0_worst 79 = .ok (.goto (-51), 3) := dk_167 255 205 (dk_at dksX0_worst_3 10 rfl rfl)
theorem dX0_worst_82 : decode cX0_worst 82 = .ok (.iload_n 3, 1) := dk_29 (dk_at dksX0_worst_3 13 rfl rfl)
theorem dX0_worst_83 : decode cX0_worst 83 = .ok (.ifCond .lt 7, 3) := dk_155 0 7 (dk_at dksX0_worst_3 14 rfl rfl)
theorem dX0_worst_86 : decode cX0_worst 86 = .ok (.iload_n 2, 1) := dk_28 (dk_at dksX0_worst_3 17 rfl rfl)
theorem dX0_worst_87 : decode cX0_worst 87 = .ok (.ifCond .ne 7, 3) := dk_154 0 7 (dk_at dksX0_worst_3 18 rfl rfl)
theorem dX0_worst_90 : decode cX0_worst 90 = .ok (.iload_n 3, 1) := dk_29 (dk_at dksX0_worst_3 21 rfl rfl)
theorem dX0_worst_91 : decode cX0_worst 91 = .ok (.goto 5, 3) := dk_167 0 5 (dk_at dksX0_worst_4 0 rfl rfl)
theorem dX0_worst_94 : decode cX0_worst 94 = .ok (.iload 4, 2) := dk_21 4 (dk_at dksX0_worst_4 3 rfl rfl)
theorem dX0_worst_96 : decode cX0_worst 96 = .ok (.ireturn, 1) := dk_172 (dk_at dksX0_worst_4 5 rfl rfl)
abbrev cX0_changeBest : ByteArray := prog_1_method_52_code
def yX0_changeBest : MethodName := ⟨RX0, "changeBest", "(II)I"⟩
def dkwX0_changeBest_6 : List UInt8 := [29, 167, 0, 5, 21, 4, 172]
abbrev dktX0_changeBest_6 : List UInt8 := dkwX0_changeBest_6 ++ []
def dkwX0_changeBest_5 : List UInt8 := [21, 7, 54, 4, 132, 6, 1, 167, 255, 192, 132, 5, 1, 167, 255, 171, 29, 155, 0, 7, 28, 154, 0, 7]
abbrev dktX0_changeBest_5 : List UInt8 := dkwX0_changeBest_5 ++ dktX0_changeBest_6
def dkwX0_changeBest_4 : List UInt8 := [182, 1, 10, 54, 7, 21, 7, 21, 4, 163, 0, 6, 167, 0, 16, 16, 10, 21, 5, 104, 21, 6, 96, 62]
abbrev dktX0_changeBest_4 : List UInt8 := dkwX0_changeBest_4 ++ dktX0_changeBest_5
def dkwX0_changeBest_3 : List UInt8 := [42, 180, 0, 63, 42, 180, 0, 59, 182, 0, 193, 42, 180, 0, 63, 21, 5, 21, 6, 182, 0, 207, 42, 27]
abbrev dktX0_changeBest_3 : List UInt8 := dkwX0_changeBest_3 ++ dktX0_changeBest_4
def dkwX0_changeBest_2 : List UInt8 := [21, 5, 42, 182, 0, 145, 162, 0, 82, 21, 5, 4, 96, 54, 6, 21, 6, 42, 182, 0, 145, 162, 0, 61]
abbrev dktX0_changeBest_2 : List UInt8 := dkwX0_changeBest_2 ++ dktX0_changeBest_3
def dkwX0_changeBest_1 : List UInt8 := [180, 0, 63, 42, 180, 0, 59, 182, 0, 193, 16, 254, 62, 42, 27, 182, 1, 10, 54, 4, 3, 54, 5]
abbrev dktX0_changeBest_1 : List UInt8 := dkwX0_changeBest_1 ++ dktX0_changeBest_2
def dkwX0_changeBest_0 : List UInt8 := [27, 4, 16, 24, 184, 0, 146, 153, 0, 12, 28, 3, 4, 184, 0, 146, 154, 0, 5, 2, 172, 42]
abbrev dktX0_changeBest_0 : List UInt8 := dkwX0_changeBest_0 ++ dktX0_changeBest_1
theorem dksX0_changeBest_0 : cX0_changeBest.data.toList.drop 0 = dktX0_changeBest_0 := by decide +kernel
theorem dksX0_changeBest_1 : cX0_changeBest.data.toList.drop 22 = dktX0_changeBest_1 := dk_seg dksX0_changeBest_0 22 rfl rfl
theorem dksX0_changeBest_2 : cX0_changeBest.data.toList.drop 45 = dktX0_changeBest_2 := dk_seg dksX0_changeBest_1 23 rfl rfl
theorem dksX0_changeBest_3 : cX0_changeBest.data.toList.drop 69 = dktX0_changeBest_3 := dk_seg dksX0_changeBest_2 24 rfl rfl
theorem dksX0_changeBest_4 : cX0_changeBest.data.toList.drop 93 = dktX0_changeBest_4 := dk_seg dksX0_changeBest_3 24 rfl rfl
theorem dksX0_changeBest_5 : cX0_changeBest.data.toList.drop 117 = dktX0_changeBest_5 := dk_seg dksX0_changeBest_4 24 rfl rfl
theorem dksX0_changeBest_6 : cX0_changeBest.data.toList.drop 141 = dktX0_changeBest_6 := dk_seg dksX0_changeBest_5 24 rfl rfl
theorem dX0_changeBest_0 : decode cX0_changeBest 0 = .ok (.iload_n 1, 1) := dk_27 (dk_at dksX0_changeBest_0 0 rfl rfl)
theorem dX0_changeBest_1 : decode cX0_changeBest 1 = .ok (.iconst 1, 1) := dk_4 (dk_at dksX0_changeBest_0 1 rfl rfl)
theorem dX0_changeBest_2 : decode cX0_changeBest 2 = .ok (.bipush 24, 2) := dk_16 24 (dk_at dksX0_changeBest_0 2 rfl rfl)
theorem dX0_changeBest_4 : decode cX0_changeBest 4 = .ok (.invokestatic 146, 3) := dk_184 0 146 (dk_at dksX0_changeBest_0 4 rfl rfl)
theorem dX0_changeBest_7 : decode cX0_changeBest 7 = .ok (.ifCond .eq 12, 3) := dk_153 0 12 (dk_at dksX0_changeBest_0 7 rfl rfl)
theorem dX0_changeBest_10 : decode cX0_changeBest 10 = .ok (.iload_n 2, 1) := dk_28 (dk_at dksX0_changeBest_0 10 rfl rfl)
theorem dX0_changeBest_11 : decode cX0_changeBest 11 = .ok (.iconst 0, 1) := dk_3 (dk_at dksX0_changeBest_0 11 rfl rfl)
theorem dX0_changeBest_12 : decode cX0_changeBest 12 = .ok (.iconst 1, 1) := dk_4 (dk_at dksX0_changeBest_0 12 rfl rfl)
theorem dX0_changeBest_13 : decode cX0_changeBest 13 = .ok (.invokestatic 146, 3) := dk_184 0 146 (dk_at dksX0_changeBest_0 13 rfl rfl)
theorem dX0_changeBest_16 : decode cX0_changeBest 16 = .ok (.ifCond .ne 5, 3) := dk_154 0 5 (dk_at dksX0_changeBest_0 16 rfl rfl)
theorem dX0_changeBest_19 : decode cX0_changeBest 19 = .ok (.iconst (-1), 1) := dk_2 (dk_at dksX0_changeBest_0 19 rfl rfl)
theorem dX0_changeBest_20 : decode cX0_changeBest 20 = .ok (.ireturn, 1) := dk_172 (dk_at dksX0_changeBest_0 20 rfl rfl)
theorem dX0_changeBest_21 : decode cX0_changeBest 21 = .ok (.aload_n 0, 1) := dk_42 (dk_at dksX0_changeBest_0 21 rfl rfl)
theorem dX0_changeBest_22 : decode cX0_changeBest 22 = .ok (.getfield 63, 3) := dk_180 0 63 (dk_at dksX0_changeBest_1 0 rfl rfl)
theorem dX0_changeBest_25 : decode cX0_changeBest 25 = .ok (.aload_n 0, 1) := dk_42 (dk_at dksX0_changeBest_1 3 rfl rfl)
theorem dX0_changeBest_26 : decode cX0_changeBest 26 = .ok (.getfield 59, 3) := dk_180 0 59 (dk_at dksX0_changeBest_1 4 rfl rfl)
theorem dX0_changeBest_29 : decode cX0_changeBest 29 = .ok (.invokevirtual 193, 3) := dk_182 0 193 (dk_at dksX0_changeBest_1 7 rfl rfl)
theorem dX0_changeBest_32 : decode cX0_changeBest 32 = .ok (.bipush (-2), 2) := dk_16 254 (dk_at dksX0_changeBest_1 10 rfl rfl)
theorem dX0_changeBest_34 : decode cX0_changeBest 34 = .ok (.istore_n 3, 1) := dk_62 (dk_at dksX0_changeBest_1 12 rfl rfl)
theorem dX0_changeBest_35 : decode cX0_changeBest 35 = .ok (.aload_n 0, 1) := dk_42 (dk_at dksX0_changeBest_1 13 rfl rfl)
theorem dX0_changeBest_36 : decode cX0_changeBest 36 = .ok (.iload_n 1, 1) := dk_27 (dk_at dksX0_changeBest_1 14 rfl rfl)
theorem dX0_changeBest_37 : decode cX0_changeBest 37 = .ok (.invokevirtual 266, 3) := dk_182 1 10 (dk_at dksX0_changeBest_1 15 rfl rfl)
theorem dX0_changeBest_40 : decode cX0_changeBest 40 = .ok (.istore 4, 2) := dk_54 4 (dk_at dksX0_changeBest_1 18 rfl rfl)
theorem dX0_changeBest_42 : decode cX0_changeBest 42 = .ok (.iconst 0, 1) := dk_3 (dk_at dksX0_changeBest_1 20 rfl rfl)
theorem dX0_changeBest_43 : decode cX0_changeBest 43 = .ok (.istore 5, 2) := dk_54 5 (dk_at dksX0_changeBest_1 21 rfl rfl)
theorem dX0_changeBest_45 : decode cX0_changeBest 45 = .ok (.iload 5, 2) := dk_21 5 (dk_at dksX0_changeBest_2 0 rfl rfl)
theorem dX0_changeBest_47 : decode cX0_changeBest 47 = .ok (.aload_n 0, 1) := dk_42 (dk_at dksX0_changeBest_2 2 rfl rfl)
theorem dX0_changeBest_48 : decode cX0_changeBest 48 = .ok (.invokevirtual 145, 3) := dk_182 0 145 (dk_at dksX0_changeBest_2 3 rfl rfl)
theorem dX0_changeBest_51 : decode cX0_changeBest 51 = .ok (.if_icmp .ge 82, 3) := dk_162 0 82 (dk_at dksX0_changeBest_2 6 rfl rfl)
theorem dX0_changeBest_54 : decode cX0_changeBest 54 = .ok (.iload 5, 2) := dk_21 5 (dk_at dksX0_changeBest_2 9 rfl rfl)
theorem dX0_changeBest_56 : decode cX0_changeBest 56 = .ok (.iconst 1, 1) := dk_4 (dk_at dksX0_changeBest_2 11 rfl rfl)
theorem dX0_changeBest_57 : decode cX0_changeBest 57 = .ok (.iadd, 1) := dk_96 (dk_at dksX0_changeBest_2 12 rfl rfl)
theorem dX0_changeBest_58 : decode cX0_changeBest 58 = .ok (.istore 6, 2) := dk_54 6 (dk_at dksX0_changeBest_2 13 rfl rfl)
theorem dX0_changeBest_60 : decode cX0_changeBest 60 = .ok (.iload 6, 2) := dk_21 6 (dk_at dksX0_changeBest_2 15 rfl rfl)
theorem dX0_changeBest_62 : decode cX0_changeBest 62 = .ok (.aload_n 0, 1) := dk_42 (dk_at dksX0_changeBest_2 17 rfl rfl)
theorem dX0_changeBest_63 : decode cX0_changeBest 63 = .ok (.invokevirtual 145, 3) := dk_182 0 145 (dk_at dksX0_changeBest_2 18 rfl rfl)
theorem dX0_changeBest_66 : decode cX0_changeBest 66 = .ok (.if_icmp .ge 61, 3) := dk_162 0 61 (dk_at dksX0_changeBest_2 21 rfl rfl)
theorem dX0_changeBest_69 : decode cX0_changeBest 69 = .ok (.aload_n 0, 1) := dk_42 (dk_at dksX0_changeBest_3 0 rfl rfl)
theorem dX0_changeBest_70 : decode cX0_changeBest 70 = .ok (.getfield 63, 3) := dk_180 0 63 (dk_at dksX0_changeBest_3 1 rfl rfl)
theorem dX0_changeBest_73 : decode cX0_changeBest 73 = .ok (.aload_n 0, 1) := dk_42 (dk_at dksX0_changeBest_3 4 rfl rfl)
theorem dX0_changeBest_74 : decode cX0_changeBest 74 = .ok (.getfield 59, 3) := dk_180 0 59 (dk_at dksX0_changeBest_3 5 rfl rfl)
theorem dX0_changeBest_77 : decode cX0_changeBest 77 = .ok (.invokevirtual 193, 3) := dk_182 0 193 (dk_at dksX0_changeBest_3 8 rfl rfl)
theorem dX0_changeBest_80 : decode cX0_changeBest 80 = .ok (.aload_n 0, 1) := dk_42 (dk_at dksX0_changeBest_3 11 rfl rfl)
theorem dX0_changeBest_81 : decode cX0_changeBest 81 = .ok (.getfield 63, 3) := dk_180 0 63 (dk_at dksX0_changeBest_3 12 rfl rfl)
theorem dX0_changeBest_84 : decode cX0_changeBest 84 = .ok (.iload 5, 2) := dk_21 5 (dk_at dksX0_changeBest_3 15 rfl rfl)
theorem dX0_changeBest_86 : decode cX0_changeBest 86 = .ok (.iload 6, 2) := dk_21 6 (dk_at dksX0_changeBest_3 17 rfl rfl)
theorem dX0_changeBest_88 : decode cX0_changeBest 88 = .ok (.invokevirtual 207, 3) := dk_182 0 207 (dk_at dksX0_changeBest_3 19 rfl rfl)
theorem dX0_changeBest_91 : decode cX0_changeBest 91 = .ok (.aload_n 0, 1) := dk_42 (dk_at dksX0_changeBest_3 22 rfl rfl)
theorem dX0_changeBest_92 : decode cX0_changeBest 92 = .ok (.iload_n 1, 1) := dk_27 (dk_at dksX0_changeBest_3 23 rfl rfl)
theorem dX0_changeBest_93 : decode cX0_changeBest 93 = .ok (.invokevirtual 266, 3) := dk_182 1 10 (dk_at dksX0_changeBest_4 0 rfl rfl)
theorem dX0_changeBest_96 : decode cX0_changeBest 96 = .ok (.istore 7, 2) := dk_54 7 (dk_at dksX0_changeBest_4 3 rfl rfl)
theorem dX0_changeBest_98 : decode cX0_changeBest 98 = .ok (.iload 7, 2) := dk_21 7 (dk_at dksX0_changeBest_4 5 rfl rfl)
theorem dX0_changeBest_100 : decode cX0_changeBest 100 = .ok (.iload 4, 2) := dk_21 4 (dk_at dksX0_changeBest_4 7 rfl rfl)
theorem dX0_changeBest_102 : decode cX0_changeBest 102 = .ok (.if_icmp .gt 6, 3) := dk_163 0 6 (dk_at dksX0_changeBest_4 9 rfl rfl)
theorem dX0_changeBest_105 : decode cX0_changeBest 105 = .ok (.goto 16, 3) := dk_167 0 16 (dk_at dksX0_changeBest_4 12 rfl rfl)
theorem dX0_changeBest_108 : decode cX0_changeBest 108 = .ok (.bipush 10, 2) := dk_16 10 (dk_at dksX0_changeBest_4 15 rfl rfl)
theorem dX0_changeBest_110 : decode cX0_changeBest 110 = .ok (.iload 5, 2) := dk_21 5 (dk_at dksX0_changeBest_4 17 rfl rfl)
theorem dX0_changeBest_112 : decode cX0_changeBest 112 = .ok (.imul, 1) := dk_104 (dk_at dksX0_changeBest_4 19 rfl rfl)
theorem dX0_changeBest_113 : decode cX0_changeBest 113 = .ok (.iload 6, 2) := dk_21 6 (dk_at dksX0_changeBest_4 20 rfl rfl)
theorem dX0_changeBest_115 : decode cX0_changeBest 115 = .ok (.iadd, 1) := dk_96 (dk_at dksX0_changeBest_4 22 rfl rfl)
theorem dX0_changeBest_116 : decode cX0_changeBest 116 = .ok (.istore_n 3, 1) := dk_62 (dk_at dksX0_changeBest_4 23 rfl rfl)
theorem dX0_changeBest_117 : decode cX0_changeBest 117 = .ok (.iload 7, 2) := dk_21 7 (dk_at dksX0_changeBest_5 0 rfl rfl)
theorem dX0_changeBest_119 : decode cX0_changeBest 119 = .ok (.istore 4, 2) := dk_54 4 (dk_at dksX0_changeBest_5 2 rfl rfl)
theorem dX0_changeBest_121 : decode cX0_changeBest 121 = .ok (.iinc 6 1, 3) := dk_132 6 1 (dk_at dksX0_changeBest_5 4 rfl rfl)
theorem dX0_changeBest_124 : decode cX0_changeBest 124 = .ok (.goto (-64), 3) := dk_167 255 192 (dk_at dksX0_changeBest_5 7 rfl rfl)
theorem dX0_changeBest_127 : decode cX0_changeBest 127 = .ok (.iinc 5 1, 3) := dk_132 5 1 (dk_at dksX0_changeBest_5 10 rfl rfl)
theorem dX0_changeBest_130 : decode cX0_changeBest 130 = .ok (.goto (-85), 3) := dk_167 255 171 (dk_at dksX0_changeBest_5 13 rfl rfl)
theorem dX0_changeBest_133 : decode cX0_changeBest 133 = .ok (.iload_n 3, 1) := dk_29 (dk_at dksX0_changeBest_5 16 rfl rfl)
theorem dX0_changeBest_134 : decode cX0_changeBest 134 = .ok (.ifCond .lt 7, 3) := dk_155 0 7 (dk_at dksX0_changeBest_5 17 rfl rfl)
theorem dX0_changeBest_137 : decode cX0_changeBest 137 = .ok (.iload_n 2, 1) := dk_28 (dk_at dksX0_changeBest_5 20 rfl rfl)
theorem dX0_changeBest_138 : decode cX0_changeBest 138 = .ok (.ifCond .ne 7, 3) := dk_154 0 7 (dk_at dksX0_changeBest_5 21 rfl rfl)
theorem dX0_changeBest_141 : decode cX0_changeBest 141 = .ok (.iload_n 3, 1) := dk_29 (dk_at dksX0_changeBest_6 0 rfl rfl)
theorem dX0_changeBest_142 : decode cX0_changeBest 142 = .ok (.goto 5, 3) := dk_167 0 5 (dk_at dksX0_changeBest_6 1 rfl rfl)
theorem dX0_changeBest_145 : decode cX0_changeBest 145 = .ok (.iload 4, 2) := dk_21 4 (dk_at dksX0_changeBest_6 4 rfl rfl)
theorem dX0_changeBest_147 : decode cX0_changeBest 147 = .ok (.ireturn, 1) := dk_172 (dk_at dksX0_changeBest_6 6 rfl rfl)
abbrev cX0_leftIn : ByteArray := prog_1_method_51_code
def yX0_leftIn : MethodName := ⟨RX0, "leftIn", "(I)I"⟩
def dkwX0_leftIn_1 : List UInt8 := [28, 42, 180, 0, 63, 180, 0, 200, 184, 0, 239, 96, 61, 132, 3, 1, 167, 255, 220, 28, 172]
abbrev dktX0_leftIn_1 : List UInt8 := dkwX0_leftIn_1 ++ []
def dkwX0_leftIn_0 : List UInt8 := [3, 61, 3, 62, 29, 27, 162, 0, 37, 42, 180, 0, 63, 42, 180, 0, 48, 42, 180, 0, 83, 182, 0, 211]
abbrev dktX0_leftIn_0 : List UInt8 := dkwX0_leftIn_0 ++ dktX0_leftIn_1
theorem dksX0_leftIn_0 : cX0_leftIn.data.toList.drop 0 = dktX0_leftIn_0 := by decide +kernel
theorem dksX0_leftIn_1 : cX0_leftIn.data.toList.drop 24 = dktX0_leftIn_1 := dk_seg dksX0_leftIn_0 24 rfl rfl
theorem dX0_leftIn_0 : decode cX0_leftIn 0 = .ok (.iconst 0, 1) := dk_3 (dk_at dksX0_leftIn_0 0 rfl rfl)
theorem dX0_leftIn_1 : decode cX0_leftIn 1 = .ok (.istore_n 2, 1) := dk_61 (dk_at dksX0_leftIn_0 1 rfl rfl)
theorem dX0_leftIn_2 : decode cX0_leftIn 2 = .ok (.iconst 0, 1) := dk_3 (dk_at dksX0_leftIn_0 2 rfl rfl)
theorem dX0_leftIn_3 : decode cX0_leftIn 3 = .ok (.istore_n 3, 1) := dk_62 (dk_at dksX0_leftIn_0 3 rfl rfl)
theorem dX0_leftIn_4 : decode cX0_leftIn 4 = .ok (.iload_n 3, 1) := dk_29 (dk_at dksX0_leftIn_0 4 rfl rfl)
theorem dX0_leftIn_5 : decode cX0_leftIn 5 = .ok (.iload_n 1, 1) := dk_27 (dk_at dksX0_leftIn_0 5 rfl rfl)
theorem dX0_leftIn_6 : decode cX0_leftIn 6 = .ok (.if_icmp .ge 37, 3) := dk_162 0 37 (dk_at dksX0_leftIn_0 6 rfl rfl)
theorem dX0_leftIn_9 : decode cX0_leftIn 9 = .ok (.aload_n 0, 1) := dk_42 (dk_at dksX0_leftIn_0 9 rfl rfl)
theorem dX0_leftIn_10 : decode cX0_leftIn 10 = .ok (.getfield 63, 3) := dk_180 0 63 (dk_at dksX0_leftIn_0 10 rfl rfl)
theorem dX0_leftIn_13 : decode cX0_leftIn 13 = .ok (.aload_n 0, 1) := dk_42 (dk_at dksX0_leftIn_0 13 rfl rfl)
theorem dX0_leftIn_14 : decode cX0_leftIn 14 = .ok (.getfield 48, 3) := dk_180 0 48 (dk_at dksX0_leftIn_0 14 rfl rfl)
theorem dX0_leftIn_17 : decode cX0_leftIn 17 = .ok (.aload_n 0, 1) := dk_42 (dk_at dksX0_leftIn_0 17 rfl rfl)
theorem dX0_leftIn_18 : decode cX0_leftIn 18 = .ok (.getfield 83, 3) := dk_180 0 83 (dk_at dksX0_leftIn_0 18 rfl rfl)
theorem dX0_leftIn_21 : decode cX0_leftIn 21 = .ok (.invokevirtual 211, 3) := dk_182 0 211 (dk_at dksX0_leftIn_0 21 rfl rfl)
theorem dX0_leftIn_24 : decode cX0_leftIn 24 = .ok (.iload_n 2, 1) := dk_28 (dk_at dksX0_leftIn_1 0 rfl rfl)
theorem dX0_leftIn_25 : decode cX0_leftIn 25 = .ok (.aload_n 0, 1) := dk_42 (dk_at dksX0_leftIn_1 1 rfl rfl)
theorem dX0_leftIn_26 : decode cX0_leftIn 26 = .ok (.getfield 63, 3) := dk_180 0 63 (dk_at dksX0_leftIn_1 2 rfl rfl)
theorem dX0_leftIn_29 : decode cX0_leftIn 29 = .ok (.getfield 200, 3) := dk_180 0 200 (dk_at dksX0_leftIn_1 5 rfl rfl)
theorem dX0_leftIn_32 : decode cX0_leftIn 32 = .ok (.invokestatic 239, 3) := dk_184 0 239 (dk_at dksX0_leftIn_1 8 rfl rfl)
theorem dX0_leftIn_35 : decode cX0_leftIn 35 = .ok (.iadd, 1) := dk_96 (dk_at dksX0_leftIn_1 11 rfl rfl)
theorem dX0_leftIn_36 : decode cX0_leftIn 36 = .ok (.istore_n 2, 1) := dk_61 (dk_at dksX0_leftIn_1 12 rfl rfl)
theorem dX0_leftIn_37 : decode cX0_leftIn 37 = .ok (.iinc 3 1, 3) := dk_132 3 1 (dk_at dksX0_leftIn_1 13 rfl rfl)
theorem dX0_leftIn_40 : decode cX0_leftIn 40 = .ok (.goto (-36), 3) := dk_167 255 220 (dk_at dksX0_leftIn_1 16 rfl rfl)
theorem dX0_leftIn_43 : decode cX0_leftIn 43 = .ok (.iload_n 2, 1) := dk_28 (dk_at dksX0_leftIn_1 19 rfl rfl)
theorem dX0_leftIn_44 : decode cX0_leftIn 44 = .ok (.ireturn, 1) := dk_172 (dk_at dksX0_leftIn_1 20 rfl rfl)
abbrev cX0_leave : ByteArray := prog_1_method_53_code
def yX0_leave : MethodName := ⟨RX0, "leave", "(I)I"⟩
def dkwX0_leave_3 : List UInt8 := [46, 158, 0, 7, 4, 167, 0, 4, 3, 159, 0, 5, 28, 172, 132, 2, 1, 167, 255, 192, 16, 254, 172]
abbrev dktX0_leave_3 : List UInt8 := dkwX0_leave_3 ++ []
def dkwX0_leave_2 : List UInt8 := [180, 0, 63, 180, 0, 164, 27, 46, 158, 0, 7, 4, 167, 0, 4, 3, 42, 180, 0, 59, 180, 0, 164, 27]
abbrev dktX0_leave_2 : List UInt8 := dkwX0_leave_2 ++ dktX0_leave_3
def dkwX0_leave_1 : List UInt8 := [17, 0, 240, 163, 0, 63, 42, 180, 0, 63, 42, 180, 0, 48, 42, 180, 0, 83, 182, 0, 211, 42]
abbrev dktX0_leave_1 : List UInt8 := dkwX0_leave_1 ++ dktX0_leave_2
def dkwX0_leave_0 : List UInt8 := [42, 27, 182, 0, 150, 154, 0, 5, 2, 172, 42, 180, 0, 63, 42, 180, 0, 59, 182, 0, 193, 4, 61, 28]
abbrev dktX0_leave_0 : List UInt8 := dkwX0_leave_0 ++ dktX0_leave_1
theorem dksX0_leave_0 : cX0_leave.data.toList.drop 0 = dktX0_leave_0 := by decide +kernel
theorem dksX0_leave_1 : cX0_leave.data.toList.drop 24 = dktX0_leave_1 := dk_seg dksX0_leave_0 24 rfl rfl
theorem dksX0_leave_2 : cX0_leave.data.toList.drop 46 = dktX0_leave_2 := dk_seg dksX0_leave_1 22 rfl rfl
theorem dksX0_leave_3 : cX0_leave.data.toList.drop 70 = dktX0_leave_3 := dk_seg dksX0_leave_2 24 rfl rfl
theorem dX0_leave_0 : decode cX0_leave 0 = .ok (.aload_n 0, 1) := dk_42 (dk_at dksX0_leave_0 0 rfl rfl)
theorem dX0_leave_1 : decode cX0_leave 1 = .ok (.iload_n 1, 1) := dk_27 (dk_at dksX0_leave_0 1 rfl rfl)
theorem dX0_leave_2 : decode cX0_leave 2 = .ok (.invokevirtual 150, 3) := dk_182 0 150 (dk_at dksX0_leave_0 2 rfl rfl)
theorem dX0_leave_5 : decode cX0_leave 5 = .ok (.ifCond .ne 5, 3) := dk_154 0 5 (dk_at dksX0_leave_0 5 rfl rfl)
theorem dX0_leave_8 : decode cX0_leave 8 = .ok (.iconst (-1), 1) := dk_2 (dk_at dksX0_leave_0 8 rfl rfl)
theorem dX0_leave_9 : decode cX0_leave 9 = .ok (.ireturn, 1) := dk_172 (dk_at dksX0_leave_0 9 rfl rfl)
theorem dX0_leave_10 : decode cX0_leave 10 = .ok (.aload_n 0, 1) := dk_42 (dk_at dksX0_leave_0 10 rfl rfl)
theorem dX0_leave_11 : decode cX0_leave 11 = .ok (.getfield 63, 3) := dk_180 0 63 (dk_at dksX0_leave_0 11 rfl rfl)
theorem dX0_leave_14 : decode cX0_leave 14 = .ok (.aload_n 0, 1) := dk_42 (dk_at dksX0_leave_0 14 rfl rfl)
theorem dX0_leave_15 : decode cX0_leave 15 = .ok (.getfield 59, 3) := dk_180 0 59 (dk_at dksX0_leave_0 15 rfl rfl)
theorem dX0_leave_18 : decode cX0_leave 18 = .ok (.invokevirtual 193, 3) := dk_182 0 193 (dk_at dksX0_leave_0 18 rfl rfl)
theorem dX0_leave_21 : decode cX0_leave 21 = .ok (.iconst 1, 1) := dk_4 (dk_at dksX0_leave_0 21 rfl rfl)
theorem dX0_leave_22 : decode cX0_leave 22 = .ok (.istore_n 2, 1) := dk_61 (dk_at dksX0_leave_0 22 rfl rfl)
theorem dX0_leave_23 : decode cX0_leave 23 = .ok (.iload_n 2, 1) := dk_28 (dk_at dksX0_leave_0 23 rfl rfl)
theorem dX0_leave_24 : decode cX0_leave 24 = .ok (.sipush 240, 3) := dk_17 0 240 (dk_at dksX0_leave_1 0 rfl rfl)
theorem dX0_leave_27 : decode cX0_leave 27 = .ok (.if_icmp .gt 63, 3) := dk_163 0 63 (dk_at dksX0_leave_1 3 rfl rfl)
theorem dX0_leave_30 : decode cX0_leave 30 = .ok (.aload_n 0, 1) := dk_42 (dk_at dksX0_leave_1 6 rfl rfl)
theorem dX0_leave_31 : decode cX0_leave 31 = .ok (.getfield 63, 3) := dk_180 0 63 (dk_at dksX0_leave_1 7 rfl rfl)
theorem dX0_leave_34 : decode cX0_leave 34 = .ok (.aload_n 0, 1) := dk_42 (dk_at dksX0_leave_1 10 rfl rfl)
theorem dX0_leave_35 : decode cX0_leave 35 = .ok (.getfield 48, 3) := dk_180 0 48 (dk_at dksX0_leave_1 11 rfl rfl)
theorem dX0_leave_38 : decode cX0_leave 38 = .ok (.aload_n 0, 1) := dk_42 (dk_at dksX0_leave_1 14 rfl rfl)
theorem dX0_leave_39 : decode cX0_leave 39 = .ok (.getfield 83, 3) := dk_180 0 83 (dk_at dksX0_leave_1 15 rfl rfl)
theorem dX0_leave_42 : decode cX0_leave 42 = .ok (.invokevirtual 211, 3) := dk_182 0 211 (dk_at dksX0_leave_1 18 rfl rfl)
theorem dX0_leave_45 : decode cX0_leave 45 = .ok (.aload_n 0, 1) := dk_42 (dk_at dksX0_leave_1 21 rfl rfl)
theorem dX0_leave_46 : decode cX0_leave 46 = .ok (.getfield 63, 3) := dk_180 0 63 (dk_at dksX0_leave_2 0 rfl rfl)
theorem dX0_leave_49 : decode cX0_leave 49 = .ok (.getfield 164, 3) := dk_180 0 164 (dk_at dksX0_leave_2 3 rfl rfl)
theorem dX0_leave_52 : decode cX0_leave 52 = .ok (.iload_n 1, 1) := dk_27 (dk_at dksX0_leave_2 6 rfl rfl)
theorem dX0_leave_53 : decode cX0_leave 53 = .ok (.iaload, 1) := dk_46 (dk_at dksX0_leave_2 7 rfl rfl)
theorem dX0_leave_54 : decode cX0_leave 54 = .ok (.ifCond .le 7, 3) := dk_158 0 7 (dk_at dksX0_leave_2 8 rfl rfl)
theorem dX0_leave_57 : decode cX0_leave 57 = .ok (.iconst 1, 1) := dk_4 (dk_at dksX0_leave_2 11 rfl rfl)
theorem dX0_leave_58 : decode cX0_leave 58 = .ok (.goto 4, 3) := dk_167 0 4 (dk_at dksX0_leave_2 12 rfl rfl)
theorem dX0_leave_61 : decode cX0_leave 61 = .ok (.iconst 0, 1) := dk_3 (dk_at dksX0_leave_2 15 rfl rfl)
theorem dX0_leave_62 : decode cX0_leave 62 = .ok (.aload_n 0, 1) := dk_42 (dk_at dksX0_leave_2 16 rfl rfl)
theorem dX0_leave_63 : decode cX0_leave 63 = .ok (.getfield 59, 3) := dk_180 0 59 (dk_at dksX0_leave_2 17 rfl rfl)
theorem dX0_leave_66 : decode cX0_leave 66 = .ok (.getfield 164, 3) := dk_180 0 164 (dk_at dksX0_leave_2 20 rfl rfl)
theorem dX0_leave_69 : decode cX0_leave 69 = .ok (.iload_n 1, 1) := dk_27 (dk_at dksX0_leave_2 23 rfl rfl)
theorem dX0_leave_70 : decode cX0_leave 70 = .ok (.iaload, 1) := dk_46 (dk_at dksX0_leave_3 0 rfl rfl)
theorem dX0_leave_71 : decode cX0_leave 71 = .ok (.ifCond .le 7, 3) := dk_158 0 7 (dk_at dksX0_leave_3 1 rfl rfl)
theorem dX0_leave_74 : decode cX0_leave 74 = .ok (.iconst 1, 1) := dk_4 (dk_at dksX0_leave_3 4 rfl rfl)
theorem dX0_leave_75 : decode cX0_leave 75 = .ok (.goto 4, 3) := dk_167 0 4 (dk_at dksX0_leave_3 5 rfl rfl)
theorem dX0_leave_78 : decode cX0_leave 78 = .ok (.iconst 0, 1) := dk_3 (dk_at dksX0_leave_3 8 rfl rfl)
theorem dX0_leave_79 : decode cX0_leave 79 = .ok (.if_icmp .eq 5, 3) := dk_159 0 5 (dk_at dksX0_leave_3 9 rfl rfl)
theorem dX0_leave_82 : decode cX0_leave 82 = .ok (.iload_n 2, 1) := dk_28 (dk_at dksX0_leave_3 12 rfl rfl)
theorem dX0_leave_83 : decode cX0_leave 83 = .ok (.ireturn, 1) := dk_172 (dk_at dksX0_leave_3 13 rfl rfl)
theorem dX0_leave_84 : decode cX0_leave 84 = .ok (.iinc 2 1, 3) := dk_132 2 1 (dk_at dksX0_leave_3 14 rfl rfl)
theorem dX0_leave_87 : decode cX0_leave 87 = .ok (.goto (-64), 3) := dk_167 255 192 (dk_at dksX0_leave_3 17 rfl rfl)
theorem dX0_leave_90 : decode cX0_leave 90 = .ok (.bipush (-2), 2) := dk_16 254 (dk_at dksX0_leave_3 20 rfl rfl)
theorem dX0_leave_92 : decode cX0_leave 92 = .ok (.ireturn, 1) := dk_172 (dk_at dksX0_leave_3 22 rfl rfl)
abbrev cX0_then : ByteArray := prog_1_method_54_code
def yX0_then : MethodName := ⟨RX0, "then", "(III)I"⟩
def dkwX0_then_4 : List UInt8 := [180, 0, 63, 180, 0, 200, 184, 0, 239, 172]
abbrev dktX0_then_4 : List UInt8 := dkwX0_then_4 ++ []
def dkwX0_then_3 : List UInt8 := [4, 126, 167, 0, 30, 29, 4, 160, 0, 15, 42, 180, 0, 63, 180, 0, 164, 27, 46, 167, 0, 13, 42]
abbrev dktX0_then_3 : List UInt8 := dkwX0_then_3 ++ dktX0_then_4
def dkwX0_then_2 : List UInt8 := [180, 0, 63, 28, 42, 180, 0, 76, 182, 0, 218, 29, 154, 0, 17, 42, 180, 0, 63, 180, 0, 200, 27, 122]
abbrev dktX0_then_2 : List UInt8 := dkwX0_then_2 ++ dktX0_then_3
def dkwX0_then_1 : List UInt8 := [182, 0, 150, 154, 0, 6, 18, 157, 172, 42, 180, 0, 63, 42, 180, 0, 59, 182, 0, 193, 42, 42]
abbrev dktX0_then_1 : List UInt8 := dkwX0_then_1 ++ dktX0_then_2
def dkwX0_then_0 : List UInt8 := [28, 184, 0, 215, 153, 0, 25, 29, 3, 5, 184, 0, 146, 153, 0, 16, 29, 5, 162, 0, 14, 42, 27]
abbrev dktX0_then_0 : List UInt8 := dkwX0_then_0 ++ dktX0_then_1
theorem dksX0_then_0 : cX0_then.data.toList.drop 0 = dktX0_then_0 := by decide +kernel
theorem dksX0_then_1 : cX0_then.data.toList.drop 23 = dktX0_then_1 := dk_seg dksX0_then_0 23 rfl rfl
theorem dksX0_then_2 : cX0_then.data.toList.drop 45 = dktX0_then_2 := dk_seg dksX0_then_1 22 rfl rfl
theorem dksX0_then_3 : cX0_then.data.toList.drop 69 = dktX0_then_3 := dk_seg dksX0_then_2 24 rfl rfl
theorem dksX0_then_4 : cX0_then.data.toList.drop 92 = dktX0_then_4 := dk_seg dksX0_then_3 23 rfl rfl
theorem dX0_then_0 : decode cX0_then 0 = .ok (.iload_n 2, 1) := dk_28 (dk_at dksX0_then_0 0 rfl rfl)
theorem dX0_then_1 : decode cX0_then 1 = .ok (.invokestatic 215, 3) := dk_184 0 215 (dk_at dksX0_then_0 1 rfl rfl)
theorem dX0_then_4 : decode cX0_then 4 = .ok (.ifCond .eq 25, 3) := dk_153 0 25 (dk_at dksX0_then_0 4 rfl rfl)
theorem dX0_then_7 : decode cX0_then 7 = .ok (.iload_n 3, 1) := dk_29 (dk_at dksX0_then_0 7 rfl rfl)
theorem dX0_then_8 : decode cX0_then 8 = .ok (.iconst 0, 1) := dk_3 (dk_at dksX0_then_0 8 rfl rfl)
theorem dX0_then_9 : decode cX0_then 9 = .ok (.iconst 2, 1) := dk_5 (dk_at dksX0_then_0 9 rfl rfl)
theorem dX0_then_10 : decode cX0_then 10 = .ok (.invokestatic 146, 3) := dk_184 0 146 (dk_at dksX0_then_0 10 rfl rfl)
theorem dX0_then_13 : decode cX0_then 13 = .ok (.ifCond .eq 16, 3) := dk_153 0 16 (dk_at dksX0_then_0 13 rfl rfl)
theorem dX0_then_16 : decode cX0_then 16 = .ok (.iload_n 3, 1) := dk_29 (dk_at dksX0_then_0 16 rfl rfl)
theorem dX0_then_17 : decode cX0_then 17 = .ok (.iconst 2, 1) := dk_5 (dk_at dksX0_then_0 17 rfl rfl)
theorem dX0_then_18 : decode cX0_then 18 = .ok (.if_icmp .ge 14, 3) := dk_162 0 14 (dk_at dksX0_then_0 18 rfl rfl)
theorem dX0_then_21 : decode cX0_then 21 = .ok (.aload_n 0, 1) := dk_42 (dk_at dksX0_then_0 21 rfl rfl)
theorem dX0_then_22 : decode cX0_then 22 = .ok (.iload_n 1, 1) := dk_27 (dk_at dksX0_then_0 22 rfl rfl)
theorem dX0_then_23 : decode cX0_then 23 = .ok (.invokevirtual 150, 3) := dk_182 0 150 (dk_at dksX0_then_1 0 rfl rfl)
theorem dX0_then_26 : decode cX0_then 26 = .ok (.ifCond .ne 6, 3) := dk_154 0 6 (dk_at dksX0_then_1 3 rfl rfl)
theorem dX0_then_29 : decode cX0_then 29 = .ok (.ldc 157, 2) := dk_18 157 (dk_at dksX0_then_1 6 rfl rfl)
theorem dX0_then_31 : decode cX0_then 31 = .ok (.ireturn, 1) := dk_172 (dk_at dksX0_then_1 8 rfl rfl)
theorem dX0_then_32 : decode cX0_then 32 = .ok (.aload_n 0, 1) := dk_42 (dk_at dksX0_then_1 9 rfl rfl)
theorem dX0_then_33 : decode cX0_then 33 = .ok (.getfield 63, 3) := dk_180 0 63 (dk_at dksX0_then_1 10 rfl rfl)
theorem dX0_then_36 : decode cX0_then 36 = .ok (.aload_n 0, 1) := dk_42 (dk_at dksX0_then_1 13 rfl rfl)
theorem dX0_then_37 : decode cX0_then 37 = .ok (.getfield 59, 3) := dk_180 0 59 (dk_at dksX0_then_1 14 rfl rfl)
theorem dX0_then_40 : decode cX0_then 40 = .ok (.invokevirtual 193, 3) := dk_182 0 193 (dk_at dksX0_then_1 17 rfl rfl)
theorem dX0_then_43 : decode cX0_then 43 = .ok (.aload_n 0, 1) := dk_42 (dk_at dksX0_then_1 20 rfl rfl)
theorem dX0_then_44 : decode cX0_then 44 = .ok (.aload_n 0, 1) := dk_42 (dk_at dksX0_then_1 21 rfl rfl)
theorem dX0_then_45 : decode cX0_then 45 = .ok (.getfield 63, 3) := dk_180 0 63 (dk_at dksX0_then_2 0 rfl rfl)
theorem dX0_then_48 : decode cX0_then 48 = .ok (.iload_n 2, 1) := dk_28 (dk_at dksX0_then_2 3 rfl rfl)
theorem dX0_then_49 : decode cX0_then 49 = .ok (.aload_n 0, 1) := dk_42 (dk_at dksX0_then_2 4 rfl rfl)
theorem dX0_then_50 : decode cX0_then 50 = .ok (.getfield 76, 3) := dk_180 0 76 (dk_at dksX0_then_2 5 rfl rfl)
theorem dX0_then_53 : decode cX0_then 53 = .ok (.invokevirtual 218, 3) := dk_182 0 218 (dk_at dksX0_then_2 8 rfl rfl)
theorem dX0_then_56 : decode cX0_then 56 = .ok (.iload_n 3, 1) := dk_29 (dk_at dksX0_then_2 11 rfl rfl)
theorem dX0_then_57 : decode cX0_then 57 = .ok (.ifCond .ne 17, 3) := dk_154 0 17 (dk_at dksX0_then_2 12 rfl rfl)
theorem dX0_then_60 : decode cX0_then 60 = .ok (.aload_n 0, 1) := dk_42 (dk_at dksX0_then_2 15 rfl rfl)
theorem dX0_then_61 : decode cX0_then 61 = .ok (.getfield 63, 3) := dk_180 0 63 (dk_at dksX0_then_2 16 rfl rfl)
theorem dX0_then_64 : decode cX0_then 64 = .ok (.getfield 200, 3) := dk_180 0 200 (dk_at dksX0_then_2 19 rfl rfl)
theorem dX0_then_67 : decode cX0_then 67 = .ok (.iload_n 1, 1) := dk_27 (dk_at dksX0_then_2 22 rfl rfl)
theorem dX0_then_68 : decode cX0_then 68 = .ok (.ishr, 1) := dk_122 (dk_at dksX0_then_2 23 rfl rfl)
theorem dX0_then_69 : decode cX0_then 69 = .ok (.iconst 1, 1) := dk_4 (dk_at dksX0_then_3 0 rfl rfl)
theorem dX0_then_70 : decode cX0_then 70 = .ok (.iand, 1) := dk_126 (dk_at dksX0_then_3 1 rfl rfl)
theorem dX0_then_71 : decode cX0_then 71 = .ok (.goto 30, 3) := dk_167 0 30 (dk_at dksX0_then_3 2 rfl rfl)
theorem dX0_then_74 : decode cX0_then 74 = .ok (.iload_n 3, 1) := dk_29 (dk_at dksX0_then_3 5 rfl rfl)
theorem dX0_then_75 : decode cX0_then 75 = .ok (.iconst 1, 1) := dk_4 (dk_at dksX0_then_3 6 rfl rfl)
theorem dX0_then_76 : decode cX0_then 76 = .ok (.if_icmp .ne 15, 3) := dk_160 0 15 (dk_at dksX0_then_3 7 rfl rfl)
theorem dX0_then_79 : decode cX0_then 79 = .ok (.aload_n 0, 1) := dk_42 (dk_at dksX0_then_3 10 rfl rfl)
theorem dX0_then_80 : decode cX0_then 80 = .ok (.getfield 63, 3) := dk_180 0 63 (dk_at dksX0_then_3 11 rfl rfl)
theorem dX0_then_83 : decode cX0_then 83 = .ok (.getfield 164, 3) := dk_180 0 164 (dk_at dksX0_then_3 14 rfl rfl)
theorem dX0_then_86 : decode cX0_then 86 = .ok (.iload_n 1, 1) := dk_27 (dk_at dksX0_then_3 17 rfl rfl)
theorem dX0_then_87 : decode cX0_then 87 = .ok (.iaload, 1) := dk_46 (dk_at dksX0_then_3 18 rfl rfl)
theorem dX0_then_88 : decode cX0_then 88 = .ok (.goto 13, 3) := dk_167 0 13 (dk_at dksX0_then_3 19 rfl rfl)
theorem dX0_then_91 : decode cX0_then 91 = .ok (.aload_n 0, 1) := dk_42 (dk_at dksX0_then_3 22 rfl rfl)
theorem dX0_then_92 : decode cX0_then 92 = .ok (.getfield 63, 3) := dk_180 0 63 (dk_at dksX0_then_4 0 rfl rfl)
theorem dX0_then_95 : decode cX0_then 95 = .ok (.getfield 200, 3) := dk_180 0 200 (dk_at dksX0_then_4 3 rfl rfl)
theorem dX0_then_98 : decode cX0_then 98 = .ok (.invokestatic 239, 3) := dk_184 0 239 (dk_at dksX0_then_4 6 rfl rfl)
theorem dX0_then_101 : decode cX0_then 101 = .ok (.ireturn, 1) := dk_172 (dk_at dksX0_then_4 9 rfl rfl)
abbrev cX0_year : ByteArray := prog_1_method_55_code
def yX0_year : MethodName := ⟨RX0, "year", "(II)I"⟩
def dkwX0_year_4 : List UInt8 := [3, 96, 62, 132, 4, 1, 167, 255, 182, 29, 172]
abbrev dktX0_year_4 : List UInt8 := dkwX0_year_4 ++ []
def dkwX0_year_3 : List UInt8 := [182, 0, 218, 29, 42, 180, 0, 63, 180, 0, 200, 42, 182, 0, 154, 4, 100, 160, 0, 7, 4, 167, 0, 4]
abbrev dktX0_year_3 : List UInt8 := dkwX0_year_3 ++ dktX0_year_4
def dkwX0_year_2 : List UInt8 := [180, 0, 48, 180, 1, 13, 21, 4, 96, 181, 1, 16, 42, 42, 180, 0, 63, 27, 42, 180, 0, 76]
abbrev dktX0_year_2 : List UInt8 := dkwX0_year_2 ++ dktX0_year_3
def dkwX0_year_1 : List UInt8 := [21, 4, 28, 162, 0, 74, 42, 180, 0, 63, 42, 180, 0, 59, 182, 0, 193, 42, 180, 0, 63, 42]
abbrev dktX0_year_1 : List UInt8 := dkwX0_year_1 ++ dktX0_year_2
def dkwX0_year_0 : List UInt8 := [27, 184, 0, 215, 153, 0, 13, 28, 4, 16, 20, 184, 0, 146, 154, 0, 5, 2, 172, 3, 62, 3, 54, 4]
abbrev dktX0_year_0 : List UInt8 := dkwX0_year_0 ++ dktX0_year_1
theorem dksX0_year_0 : cX0_year.data.toList.drop 0 = dktX0_year_0 := by decide +kernel
theorem dksX0_year_1 : cX0_year.data.toList.drop 24 = dktX0_year_1 := dk_seg dksX0_year_0 24 rfl rfl
theorem dksX0_year_2 : cX0_year.data.toList.drop 46 = dktX0_year_2 := dk_seg dksX0_year_1 22 rfl rfl
theorem dksX0_year_3 : cX0_year.data.toList.drop 68 = dktX0_year_3 := dk_seg dksX0_year_2 22 rfl rfl
theorem dksX0_year_4 : cX0_year.data.toList.drop 92 = dktX0_year_4 := dk_seg dksX0_year_3 24 rfl rfl
theorem dX0_year_0 : decode cX0_year 0 = .ok (.iload_n 1, 1) := dk_27 (dk_at dksX0_year_0 0 rfl rfl)
theorem dX0_year_1 : decode cX0_year 1 = .ok (.invokestatic 215, 3) := dk_184 0 215 (dk_at dksX0_year_0 1 rfl rfl)
theorem dX0_year_4 : decode cX0_year 4 = .ok (.ifCond .eq 13, 3) := dk_153 0 13 (dk_at dksX0_year_0 4 rfl rfl)
theorem dX0_year_7 : decode cX0_year 7 = .ok (.iload_n 2, 1) := dk_28 (dk_at dksX0_year_0 7 rfl rfl)
theorem dX0_year_8 : decode cX0_year 8 = .ok (.iconst 1, 1) := dk_4 (dk_at dksX0_year_0 8 rfl rfl)
theorem dX0_year_9 : decode cX0_year 9 = .ok (.bipush 20, 2) := dk_16 20 (dk_at dksX0_year_0 9 rfl rfl)
theorem dX0_year_11 : decode cX0_year 11 = .ok (.invokestatic 146, 3) := dk_184 0 146 (dk_at dksX0_year_0 11 rfl rfl)
theorem dX0_year_14 : decode cX0_year 14 = .ok (.ifCond .ne 5, 3) := dk_154 0 5 (dk_at dksX0_year_0 14 rfl rfl)
theorem dX0_year_17 : decode cX0_year 17 = .ok (.iconst (-1), 1) := dk_2 (dk_at dksX0_year_0 17 rfl rfl)
theorem dX0_year_18 : decode cX0_year 18 = .ok (.ireturn, 1) := dk_172 (dk_at dksX0_year_0 18 rfl rfl)
theorem dX0_year_19 : decode cX0_year 19 = .ok (.iconst 0, 1) := dk_3 (dk_at dksX0_year_0 19 rfl rfl)
theorem dX0_year_20 : decode cX0_year 20 = .ok (.istore_n 3, 1) := dk_62 (dk_at dksX0_year_0 20 rfl rfl)
theorem dX0_year_21 : decode cX0_year 21 = .ok (.iconst 0, 1) := dk_3 (dk_at dksX0_year_0 21 rfl rfl)
theorem dX0_year_22 : decode cX0_year 22 = .ok (.istore 4, 2) := dk_54 4 (dk_at dksX0_year_0 22 rfl rfl)
theorem dX0_year_24 : decode cX0_year 24 = .ok (.iload 4, 2) := dk_21 4 (dk_at dksX0_year_1 0 rfl rfl)
theorem dX0_year_26 : decode cX0_year 26 = .ok (.iload_n 2, 1) := dk_28 (dk_at dksX0_year_1 2 rfl rfl)
theorem dX0_year_27 : decode cX0_year 27 = .ok (.if_icmp .ge 74, 3) := dk_162 0 74 (dk_at dksX0_year_1 3 rfl rfl)
theorem dX0_year_30 : decode cX0_year 30 = .ok (.aload_n 0, 1) := dk_42 (dk_at dksX0_year_1 6 rfl rfl)
theorem dX0_year_31 : decode cX0_year 31 = .ok (.getfield 63, 3) := dk_180 0 63 (dk_at dksX0_year_1 7 rfl rfl)
theorem dX0_year_34 : decode cX0_year 34 = .ok (.aload_n 0, 1) := dk_42 (dk_at dksX0_year_1 10 rfl rfl)
theorem dX0_year_35 : decode cX0_year 35 = .ok (.getfield 59, 3) := dk_180 0 59 (dk_at dksX0_year_1 11 rfl rfl)
theorem dX0_year_38 : decode cX0_year 38 = .ok (.invokevirtual 193, 3) := dk_182 0 193 (dk_at dksX0_year_1 14 rfl rfl)
theorem dX0_year_41 : decode cX0_year 41 = .ok (.aload_n 0, 1) := dk_42 (dk_at dksX0_year_1 17 rfl rfl)
theorem dX0_year_42 : decode cX0_year 42 = .ok (.getfield 63, 3) := dk_180 0 63 (dk_at dksX0_year_1 18 rfl rfl)
theorem dX0_year_45 : decode cX0_year 45 = .ok (.aload_n 0, 1) := dk_42 (dk_at dksX0_year_1 21 rfl rfl)
theorem dX0_year_46 : decode cX0_year 46 = .ok (.getfield 48, 3) := dk_180 0 48 (dk_at dksX0_year_2 0 rfl rfl)
theorem dX0_year_49 : decode cX0_year 49 = .ok (.getfield 269, 3) := dk_180 1 13 (dk_at dksX0_year_2 3 rfl rfl)
theorem dX0_year_52 : decode cX0_year 52 = .ok (.iload 4, 2) := dk_21 4 (dk_at dksX0_year_2 6 rfl rfl)
theorem dX0_year_54 : decode cX0_year 54 = .ok (.iadd, 1) := dk_96 (dk_at dksX0_year_2 8 rfl rfl)
theorem dX0_year_55 : decode cX0_year 55 = .ok (.putfield 272, 3) := dk_181 1 16 (dk_at dksX0_year_2 9 rfl rfl)
theorem dX0_year_58 : decode cX0_year 58 = .ok (.aload_n 0, 1) := dk_42 (dk_at dksX0_year_2 12 rfl rfl)
theorem dX0_year_59 : decode cX0_year 59 = .ok (.aload_n 0, 1) := dk_42 (dk_at dksX0_year_2 13 rfl rfl)
theorem dX0_year_60 : decode cX0_year 60 = .ok (.getfield 63, 3) := dk_180 0 63 (dk_at dksX0_year_2 14 rfl rfl)
theorem dX0_year_63 : decode cX0_year 63 = .ok (.iload_n 1, 1) := dk_27 (dk_at dksX0_year_2 17 rfl rfl)
theorem dX0_year_64 : decode cX0_year 64 = .ok (.aload_n 0, 1) := dk_42 (dk_at dksX0_year_2 18 rfl rfl)
theorem dX0_year_65 : decode cX0_year 65 = .ok (.getfield 76, 3) := dk_180 0 76 (dk_at dksX0_year_2 19 rfl rfl)
theorem dX0_year_68 : decode cX0_year 68 = .ok (.invokevirtual 218, 3) := dk_182 0 218 (dk_at dksX0_year_3 0 rfl rfl)
theorem dX0_year_71 : decode cX0_year 71 = .ok (.iload_n 3, 1) := dk_29 (dk_at dksX0_year_3 3 rfl rfl)
theorem dX0_year_72 : decode cX0_year 72 = .ok (.aload_n 0, 1) := dk_42 (dk_at dksX0_year_3 4 rfl rfl)
theorem dX0_year_73 : decode cX0_year 73 = .ok (.getfield 63, 3) := dk_180 0 63 (dk_at dksX0_year_3 5 rfl rfl)
theorem dX0_year_76 : decode cX0_year 76 = .ok (.getfield 200, 3) := dk_180 0 200 (dk_at dksX0_year_3 8 rfl rfl)
theorem dX0_year_79 : decode cX0_year 79 = .ok (.aload_n 0, 1) := dk_42 (dk_at dksX0_year_3 11 rfl rfl)
theorem dX0_year_80 : decode cX0_year 80 = .ok (.invokevirtual 154, 3) := dk_182 0 154 (dk_at dksX0_year_3 12 rfl rfl)
theorem dX0_year_83 : decode cX0_year 83 = .ok (.iconst 1, 1) := dk_4 (dk_at dksX0_year_3 15 rfl rfl)
theorem dX0_year_84 : decode cX0_year 84 = .ok (.isub, 1) := dk_100 (dk_at dksX0_year_3 16 rfl rfl)
theorem dX0_year_85 : decode cX0_year 85 = .ok (.if_icmp .ne 7, 3) := dk_160 0 7 (dk_at dksX0_year_3 17 rfl rfl)
theorem dX0_year_88 : decode cX0_year 88 = .ok (.iconst 1, 1) := dk_4 (dk_at dksX0_year_3 20 rfl rfl)
theorem dX0_year_89 : decode cX0_year 89 = .ok (.goto 4, 3) := dk_167 0 4 (dk_at dksX0_year_3 21 rfl rfl)
theorem dX0_year_92 : decode cX0_year 92 = .ok (.iconst 0, 1) := dk_3 (dk_at dksX0_year_4 0 rfl rfl)
theorem dX0_year_93 : decode cX0_year 93 = .ok (.iadd, 1) := dk_96 (dk_at dksX0_year_4 1 rfl rfl)
theorem dX0_year_94 : decode cX0_year 94 = .ok (.istore_n 3, 1) := dk_62 (dk_at dksX0_year_4 2 rfl rfl)
theorem dX0_year_95 : decode cX0_year 95 = .ok (.iinc 4 1, 3) := dk_132 4 1 (dk_at dksX0_year_4 3 rfl rfl)
theorem dX0_year_98 : decode cX0_year 98 = .ok (.goto (-74), 3) := dk_167 255 182 (dk_at dksX0_year_4 6 rfl rfl)
theorem dX0_year_101 : decode cX0_year 101 = .ok (.iload_n 3, 1) := dk_29 (dk_at dksX0_year_4 9 rfl rfl)
theorem dX0_year_102 : decode cX0_year 102 = .ok (.ireturn, 1) := dk_172 (dk_at dksX0_year_4 10 rfl rfl)
abbrev cX0_tell : ByteArray := prog_1_method_56_code
def yX0_tell : MethodName := ⟨RX0, "tell", "(IIZ)I"⟩
def dkwX0_tell_3 : List UInt8 := [100, 172]
abbrev dktX0_tell_3 : List UInt8 := dkwX0_tell_3 ++ []
def dkwX0_tell_2 : List UInt8 := [180, 0, 103, 42, 180, 0, 134, 29, 84, 42, 89, 180, 0, 134, 4, 96, 181, 0, 134, 42, 180, 0, 134, 4]
abbrev dktX0_tell_2 : List UInt8 := dkwX0_tell_2 ++ dktX0_tell_3
def dkwX0_tell_1 : List UInt8 := [2, 172, 42, 180, 0, 93, 42, 180, 0, 134, 27, 79, 42, 180, 0, 97, 42, 180, 0, 134, 28, 79, 42]
abbrev dktX0_tell_1 : List UInt8 := dkwX0_tell_1 ++ dktX0_tell_2
def dkwX0_tell_0 : List UInt8 := [42, 27, 182, 0, 150, 153, 0, 19, 28, 184, 0, 231, 153, 0, 12, 42, 180, 0, 134, 16, 20, 160, 0, 5]
abbrev dktX0_tell_0 : List UInt8 := dkwX0_tell_0 ++ dktX0_tell_1
theorem dksX0_tell_0 : cX0_tell.data.toList.drop 0 = dktX0_tell_0 := by decide +kernel
theorem dksX0_tell_1 : cX0_tell.data.toList.drop 24 = dktX0_tell_1 := dk_seg dksX0_tell_0 24 rfl rfl
theorem dksX0_tell_2 : cX0_tell.data.toList.drop 47 = dktX0_tell_2 := dk_seg dksX0_tell_1 23 rfl rfl
theorem dksX0_tell_3 : cX0_tell.data.toList.drop 71 = dktX0_tell_3 := dk_seg dksX0_tell_2 24 rfl rfl
theorem dX0_tell_0 : decode cX0_tell 0 = .ok (.aload_n 0, 1) := dk_42 (dk_at dksX0_tell_0 0 rfl rfl)
theorem dX0_tell_1 : decode cX0_tell 1 = .ok (.iload_n 1, 1) := dk_27 (dk_at dksX0_tell_0 1 rfl rfl)
theorem dX0_tell_2 : decode cX0_tell 2 = .ok (.invokevirtual 150, 3) := dk_182 0 150 (dk_at dksX0_tell_0 2 rfl rfl)
theorem dX0_tell_5 : decode cX0_tell 5 = .ok (.ifCond .eq 19, 3) := dk_153 0 19 (dk_at dksX0_tell_0 5 rfl rfl)
theorem dX0_tell_8 : decode cX0_tell 8 = .ok (.iload_n 2, 1) := dk_28 (dk_at dksX0_tell_0 8 rfl rfl)
theorem dX0_tell_9 : decode cX0_tell 9 = .ok (.invokestatic 231, 3) := dk_184 0 231 (dk_at dksX0_tell_0 9 rfl rfl)
theorem dX0_tell_12 : decode cX0_tell 12 = .ok (.ifCond .eq 12, 3) := dk_153 0 12 (dk_at dksX0_tell_0 12 rfl rfl)
theorem dX0_tell_15 : decode cX0_tell 15 = .ok (.aload_n 0, 1) := dk_42 (dk_at dksX0_tell_0 15 rfl rfl)
theorem dX0_tell_16 : decode cX0_tell 16 = .ok (.getfield 134, 3) := dk_180 0 134 (dk_at dksX0_tell_0 16 rfl rfl)
theorem dX0_tell_19 : decode cX0_tell 19 = .ok (.bipush 20, 2) := dk_16 20 (dk_at dksX0_tell_0 19 rfl rfl)
theorem dX0_tell_21 : decode cX0_tell 21 = .ok (.if_icmp .ne 5, 3) := dk_160 0 5 (dk_at dksX0_tell_0 21 rfl rfl)
theorem dX0_tell_24 : decode cX0_tell 24 = .ok (.iconst (-1), 1) := dk_2 (dk_at dksX0_tell_1 0 rfl rfl)
theorem dX0_tell_25 : decode cX0_tell 25 = .ok (.ireturn, 1) := dk_172 (dk_at dksX0_tell_1 1 rfl rfl)
theorem dX0_tell_26 : decode cX0_tell 26 = .ok (.aload_n 0, 1) := dk_42 (dk_at dksX0_tell_1 2 rfl rfl)
theorem dX0_tell_27 : decode cX0_tell 27 = .ok (.getfield 93, 3) := dk_180 0 93 (dk_at dksX0_tell_1 3 rfl rfl)
theorem dX0_tell_30 : decode cX0_tell 30 = .ok (.aload_n 0, 1) := dk_42 (dk_at dksX0_tell_1 6 rfl rfl)
theorem dX0_tell_31 : decode cX0_tell 31 = .ok (.getfield 134, 3) := dk_180 0 134 (dk_at dksX0_tell_1 7 rfl rfl)
theorem dX0_tell_34 : decode cX0_tell 34 = .ok (.iload_n 1, 1) := dk_27 (dk_at dksX0_tell_1 10 rfl rfl)
theorem dX0_tell_35 : decode cX0_tell 35 = .ok (.iastore, 1) := dk_79 (dk_at dksX0_tell_1 11 rfl rfl)
theorem dX0_tell_36 : decode cX0_tell 36 = .ok (.aload_n 0, 1) := dk_42 (dk_at dksX0_tell_1 12 rfl rfl)
theorem dX0_tell_37 : decode cX0_tell 37 = .ok (.getfield 97, 3) := dk_180 0 97 (dk_at dksX0_tell_1 13 rfl rfl)
theorem dX0_tell_40 : decode cX0_tell 40 = .ok (.aload_n 0, 1) := dk_42 (dk_at dksX0_tell_1 16 rfl rfl)
theorem dX0_tell_41 : decode cX0_tell 41 = .ok (.getfield 134, 3) := dk_180 0 134 (dk_at dksX0_tell_1 17 rfl rfl)
theorem dX0_tell_44 : decode cX0_tell 44 = .ok (.iload_n 2, 1) := dk_28 (dk_at dksX0_tell_1 20 rfl rfl)
theorem dX0_tell_45 : decode cX0_tell 45 = .ok (.iastore, 1) := dk_79 (dk_at dksX0_tell_1 21 rfl rfl)
theorem dX0_tell_46 : decode cX0_tell 46 = .ok (.aload_n 0, 1) := dk_42 (dk_at dksX0_tell_1 22 rfl rfl)
theorem dX0_tell_47 : decode cX0_tell 47 = .ok (.getfield 103, 3) := dk_180 0 103 (dk_at dksX0_tell_2 0 rfl rfl)
theorem dX0_tell_50 : decode cX0_tell 50 = .ok (.aload_n 0, 1) := dk_42 (dk_at dksX0_tell_2 3 rfl rfl)
theorem dX0_tell_51 : decode cX0_tell 51 = .ok (.getfield 134, 3) := dk_180 0 134 (dk_at dksX0_tell_2 4 rfl rfl)
theorem dX0_tell_54 : decode cX0_tell 54 = .ok (.iload_n 3, 1) := dk_29 (dk_at dksX0_tell_2 7 rfl rfl)
theorem dX0_tell_55 : decode cX0_tell 55 = .ok (.bastore, 1) := dk_84 (dk_at dksX0_tell_2 8 rfl rfl)
theorem dX0_tell_56 : decode cX0_tell 56 = .ok (.aload_n 0, 1) := dk_42 (dk_at dksX0_tell_2 9 rfl rfl)
theorem dX0_tell_57 : decode cX0_tell 57 = .ok (.dup, 1) := dk_89 (dk_at dksX0_tell_2 10 rfl rfl)
theorem dX0_tell_58 : decode cX0_tell 58 = .ok (.getfield 134, 3) := dk_180 0 134 (dk_at dksX0_tell_2 11 rfl rfl)
theorem dX0_tell_61 : decode cX0_tell 61 = .ok (.iconst 1, 1) := dk_4 (dk_at dksX0_tell_2 14 rfl rfl)
theorem dX0_tell_62 : decode cX0_tell 62 = .ok (.iadd, 1) := dk_96 (dk_at dksX0_tell_2 15 rfl rfl)
theorem dX0_tell_63 : decode cX0_tell 63 = .ok (.putfield 134, 3) := dk_181 0 134 (dk_at dksX0_tell_2 16 rfl rfl)
theorem dX0_tell_66 : decode cX0_tell 66 = .ok (.aload_n 0, 1) := dk_42 (dk_at dksX0_tell_2 19 rfl rfl)
theorem dX0_tell_67 : decode cX0_tell 67 = .ok (.getfield 134, 3) := dk_180 0 134 (dk_at dksX0_tell_2 20 rfl rfl)
theorem dX0_tell_70 : decode cX0_tell 70 = .ok (.iconst 1, 1) := dk_4 (dk_at dksX0_tell_2 23 rfl rfl)
theorem dX0_tell_71 : decode cX0_tell 71 = .ok (.isub, 1) := dk_100 (dk_at dksX0_tell_3 0 rfl rfl)
theorem dX0_tell_72 : decode cX0_tell 72 = .ok (.ireturn, 1) := dk_172 (dk_at dksX0_tell_3 1 rfl rfl)
abbrev cX0_forget : ByteArray := prog_1_method_57_code
def yX0_forget : MethodName := ⟨RX0, "forget", "()I"⟩
def dkwX0_forget_0 : List UInt8 := [42, 180, 0, 134, 60, 42, 3, 181, 0, 134, 27, 172]
abbrev dktX0_forget_0 : List UInt8 := dkwX0_forget_0 ++ []
theorem dksX0_forget_0 : cX0_forget.data.toList.drop 0 = dktX0_forget_0 := by decide +kernel
theorem dX0_forget_0 : decode cX0_forget 0 = .ok (.aload_n 0, 1) := dk_42 (dk_at dksX0_forget_0 0 rfl rfl)
theorem dX0_forget_1 : decode cX0_forget 1 = .ok (.getfield 134, 3) := dk_180 0 134 (dk_at dksX0_forget_0 1 rfl rfl)
theorem dX0_forget_4 : decode cX0_forget 4 = .ok (.istore_n 1, 1) := dk_60 (dk_at dksX0_forget_0 4 rfl rfl)
theorem dX0_forget_5 : decode cX0_forget 5 = .ok (.aload_n 0, 1) := dk_42 (dk_at dksX0_forget_0 5 rfl rfl)
theorem dX0_forget_6 : decode cX0_forget 6 = .ok (.iconst 0, 1) := dk_3 (dk_at dksX0_forget_0 6 rfl rfl)
theorem dX0_forget_7 : decode cX0_forget 7 = .ok (.putfield 134, 3) := dk_181 0 134 (dk_at dksX0_forget_0 7 rfl rfl)
theorem dX0_forget_10 : decode cX0_forget 10 = .ok (.iload_n 1, 1) := dk_27 (dk_at dksX0_forget_0 10 rfl rfl)
theorem dX0_forget_11 : decode cX0_forget 11 = .ok (.ireturn, 1) := dk_172 (dk_at dksX0_forget_0 11 rfl rfl)
abbrev cX0_lay : ByteArray := prog_1_method_60_code
def yX0_lay : MethodName := ⟨RX0, "lay", "(II)I"⟩
def dkwX0_lay_3 : List UInt8 := [167, 0, 7, 42, 180, 1, 26, 172]
abbrev dktX0_lay_3 : List UInt8 := dkwX0_lay_3 ++ []
def dkwX0_lay_2 : List UInt8 := [167, 0, 31, 28, 4, 160, 0, 10, 42, 180, 1, 20, 167, 0, 19, 28, 5, 160, 0, 10, 42, 180, 1, 23]
abbrev dktX0_lay_2 : List UInt8 := dkwX0_lay_2 ++ dktX0_lay_3
def dkwX0_lay_1 : List UInt8 := [27, 182, 1, 32, 28, 154, 0, 8, 42, 180, 1, 17, 172, 42, 180, 1, 17, 154, 0, 8, 16, 254]
abbrev dktX0_lay_1 : List UInt8 := dkwX0_lay_1 ++ dktX0_lay_2
def dkwX0_lay_0 : List UInt8 := [27, 3, 42, 180, 0, 134, 184, 0, 146, 153, 0, 12, 28, 3, 6, 184, 0, 146, 154, 0, 5, 2, 172, 42]
abbrev dktX0_lay_0 : List UInt8 := dkwX0_lay_0 ++ dktX0_lay_1
theorem dksX0_lay_0 : cX0_lay.data.toList.drop 0 = dktX0_lay_0 := by decide +kernel
theorem dksX0_lay_1 : cX0_lay.data.toList.drop 24 = dktX0_lay_1 := dk_seg dksX0_lay_0 24 rfl rfl
theorem dksX0_lay_2 : cX0_lay.data.toList.drop 46 = dktX0_lay_2 := dk_seg dksX0_lay_1 22 rfl rfl
theorem dksX0_lay_3 : cX0_lay.data.toList.drop 70 = dktX0_lay_3 := dk_seg dksX0_lay_2 24 rfl rfl
theorem dX0_lay_0 : decode cX0_lay 0 = .ok (.iload_n 1, 1) := dk_27 (dk_at dksX0_lay_0 0 rfl rfl)
theorem dX0_lay_1 : decode cX0_lay 1 = .ok (.iconst 0, 1) := dk_3 (dk_at dksX0_lay_0 1 rfl rfl)
theorem dX0_lay_2 : decode cX0_lay 2 = .ok (.aload_n 0, 1) := dk_42 (dk_at dksX0_lay_0 2 rfl rfl)
theorem dX0_lay_3 : decode cX0_lay 3 = .ok (.getfield 134, 3) := dk_180 0 134 (dk_at dksX0_lay_0 3 rfl rfl)
theorem dX0_lay_6 : decode cX0_lay 6 = .ok (.invokestatic 146, 3) := dk_184 0 146 (dk_at dksX0_lay_0 6 rfl rfl)
theorem dX0_lay_9 : decode cX0_lay 9 = .ok (.ifCond .eq 12, 3) := dk_153 0 12 (dk_at dksX0_lay_0 9 rfl rfl)
theorem dX0_lay_12 : decode cX0_lay 12 = .ok (.iload_n 2, 1) := dk_28 (dk_at dksX0_lay_0 12 rfl rfl)
theorem dX0_lay_13 : decode cX0_lay 13 = .ok (.iconst 0, 1) := dk_3 (dk_at dksX0_lay_0 13 rfl rfl)
theorem dX0_lay_14 : decode cX0_lay 14 = .ok (.iconst 3, 1) := dk_6 (dk_at dksX0_lay_0 14 rfl rfl)
theorem dX0_lay_15 : decode cX0_lay 15 = .ok (.invokestatic 146, 3) := dk_184 0 146 (dk_at dksX0_lay_0 15 rfl rfl)
theorem dX0_lay_18 : decode cX0_lay 18 = .ok (.ifCond .ne 5, 3) := dk_154 0 5 (dk_at dksX0_lay_0 18 rfl rfl)
theorem dX0_lay_21 : decode cX0_lay 21 = .ok (.iconst (-1), 1) := dk_2 (dk_at dksX0_lay_0 21 rfl rfl)
theorem dX0_lay_22 : decode cX0_lay 22 = .ok (.ireturn, 1) := dk_172 (dk_at dksX0_lay_0 22 rfl rfl)
theorem dX0_lay_23 : decode cX0_lay 23 = .ok (.aload_n 0, 1) := dk_42 (dk_at dksX0_lay_0 23 rfl rfl)
theorem dX0_lay_24 : decode cX0_lay 24 = .ok (.iload_n 1, 1) := dk_27 (dk_at dksX0_lay_1 0 rfl rfl)
theorem dX0_lay_25 : decode cX0_lay 25 = .ok (.invokevirtual 288, 3) := dk_182 1 32 (dk_at dksX0_lay_1 1 rfl rfl)
theorem dX0_lay_28 : decode cX0_lay 28 = .ok (.iload_n 2, 1) := dk_28 (dk_at dksX0_lay_1 4 rfl rfl)
theorem dX0_lay_29 : decode cX0_lay 29 = .ok (.ifCond .ne 8, 3) := dk_154 0 8 (dk_at dksX0_lay_1 5 rfl rfl)
theorem dX0_lay_32 : decode cX0_lay 32 = .ok (.aload_n 0, 1) := dk_42 (dk_at dksX0_lay_1 8 rfl rfl)
theorem dX0_lay_33 : decode cX0_lay 33 = .ok (.getfield 273, 3) := dk_180 1 17 (dk_at dksX0_lay_1 9 rfl rfl)
theorem dX0_lay_36 : decode cX0_lay 36 = .ok (.ireturn, 1) := dk_172 (dk_at dksX0_lay_1 12 rfl rfl)
theorem dX0_lay_37 : decode cX0_lay 37 = .ok (.aload_n 0, 1) := dk_42 (dk_at dksX0_lay_1 13 rfl rfl)
theorem dX0_lay_38 : decode cX0_lay 38 = .ok (.getfield 273, 3) := dk_180 1 17 (dk_at dksX0_lay_1 14 rfl rfl)
theorem dX0_lay_41 : decode cX0_lay 41 = .ok (.ifCond .ne 8, 3) := dk_154 0 8 (dk_at dksX0_lay_1 17 rfl rfl)
theorem dX0_lay_44 : decode cX0_lay 44 = .ok (.bipush (-2), 2) := dk_16 254 (dk_at dksX0_lay_1 20 rfl rfl)
theorem dX0_lay_46 : decode cX0_lay 46 = .ok (.goto 31, 3) := dk_167 0 31 (dk_at dksX0_lay_2 0 rfl rfl)
theorem dX0_lay_49 : decode cX0_lay 49 = .ok (.iload_n 2, 1) := dk_28 (dk_at dksX0_lay_2 3 rfl rfl)
theorem dX0_lay_50 : decode cX0_lay 50 = .ok (.iconst 1, 1) := dk_4 (dk_at dksX0_lay_2 4 rfl rfl)
theorem dX0_lay_51 : decode cX0_lay 51 = .ok (.if_icmp .ne 10, 3) := dk_160 0 10 (dk_at dksX0_lay_2 5 rfl rfl)
theorem dX0_lay_54 : decode cX0_lay 54 = .ok (.aload_n 0, 1) := dk_42 (dk_at dksX0_lay_2 8 rfl rfl)
theorem dX0_lay_55 : decode cX0_lay 55 = .ok (.getfield 276, 3) := dk_180 1 20 (dk_at dksX0_lay_2 9 rfl rfl)
theorem dX0_lay_58 : decode cX0_lay 58 = .ok (.goto 19, 3) := dk_167 0 19 (dk_at dksX0_lay_2 12 rfl rfl)
theorem dX0_lay_61 : decode cX0_lay 61 = .ok (.iload_n 2, 1) := dk_28 (dk_at dksX0_lay_2 15 rfl rfl)
theorem dX0_lay_62 : decode cX0_lay 62 = .ok (.iconst 2, 1) := dk_5 (dk_at dksX0_lay_2 16 rfl rfl)
theorem dX0_lay_63 : decode cX0_lay 63 = .ok (.if_icmp .ne 10, 3) := dk_160 0 10 (dk_at dksX0_lay_2 17 rfl rfl)
theorem dX0_lay_66 : decode cX0_lay 66 = .ok (.aload_n 0, 1) := dk_42 (dk_at dksX0_lay_2 20 rfl rfl)
theorem dX0_lay_67 : decode cX0_lay 67 = .ok (.getfield 279, 3) := dk_180 1 23 (dk_at dksX0_lay_2 21 rfl rfl)
theorem dX0_lay_70 : decode cX0_lay 70 = .ok (.goto 7, 3) := dk_167 0 7 (dk_at dksX0_lay_3 0 rfl rfl)
theorem dX0_lay_73 : decode cX0_lay 73 = .ok (.aload_n 0, 1) := dk_42 (dk_at dksX0_lay_3 3 rfl rfl)
theorem dX0_lay_74 : decode cX0_lay 74 = .ok (.getfield 282, 3) := dk_180 1 26 (dk_at dksX0_lay_3 4 rfl rfl)
theorem dX0_lay_77 : decode cX0_lay 77 = .ok (.ireturn, 1) := dk_172 (dk_at dksX0_lay_3 7 rfl rfl)
abbrev cX0_laysLay : ByteArray := prog_1_method_59_code
def yX0_laysLay : MethodName := ⟨RX0, "laysLay", "(I)V"⟩
def dkwX0_laysLay_4 : List UInt8 := [126, 181, 1, 23, 42, 89, 180, 1, 26, 28, 2, 130, 126, 181, 1, 26, 132, 2, 1, 167, 255, 177, 177]
abbrev dktX0_laysLay_4 : List UInt8 := dkwX0_laysLay_4 ++ []
def dkwX0_laysLay_3 : List UInt8 := [154, 0, 8, 42, 28, 181, 1, 20, 42, 89, 180, 1, 17, 4, 96, 181, 1, 17, 42, 89, 180, 1, 23, 28]
abbrev dktX0_laysLay_3 : List UInt8 := dkwX0_laysLay_3 ++ dktX0_laysLay_4
def dkwX0_laysLay_2 : List UInt8 := [27, 28, 182, 1, 29, 84, 42, 180, 0, 106, 28, 51, 154, 0, 6, 167, 0, 47, 42, 180, 1, 17]
abbrev dktX0_laysLay_2 : List UInt8 := dkwX0_laysLay_2 ++ dktX0_laysLay_3
def dkwX0_laysLay_1 : List UInt8 := [182, 0, 154, 4, 100, 181, 1, 26, 3, 61, 28, 42, 182, 0, 154, 162, 0, 77, 42, 180, 0, 106, 28, 42]
abbrev dktX0_laysLay_1 : List UInt8 := dkwX0_laysLay_1 ++ dktX0_laysLay_2
def dkwX0_laysLay_0 : List UInt8 := [42, 3, 181, 1, 17, 42, 16, 254, 181, 1, 20, 42, 42, 182, 0, 154, 4, 100, 181, 1, 23, 42, 42]
abbrev dktX0_laysLay_0 : List UInt8 := dkwX0_laysLay_0 ++ dktX0_laysLay_1
theorem dksX0_laysLay_0 : cX0_laysLay.data.toList.drop 0 = dktX0_laysLay_0 := by decide +kernel
theorem dksX0_laysLay_1 : cX0_laysLay.data.toList.drop 23 = dktX0_laysLay_1 := dk_seg dksX0_laysLay_0 23 rfl rfl
theorem dksX0_laysLay_2 : cX0_laysLay.data.toList.drop 47 = dktX0_laysLay_2 := dk_seg dksX0_laysLay_1 24 rfl rfl
theorem dksX0_laysLay_3 : cX0_laysLay.data.toList.drop 69 = dktX0_laysLay_3 := dk_seg dksX0_laysLay_2 22 rfl rfl
theorem dksX0_laysLay_4 : cX0_laysLay.data.toList.drop 93 = dktX0_laysLay_4 := dk_seg dksX0_laysLay_3 24 rfl rfl
theorem dX0_laysLay_0 : decode cX0_laysLay 0 = .ok (.aload_n 0, 1) := dk_42 (dk_at dksX0_laysLay_0 0 rfl rfl)
theorem dX0_laysLay_1 : decode cX0_laysLay 1 = .ok (.iconst 0, 1) := dk_3 (dk_at dksX0_laysLay_0 1 rfl rfl)
theorem dX0_laysLay_2 : decode cX0_laysLay 2 = .ok (.putfield 273, 3) := dk_181 1 17 (dk_at dksX0_laysLay_0 2 rfl rfl)
theorem dX0_laysLay_5 : decode cX0_laysLay 5 = .ok (.aload_n 0, 1) := dk_42 (dk_at dksX0_laysLay_0 5 rfl rfl)
theorem dX0_laysLay_6 : decode cX0_laysLay 6 = .ok (.bipush (-2), 2) := dk_16 254 (dk_at dksX0_laysLay_0 6 rfl rfl)
theorem dX0_laysLay_8 : decode cX0_laysLay 8 = .ok (.putfield 276, 3) := dk_181 1 20 (dk_at dksX0_laysLay_0 8 rfl rfl)
theorem dX0_laysLay_11 : decode cX0_laysLay 11 = .ok (.aload_n 0, 1) := dk_42 (dk_at dksX0_laysLay_0 11 rfl rfl)
theorem dX0_laysLay_12 : decode cX0_laysLay 12 = .ok (.aload_n 0, 1) := dk_42 (dk_at dksX0_laysLay_0 12 rfl rfl)
theorem dX0_laysLay_13 : decode cX0_laysLay 13 = .ok (.invokevirtual 154, 3) := dk_182 0 154 (dk_at dksX0_laysLay_0 13 rfl rfl)
theorem dX0_laysLay_16 : decode cX0_laysLay 16 = .ok (.iconst 1, 1) := dk_4 (dk_at dksX0_laysLay_0 16 rfl rfl)
theorem dX0_laysLay_17 : decode cX0_laysLay 17 = .ok (.isub, 1) := dk_100 (dk_at dksX0_laysLay_0 17 rfl rfl)
theorem dX0_laysLay_18 : decode cX0_laysLay 18 = .ok (.putfield 279, 3) := dk_181 1 23 (dk_at dksX0_laysLay_0 18 rfl rfl)
theorem dX0_laysLay_21 : decode cX0_laysLay 21 = .ok (.aload_n 0, 1) := dk_42 (dk_at dksX0_laysLay_0 21 rfl rfl)
theorem dX0_laysLay_22 : decode cX0_laysLay 22 = .ok (.aload_n 0, 1) := dk_42 (dk_at dksX0_laysLay_0 22 rfl rfl)
theorem dX0_laysLay_23 : decode cX0_laysLay 23 = .ok (.invokevirtual 154, 3) := dk_182 0 154 (dk_at dksX0_laysLay_1 0 rfl rfl)
theorem dX0_laysLay_26 : decode cX0_laysLay 26 = .ok (.iconst 1, 1) := dk_4 (dk_at dksX0_laysLay_1 3 rfl rfl)
theorem dX0_laysLay_27 : decode cX0_laysLay 27 = .ok (.isub, 1) := dk_100 (dk_at dksX0_laysLay_1 4 rfl rfl)
theorem dX0_laysLay_28 : decode cX0_laysLay 28 = .ok (.putfield 282, 3) := dk_181 1 26 (dk_at dksX0_laysLay_1 5 rfl rfl)
theorem dX0_laysLay_31 : decode cX0_laysLay 31 = .ok (.iconst 0, 1) := dk_3 (dk_at dksX0_laysLay_1 8 rfl rfl)
theorem dX0_laysLay_32 : decode cX0_laysLay 32 = .ok (.istore_n 2, 1) := dk_61 (dk_at dksX0_laysLay_1 9 rfl rfl)
theorem dX0_laysLay_33 : decode cX0_laysLay 33 = .ok (.iload_n 2, 1) := dk_28 (dk_at dksX0_laysLay_1 10 rfl rfl)
theorem dX0_laysLay_34 : decode cX0_laysLay 34 = .ok (.aload_n 0, 1) := dk_42 (dk_at dksX0_laysLay_1 11 rfl rfl)
theorem dX0_laysLay_35 : decode cX0_laysLay 35 = .ok (.invokevirtual 154, 3) := dk_182 0 154 (dk_at dksX0_laysLay_1 12 rfl rfl)
theorem dX0_laysLay_38 : decode cX0_laysLay 38 = .ok (.if_icmp .ge 77, 3) := dk_162 0 77 (dk_at dksX0_laysLay_1 15 rfl rfl)
theorem dX0_laysLay_41 : decode cX0_laysLay 41 = .ok (.aload_n 0, 1) := dk_42 (dk_at dksX0_laysLay_1 18 rfl rfl)
theorem dX0_laysLay_42 : decode cX0_laysLay 42 = .ok (.getfield 106, 3) := dk_180 0 106 (dk_at dksX0_laysLay_1 19 rfl rfl)
theorem dX0_laysLay_45 : decode cX0_laysLay 45 = .ok (.iload_n 2, 1) := dk_28 (dk_at dksX0_laysLay_1 22 rfl rfl)
theorem dX0_laysLay_46 : decode cX0_laysLay 46 = .ok (.aload_n 0, 1) := dk_42 (dk_at dksX0_laysLay_1 23 rfl rfl)
theorem dX0_laysLay_47 : decode cX0_laysLay 47 = .ok (.iload_n 1, 1) := dk_27 (dk_at dksX0_laysLay_2 0 rfl rfl)
theorem dX0_laysLay_48 : decode cX0_laysLay 48 = .ok (.iload_n 2, 1) := dk_28 (dk_at dksX0_laysLay_2 1 rfl rfl)
theorem dX0_laysLay_49 : decode cX0_laysLay 49 = .ok (.invokevirtual 285, 3) := dk_182 1 29 (dk_at dksX0_laysLay_2 2 rfl rfl)
theorem dX0_laysLay_52 : decode cX0_laysLay 52 = .ok (.bastore, 1) := dk_84 (dk_at dksX0_laysLay_2 5 rfl rfl)
theorem dX0_laysLay_53 : decode cX0_laysLay 53 = .ok (.aload_n 0, 1) := dk_42 (dk_at dksX0_laysLay_2 6 rfl rfl)
theorem dX0_laysLay_54 : decode cX0_laysLay 54 = .ok (.getfield 106, 3) := dk_180 0 106 (dk_at dksX0_laysLay_2 7 rfl rfl)
theorem dX0_laysLay_57 : decode cX0_laysLay 57 = .ok (.iload_n 2, 1) := dk_28 (dk_at dksX0_laysLay_2 10 rfl rfl)
theorem dX0_laysLay_58 : decode cX0_laysLay 58 = .ok (.baload, 1) := dk_51 (dk_at dksX0_laysLay_2 11 rfl rfl)
theorem dX0_laysLay_59 : decode cX0_laysLay 59 = .ok (.ifCond .ne 6, 3) := dk_154 0 6 (dk_at dksX0_laysLay_2 12 rfl rfl)
theorem dX0_laysLay_62 : decode cX0_laysLay 62 = .ok (.goto 47, 3) := dk_167 0 47 (dk_at dksX0_laysLay_2 15 rfl rfl)
theorem dX0_laysLay_65 : decode cX0_laysLay 65 = .ok (.aload_n 0, 1) := dk_42 (dk_at dksX0_laysLay_2 18 rfl rfl)
theorem dX0_laysLay_66 : decode cX0_laysLay 66 = .ok (.getfield 273, 3) := dk_180 1 17 (dk_at dksX0_laysLay_2 19 rfl rfl)
theorem dX0_laysLay_69 : decode cX0_laysLay 69 = .ok (.ifCond .ne 8, 3) := dk_154 0 8 (dk_at dksX0_laysLay_3 0 rfl rfl)
theorem dX0_laysLay_72 : decode cX0_laysLay 72 = .ok (.aload_n 0, 1) := dk_42 (dk_at dksX0_laysLay_3 3 rfl rfl)
theorem dX0_laysLay_73 : decode cX0_laysLay 73 = .ok (.iload_n 2, 1) := dk_28 (dk_at dksX0_laysLay_3 4 rfl rfl)
theorem dX0_laysLay_74 : decode cX0_laysLay 74 = .ok (.putfield 276, 3) := dk_181 1 20 (dk_at dksX0_laysLay_3 5 rfl rfl)
theorem dX0_laysLay_77 : decode cX0_laysLay 77 = .ok (.aload_n 0, 1) := dk_42 (dk_at dksX0_laysLay_3 8 rfl rfl)
theorem dX0_laysLay_78 : decode cX0_laysLay 78 = .ok (.dup, 1) := dk_89 (dk_at dksX0_laysLay_3 9 rfl rfl)
theorem dX0_laysLay_79 : decode cX0_laysLay 79 = .ok (.getfield 273, 3) := dk_180 1 17 (dk_at dksX0_laysLay_3 10 rfl rfl)
theorem dX0_laysLay_82 : decode cX0_laysLay 82 = .ok (.iconst 1, 1) := dk_4 (dk_at dksX0_laysLay_3 13 rfl rfl)
theorem dX0_laysLay_83 : decode cX0_laysLay 83 = .ok (.iadd, 1) := dk_96 (dk_at dksX0_laysLay_3 14 rfl rfl)
theorem dX0_laysLay_84 : decode cX0_laysLay 84 = .ok (.putfield 273, 3) := dk_181 1 17 (dk_at dksX0_laysLay_3 15 rfl rfl)
theorem dX0_laysLay_87 : decode cX0_laysLay 87 = .ok (.aload_n 0, 1) := dk_42 (dk_at dksX0_laysLay_3 18 rfl rfl)
theorem dX0_laysLay_88 : decode cX0_laysLay 88 = .ok (.dup, 1) := dk_89 (dk_at dksX0_laysLay_3 19 rfl rfl)
theorem dX0_laysLay_89 : decode cX0_laysLay 89 = .ok (.getfield 279, 3) := dk_180 1 23 (dk_at dksX0_laysLay_3 20 rfl rfl)
theorem dX0_laysLay_92 : decode cX0_laysLay 92 = .ok (.iload_n 2, 1) := dk_28 (dk_at dksX0_laysLay_3 23 rfl rfl)
theorem dX0_laysLay_93 : decode cX0_laysLay 93 = .ok (.iand, 1) := dk_126 (dk_at dksX0_laysLay_4 0 rfl rfl)
theorem dX0_laysLay_94 : decode cX0_laysLay 94 = .ok (.putfield 279, 3) := dk_181 1 23 (dk_at dksX0_laysLay_4 1 rfl rfl)
theorem dX0_laysLay_97 : decode cX0_laysLay 97 = .ok (.aload_n 0, 1) := dk_42 (dk_at dksX0_laysLay_4 4 rfl rfl)
theorem dX0_laysLay_98 : decode cX0_laysLay 98 = .ok (.dup, 1) := dk_89 (dk_at dksX0_laysLay_4 5 rfl rfl)
theorem dX0_laysLay_99 : decode cX0_laysLay 99 = .ok (.getfield 282, 3) := dk_180 1 26 (dk_at dksX0_laysLay_4 6 rfl rfl)
theorem dX0_laysLay_102 : decode cX0_laysLay 102 = .ok (.iload_n 2, 1) := dk_28 (dk_at dksX0_laysLay_4 9 rfl rfl)
theorem dX0_laysLay_103 : decode cX0_laysLay 103 = .ok (.iconst (-1), 1) := dk_2 (dk_at dksX0_laysLay_4 10 rfl rfl)
theorem dX0_laysLay_104 : decode cX0_laysLay 104 = .ok (.ixor, 1) := dk_130 (dk_at dksX0_laysLay_4 11 rfl rfl)
theorem dX0_laysLay_105 : decode cX0_laysLay 105 = .ok (.iand, 1) := dk_126 (dk_at dksX0_laysLay_4 12 rfl rfl)
theorem dX0_laysLay_106 : decode cX0_laysLay 106 = .ok (.putfield 282, 3) := dk_181 1 26 (dk_at dksX0_laysLay_4 13 rfl rfl)
theorem dX0_laysLay_109 : decode cX0_laysLay 109 = .ok (.iinc 2 1, 3) := dk_132 2 1 (dk_at dksX0_laysLay_4 16 rfl rfl)
theorem dX0_laysLay_112 : decode cX0_laysLay 112 = .ok (.goto (-79), 3) := dk_167 255 177 (dk_at dksX0_laysLay_4 19 rfl rfl)
theorem dX0_laysLay_115 : decode cX0_laysLay 115 = .ok (.return_, 1) := dk_177 (dk_at dksX0_laysLay_4 22 rfl rfl)
abbrev cX0_isSo : ByteArray := prog_1_method_58_code
def yX0_isSo : MethodName := ⟨RX0, "isSo", "(II)Z"⟩
def dkwX0_isSo_4 : List UInt8 := [3, 42, 180, 0, 103, 29, 51, 159, 0, 5, 3, 172, 132, 3, 1, 167, 255, 208, 4, 172]
abbrev dktX0_isSo_4 : List UInt8 := dkwX0_isSo_4 ++ []
def dkwX0_isSo_3 : List UInt8 := [42, 180, 0, 97, 29, 46, 46, 42, 180, 0, 93, 29, 46, 122, 4, 126, 4, 160, 0, 7, 4, 167, 0, 4]
abbrev dktX0_isSo_3 : List UInt8 := dkwX0_isSo_3 ++ dktX0_isSo_4
def dkwX0_isSo_2 : List UInt8 := [42, 180, 0, 83, 182, 0, 211, 132, 3, 1, 167, 255, 219, 3, 62, 29, 27, 162, 0, 49, 42, 180, 0, 100]
abbrev dktX0_isSo_2 : List UInt8 := dkwX0_isSo_2 ++ dktX0_isSo_3
def dkwX0_isSo_1 : List UInt8 := [163, 0, 37, 42, 180, 0, 100, 29, 42, 180, 0, 63, 180, 0, 200, 79, 42, 180, 0, 63, 42, 180, 0, 48]
abbrev dktX0_isSo_1 : List UInt8 := dkwX0_isSo_1 ++ dktX0_isSo_2
def dkwX0_isSo_0 : List UInt8 := [42, 180, 0, 63, 42, 180, 0, 59, 182, 0, 193, 42, 180, 0, 63, 28, 181, 0, 200, 3, 62, 29, 16, 24]
abbrev dktX0_isSo_0 : List UInt8 := dkwX0_isSo_0 ++ dktX0_isSo_1
theorem dksX0_isSo_0 : cX0_isSo.data.toList.drop 0 = dktX0_isSo_0 := by decide +kernel
theorem dksX0_isSo_1 : cX0_isSo.data.toList.drop 24 = dktX0_isSo_1 := dk_seg dksX0_isSo_0 24 rfl rfl
theorem dksX0_isSo_2 : cX0_isSo.data.toList.drop 48 = dktX0_isSo_2 := dk_seg dksX0_isSo_1 24 rfl rfl
theorem dksX0_isSo_3 : cX0_isSo.data.toList.drop 72 = dktX0_isSo_3 := dk_seg dksX0_isSo_2 24 rfl rfl
theorem dksX0_isSo_4 : cX0_isSo.data.toList.drop 96 = dktX0_isSo_4 := dk_seg dksX0_isSo_3 24 rfl rfl
theorem dX0_isSo_0 : decode cX0_isSo 0 = .ok (.aload_n 0, 1) := dk_42 (dk_at dksX0_isSo_0 0 rfl rfl)
theorem dX0_isSo_1 : decode cX0_isSo 1 = .ok (.getfield 63, 3) := dk_180 0 63 (dk_at dksX0_isSo_0 1 rfl rfl)
theorem dX0_isSo_4 : decode cX0_isSo 4 = .ok (.aload_n 0, 1) := dk_42 (dk_at dksX0_isSo_0 4 rfl rfl)
theorem dX0_isSo_5 : decode cX0_isSo 5 = .ok (.getfield 59, 3) := dk_180 0 59 (dk_at dksX0_isSo_0 5 rfl rfl)
theorem dX0_isSo_8 : decode cX0_isSo 8 = .ok (.invokevirtual 193, 3) := dk_182 0 193 (dk_at dksX0_isSo_0 8 rfl rfl)
theorem dX0_isSo_11 : decode cX0_isSo 11 = .ok (.aload_n 0, 1) := dk_42 (dk_at dksX0_isSo_0 11 rfl rfl)
theorem dX0_isSo_12 : decode cX0_isSo 12 = .ok (.getfield 63, 3) := dk_180 0 63 (dk_at dksX0_isSo_0 12 rfl rfl)
theorem dX0_isSo_15 : decode cX0_isSo 15 = .ok (.iload_n 2, 1) := dk_28 (dk_at dksX0_isSo_0 15 rfl rfl)
theorem dX0_isSo_16 : decode cX0_isSo 16 = .ok (.putfield 200, 3) := dk_181 0 200 (dk_at dksX0_isSo_0 16 rfl rfl)
theorem dX0_isSo_19 : decode cX0_isSo 19 = .ok (.iconst 0, 1) := dk_3 (dk_at dksX0_isSo_0 19 rfl rfl)
theorem dX0_isSo_20 : decode cX0_isSo 20 = .ok (.istore_n 3, 1) := dk_62 (dk_at dksX0_isSo_0 20 rfl rfl)
theorem dX0_isSo_21 : decode cX0_isSo 21 = .ok (.iload_n 3, 1) := dk_29 (dk_at dksX0_isSo_0 21 rfl rfl)
theorem dX0_isSo_22 : decode cX0_isSo 22 = .ok (.bipush 24, 2) := dk_16 24 (dk_at dksX0_isSo_0 22 rfl rfl)
theorem dX0_isSo_24 : decode cX0_isSo 24 = .ok (.if_icmp .gt 37, 3) := dk_163 0 37 (dk_at dksX0_isSo_1 0 rfl rfl)
theorem dX0_isSo_27 : decode cX0_isSo 27 = .ok (.aload_n 0, 1) := dk_42 (dk_at dksX0_isSo_1 3 rfl rfl)
theorem dX0_isSo_28 : decode cX0_isSo 28 = .ok (.getfield 100, 3) := dk_180 0 100 (dk_at dksX0_isSo_1 4 rfl rfl)
theorem dX0_isSo_31 : decode cX0_isSo 31 = .ok (.iload_n 3, 1) := dk_29 (dk_at dksX0_isSo_1 7 rfl rfl)
theorem dX0_isSo_32 : decode cX0_isSo 32 = .ok (.aload_n 0, 1) := dk_42 (dk_at dksX0_isSo_1 8 rfl rfl)
theorem dX0_isSo_33 : decode cX0_isSo 33 = .ok (.getfield 63, 3) := dk_180 0 63 (dk_at dksX0_isSo_1 9 rfl rfl)
theorem dX0_isSo_36 : decode cX0_isSo 36 = .ok (.getfield 200, 3) := dk_180 0 200 (dk_at dksX0_isSo_1 12 rfl rfl)
theorem dX0_isSo_39 : decode cX0_isSo 39 = .ok (.iastore, 1) := dk_79 (dk_at dksX0_isSo_1 15 rfl rfl)
theorem dX0_isSo_40 : decode cX0_isSo 40 = .ok (.aload_n 0, 1) := dk_42 (dk_at dksX0_isSo_1 16 rfl rfl)
theorem dX0_isSo_41 : decode cX0_isSo 41 = .ok (.getfield 63, 3) := dk_180 0 63 (dk_at dksX0_isSo_1 17 rfl rfl)
theorem dX0_isSo_44 : decode cX0_isSo 44 = .ok (.aload_n 0, 1) := dk_42 (dk_at dksX0_isSo_1 20 rfl rfl)
theorem dX0_isSo_45 : decode cX0_isSo 45 = .ok (.getfield 48, 3) := dk_180 0 48 (dk_at dksX0_isSo_1 21 rfl rfl)
theorem dX0_isSo_48 : decode cX0_isSo 48 = .ok (.aload_n 0, 1) := dk_42 (dk_at dksX0_isSo_2 0 rfl rfl)
theorem dX0_isSo_49 : decode cX0_isSo 49 = .ok (.getfield 83, 3) := dk_180 0 83 (dk_at dksX0_isSo_2 1 rfl rfl)
theorem dX0_isSo_52 : decode cX0_isSo 52 = .ok (.invokevirtual 211, 3) := dk_182 0 211 (dk_at dksX0_isSo_2 4 rfl rfl)
theorem dX0_isSo_55 : decode cX0_isSo 55 = .ok (.iinc 3 1, 3) := dk_132 3 1 (dk_at dksX0_isSo_2 7 rfl rfl)
theorem dX0_isSo_58 : decode cX0_isSo 58 = .ok (.goto (-37), 3) := dk_167 255 219 (dk_at dksX0_isSo_2 10 rfl rfl)
theorem dX0_isSo_61 : decode cX0_isSo 61 = .ok (.iconst 0, 1) := dk_3 (dk_at dksX0_isSo_2 13 rfl rfl)
theorem dX0_isSo_62 : decode cX0_isSo 62 = .ok (.istore_n 3, 1) := dk_62 (dk_at dksX0_isSo_2 14 rfl rfl)
theorem dX0_isSo_63 : decode cX0_isSo 63 = .ok (.iload_n 3, 1) := dk_29 (dk_at dksX0_isSo_2 15 rfl rfl)
theorem dX0_isSo_64 : decode cX0_isSo 64 = .ok (.iload_n 1, 1) := dk_27 (dk_at dksX0_isSo_2 16 rfl rfl)
theorem dX0_isSo_65 : decode cX0_isSo 65 = .ok (.if_icmp .ge 49, 3) := dk_162 0 49 (dk_at dksX0_isSo_2 17 rfl rfl)
theorem dX0_isSo_68 : decode cX0_isSo 68 = .ok (.aload_n 0, 1) := dk_42 (dk_at dksX0_isSo_2 20 rfl rfl)
theorem dX0_isSo_69 : decode cX0_isSo 69 = .ok (.getfield 100, 3) := dk_180 0 100 (dk_at dksX0_isSo_2 21 rfl rfl)
theorem dX0_isSo_72 : decode cX0_isSo 72 = .ok (.aload_n 0, 1) := dk_42 (dk_at dksX0_isSo_3 0 rfl rfl)
theorem dX0_isSo_73 : decode cX0_isSo 73 = .ok (.getfield 97, 3) := dk_180 0 97 (dk_at dksX0_isSo_3 1 rfl rfl)
theorem dX0_isSo_76 : decode cX0_isSo 76 = .ok (.iload_n 3, 1) := dk_29 (dk_at dksX0_isSo_3 4 rfl rfl)
theorem dX0_isSo_77 : decode cX0_isSo 77 = .ok (.iaload, 1) := dk_46 (dk_at dksX0_isSo_3 5 rfl rfl)
theorem dX0_isSo_78 : decode cX0_isSo 78 = .ok (.iaload, 1) := dk_46 (dk_at dksX0_isSo_3 6 rfl rfl)
theorem dX0_isSo_79 : decode cX0_isSo 79 = .ok (.aload_n 0, 1) := dk_42 (dk_at dksX0_isSo_3 7 rfl rfl)
theorem dX0_isSo_80 : decode cX0_isSo 80 = .ok (.getfield 93, 3) := dk_180 0 93 (dk_at dksX0_isSo_3 8 rfl rfl)
theorem dX0_isSo_83 : decode cX0_isSo 83 = .ok (.iload_n 3, 1) := dk_29 (dk_at dksX0_isSo_3 11 rfl rfl)
theorem dX0_isSo_84 : decode cX0_isSo 84 = .ok (.iaload, 1) := dk_46 (dk_at dksX0_isSo_3 12 rfl rfl)
theorem dX0_isSo_85 : decode cX0_isSo 85 = .ok (.ishr, 1) := dk_122 (dk_at dksX0_isSo_3 13 rfl rfl)
theorem dX0_isSo_86 : decode cX0_isSo 86 = .ok (.iconst 1, 1) := dk_4 (dk_at dksX0_isSo_3 14 rfl rfl)
theorem dX0_isSo_87 : decode cX0_isSo 87 = .ok (.iand, 1) := dk_126 (dk_at dksX0_isSo_3 15 rfl rfl)
theorem dX0_isSo_88 : decode cX0_isSo 88 = .ok (.iconst 1, 1) := dk_4 (dk_at dksX0_isSo_3 16 rfl rfl)
theorem dX0_isSo_89 : decode cX0_isSo 89 = .ok (.if_icmp .ne 7, 3) := dk_160 0 7 (dk_at dksX0_isSo_3 17 rfl rfl)
theorem dX0_isSo_92 : decode cX0_isSo 92 = .ok (.iconst 1, 1) := dk_4 (dk_at dksX0_isSo_3 20 rfl rfl)
theorem dX0_isSo_93 : decode cX0_isSo 93 = .ok (.goto 4, 3) := dk_167 0 4 (dk_at dksX0_isSo_3 21 rfl rfl)
theorem dX0_isSo_96 : decode cX0_isSo 96 = .ok (.iconst 0, 1) := dk_3 (dk_at dksX0_isSo_4 0 rfl rfl)
theorem dX0_isSo_97 : decode cX0_isSo 97 = .ok (.aload_n 0, 1) := dk_42 (dk_at dksX0_isSo_4 1 rfl rfl)
theorem dX0_isSo_98 : decode cX0_isSo 98 = .ok (.getfield 103, 3) := dk_180 0 103 (dk_at dksX0_isSo_4 2 rfl rfl)
theorem dX0_isSo_101 : decode cX0_isSo 101 = .ok (.iload_n 3, 1) := dk_29 (dk_at dksX0_isSo_4 5 rfl rfl)
theorem dX0_isSo_102 : decode cX0_isSo 102 = .ok (.baload, 1) := dk_51 (dk_at dksX0_isSo_4 6 rfl rfl)
theorem dX0_isSo_103 : decode cX0_isSo 103 = .ok (.if_icmp .eq 5, 3) := dk_159 0 5 (dk_at dksX0_isSo_4 7 rfl rfl)
theorem dX0_isSo_106 : decode cX0_isSo 106 = .ok (.iconst 0, 1) := dk_3 (dk_at dksX0_isSo_4 10 rfl rfl)
theorem dX0_isSo_107 : decode cX0_isSo 107 = .ok (.ireturn, 1) := dk_172 (dk_at dksX0_isSo_4 11 rfl rfl)
theorem dX0_isSo_108 : decode cX0_isSo 108 = .ok (.iinc 3 1, 3) := dk_132 3 1 (dk_at dksX0_isSo_4 12 rfl rfl)
theorem dX0_isSo_111 : decode cX0_isSo 111 = .ok (.goto (-48), 3) := dk_167 255 208 (dk_at dksX0_isSo_4 15 rfl rfl)
theorem dX0_isSo_114 : decode cX0_isSo 114 = .ok (.iconst 1, 1) := dk_4 (dk_at dksX0_isSo_4 18 rfl rfl)
theorem dX0_isSo_115 : decode cX0_isSo 115 = .ok (.ireturn, 1) := dk_172 (dk_at dksX0_isSo_4 19 rfl rfl)
abbrev cX0_look : ByteArray := prog_1_method_61_code
def yX0_look : MethodName := ⟨RX0, "look", "(II)I"⟩
def dkwX0_look_8 : List UInt8 := [62, 21, 6, 54, 4, 132, 5, 1, 167, 255, 196, 29, 172]
abbrev dktX0_look_8 : List UInt8 := dkwX0_look_8 ++ []
def dkwX0_look_7 : List UInt8 := [180, 0, 109, 21, 5, 46, 100, 184, 0, 13, 54, 6, 21, 6, 21, 4, 161, 0, 6, 167, 0, 10, 21, 5]
abbrev dktX0_look_7 : List UInt8 := dkwX0_look_7 ++ dktX0_look_8
def dkwX0_look_6 : List UInt8 := [162, 0, 57, 42, 180, 1, 17, 158, 0, 50, 42, 180, 0, 109, 21, 5, 46, 42, 180, 1, 17, 42]
abbrev dktX0_look_6 : List UInt8 := dkwX0_look_6 ++ dktX0_look_7
def dkwX0_look_5 : List UInt8 := [96, 79, 132, 7, 1, 167, 255, 227, 132, 5, 1, 167, 255, 187, 3, 54, 5, 21, 5, 42, 182, 0, 145]
abbrev dktX0_look_5 : List UInt8 := dkwX0_look_5 ++ dktX0_look_6
def dkwX0_look_4 : List UInt8 := [21, 7, 42, 182, 0, 145, 162, 0, 26, 42, 180, 0, 109, 21, 7, 92, 46, 21, 6, 21, 7, 122, 4, 126]
abbrev dktX0_look_4 : List UInt8 := dkwX0_look_4 ++ dktX0_look_5
def dkwX0_look_3 : List UInt8 := [180, 0, 106, 21, 5, 51, 154, 0, 6, 167, 0, 47, 42, 21, 5, 28, 182, 0, 228, 54, 6, 3, 54, 7]
abbrev dktX0_look_3 : List UInt8 := dkwX0_look_3 ++ dktX0_look_4
def dkwX0_look_2 : List UInt8 := [21, 5, 3, 79, 132, 5, 1, 167, 255, 238, 3, 54, 5, 21, 5, 42, 182, 0, 154, 162, 0, 66, 42]
abbrev dktX0_look_2 : List UInt8 := dkwX0_look_2 ++ dktX0_look_3
def dkwX0_look_1 : List UInt8 := [182, 1, 32, 16, 254, 62, 18, 234, 54, 4, 3, 54, 5, 21, 5, 16, 9, 162, 0, 17, 42, 180, 0, 109]
abbrev dktX0_look_1 : List UInt8 := dkwX0_look_1 ++ dktX0_look_2
def dkwX0_look_0 : List UInt8 := [27, 3, 42, 180, 0, 134, 184, 0, 146, 153, 0, 10, 28, 184, 0, 231, 154, 0, 5, 2, 172, 42, 27]
abbrev dktX0_look_0 : List UInt8 := dkwX0_look_0 ++ dktX0_look_1
theorem dksX0_look_0 : cX0_look.data.toList.drop 0 = dktX0_look_0 := by decide +kernel
theorem dksX0_look_1 : cX0_look.data.toList.drop 23 = dktX0_look_1 := dk_seg dksX0_look_0 23 rfl rfl
theorem dksX0_look_2 : cX0_look.data.toList.drop 47 = dktX0_look_2 := dk_seg dksX0_look_1 24 rfl rfl
theorem dksX0_look_3 : cX0_look.data.toList.drop 70 = dktX0_look_3 := dk_seg dksX0_look_2 23 rfl rfl
theorem dksX0_look_4 : cX0_look.data.toList.drop 94 = dktX0_look_4 := dk_seg dksX0_look_3 24 rfl rfl
theorem dksX0_look_5 : cX0_look.data.toList.drop 118 = dktX0_look_5 := dk_seg dksX0_look_4 24 rfl rfl
theorem dksX0_look_6 : cX0_look.data.toList.drop 141 = dktX0_look_6 := dk_seg dksX0_look_5 23 rfl rfl
theorem dksX0_look_7 : cX0_look.data.toList.drop 163 = dktX0_look_7 := dk_seg dksX0_look_6 22 rfl rfl
theorem dksX0_look_8 : cX0_look.data.toList.drop 187 = dktX0_look_8 := dk_seg dksX0_look_7 24 rfl rfl
theorem dX0_look_0 : decode cX0_look 0 = .ok (.iload_n 1, 1) := dk_27 (dk_at dksX0_look_0 0 rfl rfl)
theorem dX0_look_1 : decode cX0_look 1 = .ok (.iconst 0, 1) := dk_3 (dk_at dksX0_look_0 1 rfl rfl)
theorem dX0_look_2 : decode cX0_look 2 = .ok (.aload_n 0, 1) := dk_42 (dk_at dksX0_look_0 2 rfl rfl)
theorem dX0_look_3 : decode cX0_look 3 = .ok (.getfield 134, 3) := dk_180 0 134 (dk_at dksX0_look_0 3 rfl rfl)
theorem dX0_look_6 : decode cX0_look 6 = .ok (.invokestatic 146, 3) := dk_184 0 146 (dk_at dksX0_look_0 6 rfl rfl)
theorem dX0_look_9 : decode cX0_look 9 = .ok (.ifCond .eq 10, 3) := dk_153 0 10 (dk_at dksX0_look_0 9 rfl rfl)
theorem dX0_look_12 : decode cX0_look 12 = .ok (.iload_n 2, 1) := dk_28 (dk_at dksX0_look_0 12 rfl rfl)
theorem dX0_look_13 : decode cX0_look 13 = .ok (.invokestatic 231, 3) := dk_184 0 231 (dk_at dksX0_look_0 13 rfl rfl)
theorem dX0_look_16 : decode cX0_look 16 = .ok (.ifCond .ne 5, 3) := dk_154 0 5 (dk_at dksX0_look_0 16 rfl rfl)
theorem dX0_look_19 : decode cX0_look 19 = .ok (.iconst (-1), 1) := dk_2 (dk_at dksX0_look_0 19 rfl rfl)
theorem dX0_look_20 : decode cX0_look 20 = .ok (.ireturn, 1) := dk_172 (dk_at dksX0_look_0 20 rfl rfl)
theorem dX0_look_21 : decode cX0_look 21 = .ok (.aload_n 0, 1) := dk_42 (dk_at dksX0_look_0 21 rfl rfl)
theorem dX0_look_22 : decode cX0_look 22 = .ok (.iload_n 1, 1) := dk_27 (dk_at dksX0_look_0 22 rfl rfl)
theorem dX0_look_23 : decode cX0_look 23 = .ok (.invokevirtual 288, 3) := dk_182 1 32 (dk_at dksX0_look_1 0 rfl rfl)
theorem dX0_look_26 : decode cX0_look 26 = .ok (.bipush (-2), 2) := dk_16 254 (dk_at dksX0_look_1 3 rfl rfl)
theorem dX0_look_28 : decode cX0_look 28 = .ok (.istore_n 3, 1) := dk_62 (dk_at dksX0_look_1 5 rfl rfl)
theorem dX0_look_29 : decode cX0_look 29 = .ok (.ldc 234, 2) := dk_18 234 (dk_at dksX0_look_1 6 rfl rfl)
theorem dX0_look_31 : decode cX0_look 31 = .ok (.istore 4, 2) := dk_54 4 (dk_at dksX0_look_1 8 rfl rfl)
theorem dX0_look_33 : decode cX0_look 33 = .ok (.iconst 0, 1) := dk_3 (dk_at dksX0_look_1 10 rfl rfl)
theorem dX0_look_34 : decode cX0_look 34 = .ok (.istore 5, 2) := dk_54 5 (dk_at dksX0_look_1 11 rfl rfl)
theorem dX0_look_36 : decode cX0_look 36 = .ok (.iload 5, 2) := dk_21 5 (dk_at dksX0_look_1 13 rfl rfl)
theorem dX0_look_38 : decode cX0_look 38 = .ok (.bipush 9, 2) := dk_16 9 (dk_at dksX0_look_1 15 rfl rfl)
theorem dX0_look_40 : decode cX0_look 40 = .ok (.if_icmp .ge 17, 3) := dk_162 0 17 (dk_at dksX0_look_1 17 rfl rfl)
theorem dX0_look_43 : decode cX0_look 43 = .ok (.aload_n 0, 1) := dk_42 (dk_at dksX0_look_1 20 rfl rfl)
theorem dX0_look_44 : decode cX0_look 44 = .ok (.getfield 109, 3) := dk_180 0 109 (dk_at dksX0_look_1 21 rfl rfl)
theorem dX0_look_47 : decode cX0_look 47 = .ok (.iload 5, 2) := dk_21 5 (dk_at dksX0_look_2 0 rfl rfl)
theorem dX0_look_49 : decode cX0_look 49 = .ok (.iconst 0, 1) := dk_3 (dk_at dksX0_look_2 2 rfl rfl)
theorem dX0_look_50 : decode cX0_look 50 = .ok (.iastore, 1) := dk_79 (dk_at dksX0_look_2 3 rfl rfl)
theorem dX0_look_51 : decode cX0_look 51 = .ok (.iinc 5 1, 3) := dk_132 5 1 (dk_at dksX0_look_2 4 rfl rfl)
theorem dX0_look_54 : decode cX0_look 54 = .ok (.goto (-18), 3) := dk_167 255 238 (dk_at dksX0_look_2 7 rfl rfl)
theorem dX0_look_57 : decode cX0_look 57 = .ok (.iconst 0, 1) := dk_3 (dk_at dksX0_look_2 10 rfl rfl)
theorem dX0_look_58 : decode cX0_look 58 = .ok (.istore 5, 2) := dk_54 5 (dk_at dksX0_look_2 11 rfl rfl)
theorem dX0_look_60 : decode cX0_look 60 = .ok (.iload 5, 2) := dk_21 5 (dk_at dksX0_look_2 13 rfl rfl)
theorem dX0_look_62 : decode cX0_look 62 = .ok (.aload_n 0, 1) := dk_42 (dk_at dksX0_look_2 15 rfl rfl)
theorem dX0_look_63 : decode cX0_look 63 = .ok (.invokevirtual 154, 3) := dk_182 0 154 (dk_at dksX0_look_2 16 rfl rfl)
theorem dX0_look_66 : decode cX0_look 66 = .ok (.if_icmp .ge 66, 3) := dk_162 0 66 (dk_at dksX0_look_2 19 rfl rfl)
theorem dX0_look_69 : decode cX0_look 69 = .ok (.aload_n 0, 1) := dk_42 (dk_at dksX0_look_2 22 rfl rfl)
theorem dX0_look_70 : decode cX0_look 70 = .ok (.getfield 106, 3) := dk_180 0 106 (dk_at dksX0_look_3 0 rfl rfl)
theorem dX0_look_73 : decode cX0_look 73 = .ok (.iload 5, 2) := dk_21 5 (dk_at dksX0_look_3 3 rfl rfl)
theorem dX0_look_75 : decode cX0_look 75 = .ok (.baload, 1) := dk_51 (dk_at dksX0_look_3 5 rfl rfl)
theorem dX0_look_76 : decode cX0_look 76 = .ok (.ifCond .ne 6, 3) := dk_154 0 6 (dk_at dksX0_look_3 6 rfl rfl)
theorem dX0_look_79 : decode cX0_look 79 = .ok (.goto 47, 3) := dk_167 0 47 (dk_at dksX0_look_3 9 rfl rfl)
theorem dX0_look_82 : decode cX0_look 82 = .ok (.aload_n 0, 1) := dk_42 (dk_at dksX0_look_3 12 rfl rfl)
theorem dX0_look_83 : decode cX0_look 83 = .ok (.iload 5, 2) := dk_21 5 (dk_at dksX0_look_3 13 rfl rfl)
theorem dX0_look_85 : decode cX0_look 85 = .ok (.iload_n 2, 1) := dk_28 (dk_at dksX0_look_3 15 rfl rfl)
theorem dX0_look_86 : decode cX0_look 86 = .ok (.invokevirtual 228, 3) := dk_182 0 228 (dk_at dksX0_look_3 16 rfl rfl)
theorem dX0_look_89 : decode cX0_look 89 = .ok (.istore 6, 2) := dk_54 6 (dk_at dksX0_look_3 19 rfl rfl)
theorem dX0_look_91 : decode cX0_look 91 = .ok (.iconst 0, 1) := dk_3 (dk_at dksX0_look_3 21 rfl rfl)
theorem dX0_look_92 : decode cX0_look 92 = .ok (.istore 7, 2) := dk_54 7 (dk_at dksX0_look_3 22 rfl rfl)
theorem dX0_look_94 : decode cX0_look 94 = .ok (.iload 7, 2) := dk_21 7 (dk_at dksX0_look_4 0 rfl rfl)
theorem dX0_look_96 : decode cX0_look 96 = .ok (.aload_n 0, 1) := dk_42 (dk_at dksX0_look_4 2 rfl rfl)
theorem dX0_look_97 : decode cX0_look 97 = .ok (.invokevirtual 145, 3) := dk_182 0 145 (dk_at dksX0_look_4 3 rfl rfl)
theorem dX0_look_100 : decode cX0_look 100 = .ok (.if_icmp .ge 26, 3) := dk_162 0 26 (dk_at dksX0_look_4 6 rfl rfl)
theorem dX0_look_103 : decode cX0_look 103 = .ok (.aload_n 0, 1) := dk_42 (dk_at dksX0_look_4 9 rfl rfl)
theorem dX0_look_104 : decode cX0_look 104 = .ok (.getfield 109, 3) := dk_180 0 109 (dk_at dksX0_look_4 10 rfl rfl)
theorem dX0_look_107 : decode cX0_look 107 = .ok (.iload 7, 2) := dk_21 7 (dk_at dksX0_look_4 13 rfl rfl)
theorem dX0_look_109 : decode cX0_look 109 = .ok (.dup2, 1) := dk_92 (dk_at dksX0_look_4 15 rfl rfl)
theorem dX0_look_110 : decode cX0_look 110 = .ok (.iaload, 1) := dk_46 (dk_at dksX0_look_4 16 rfl rfl)
theorem dX0_look_111 : decode cX0_look 111 = .ok (.iload 6, 2) := dk_21 6 (dk_at dksX0_look_4 17 rfl rfl)
theorem dX0_look_113 : decode cX0_look 113 = .ok (.iload 7, 2) := dk_21 7 (dk_at dksX0_look_4 19 rfl rfl)
theorem dX0_look_115 : decode cX0_look 115 = .ok (.ishr, 1) := dk_122 (dk_at dksX0_look_4 21 rfl rfl)
theorem dX0_look_116 : decode cX0_look 116 = .ok (.iconst 1, 1) := dk_4 (dk_at dksX0_look_4 22 rfl rfl)
theorem dX0_look_117 : decode cX0_look 117 = .ok (.iand, 1) := dk_126 (dk_at dksX0_look_4 23 rfl rfl)
theorem dX0_look_118 : decode cX0_look 118 = .ok (.iadd, 1) := dk_96 (dk_at dksX0_look_5 0 rfl rfl)
theorem dX0_look_119 : decode cX0_look 119 = .ok (.iastore, 1) := dk_79 (dk_at dksX0_look_5 1 rfl rfl)
theorem dX0_look_120 : decode cX0_look 120 = .ok (.iinc 7 1, 3) := dk_132 7 1 (dk_at dksX0_look_5 2 rfl rfl)
theorem dX0_look_123 : decode cX0_look 123 = .ok (.goto (-29), 3) := dk_167 255 227 (dk_at dksX0_look_5 5 rfl rfl)
theorem dX0_look_126 : decode cX0_look 126 = .ok (.iinc 5 1, 3) := dk_132 5 1 (dk_at dksX0_look_5 8 rfl rfl)
theorem dX0_look_129 : decode cX0_look 129 = .ok (.goto (-69), 3) := dk_167 255 187 (dk_at dksX0_look_5 11 rfl rfl)
theorem dX0_look_132 : decode cX0_look 132 = .ok (.iconst 0, 1) := dk_3 (dk_at dksX0_look_5 14 rfl rfl)
theorem dX0_look_133 : decode cX0_look 133 = .ok (.istore 5, 2) := dk_54 5 (dk_at dksX0_look_5 15 rfl rfl)
theorem dX0_look_135 : decode cX0_look 135 = .ok (.iload 5, 2) := dk_21 5 (dk_at dksX0_look_5 17 rfl rfl)
theorem dX0_look_137 : decode cX0_look 137 = .ok (.aload_n 0, 1) := dk_42 (dk_at dksX0_look_5 19 rfl rfl)
theorem dX0_look_138 : decode cX0_look 138 = .ok (.invokevirtual 145, 3) := dk_182 0 145 (dk_at dksX0_look_5 20 rfl rfl)
theorem dX0_look_141 : decode cX0_look 141 = .ok (.if_icmp .ge 57, 3) := dk_162 0 57 (dk_at dksX0_look_6 0 rfl rfl)
theorem dX0_look_144 : decode cX0_look 144 = .ok (.aload_n 0, 1) := dk_42 (dk_at dksX0_look_6 3 rfl rfl)
theorem dX0_look_145 : decode cX0_look 145 = .ok (.getfield 273, 3) := dk_180 1 17 (dk_at dksX0_look_6 4 rfl rfl)
theorem dX0_look_148 : decode cX0_look 148 = .ok (.ifCond .le 50, 3) := dk_158 0 50 (dk_at dksX0_look_6 7 rfl rfl)
theorem dX0_look_151 : decode cX0_look 151 = .ok (.aload_n 0, 1) := dk_42 (dk_at dksX0_look_6 10 rfl rfl)
theorem dX0_look_152 : decode cX0_look 152 = .ok (.getfield 109, 3) := dk_180 0 109 (dk_at dksX0_look_6 11 rfl rfl)
theorem dX0_look_155 : decode cX0_look 155 = .ok (.iload 5, 2) := dk_21 5 (dk_at dksX0_look_6 14 rfl rfl)
theorem dX0_look_157 : decode cX0_look 157 = .ok (.iaload, 1) := dk_46 (dk_at dksX0_look_6 16 rfl rfl)
theorem dX0_look_158 : decode cX0_look 158 = .ok (.aload_n 0, 1) := dk_42 (dk_at dksX0_look_6 17 rfl rfl)
theorem dX0_look_159 : decode cX0_look 159 = .ok (.getfield 273, 3) := dk_180 1 17 (dk_at dksX0_look_6 18 rfl rfl)
theorem dX0_look_162 : decode cX0_look 162 = .ok (.aload_n 0, 1) := dk_42 (dk_at dksX0_look_6 21 rfl rfl)
theorem dX0_look_163 : decode cX0_look 163 = .ok (.getfield 109, 3) := dk_180 0 109 (dk_at dksX0_look_7 0 rfl rfl)
theorem dX0_look_166 : decode cX0_look 166 = .ok (.iload 5, 2) := dk_21 5 (dk_at dksX0_look_7 3 rfl rfl)
theorem dX0_look_168 : decode cX0_look 168 = .ok (.iaload, 1) := dk_46 (dk_at dksX0_look_7 5 rfl rfl)
theorem dX0_look_169 : decode cX0_look 169 = .ok (.isub, 1) := dk_100 (dk_at dksX0_look_7 6 rfl rfl)
theorem dX0_look_170 : decode cX0_look 170 = .ok (.invokestatic 13, 3) := dk_184 0 13 (dk_at dksX0_look_7 7 rfl rfl)
theorem dX0_look_173 : decode cX0_look 173 = .ok (.istore 6, 2) := dk_54 6 (dk_at dksX0_look_7 10 rfl rfl)
theorem dX0_look_175 : decode cX0_look 175 = .ok (.iload 6, 2) := dk_21 6 (dk_at dksX0_look_7 12 rfl rfl)
theorem dX0_look_177 : decode cX0_look 177 = .ok (.iload 4, 2) := dk_21 4 (dk_at dksX0_look_7 14 rfl rfl)
theorem dX0_look_179 : decode cX0_look 179 = .ok (.if_icmp .lt 6, 3) := dk_161 0 6 (dk_at dksX0_look_7 16 rfl rfl)
theorem dX0_look_182 : decode cX0_look 182 = .ok (.goto 10, 3) := dk_167 0 10 (dk_at dksX0_look_7 19 rfl rfl)
theorem dX0_look_185 : decode cX0_look 185 = .ok (.iload 5, 2) := dk_21 5 (dk_at dksX0_look_7 22 rfl rfl)
theorem dX0_look_187 : decode cX0_look 187 = .ok (.istore_n 3, 1) := dk_62 (dk_at dksX0_look_8 0 rfl rfl)
theorem dX0_look_188 : decode cX0_look 188 = .ok (.iload 6, 2) := dk_21 6 (dk_at dksX0_look_8 1 rfl rfl)
theorem dX0_look_190 : decode cX0_look 190 = .ok (.istore 4, 2) := dk_54 4 (dk_at dksX0_look_8 3 rfl rfl)
theorem dX0_look_192 : decode cX0_look 192 = .ok (.iinc 5 1, 3) := dk_132 5 1 (dk_at dksX0_look_8 5 rfl rfl)
theorem dX0_look_195 : decode cX0_look 195 = .ok (.goto (-60), 3) := dk_167 255 196 (dk_at dksX0_look_8 8 rfl rfl)
theorem dX0_look_198 : decode cX0_look 198 = .ok (.iload_n 3, 1) := dk_29 (dk_at dksX0_look_8 11 rfl rfl)
theorem dX0_look_199 : decode cX0_look 199 = .ok (.ireturn, 1) := dk_172 (dk_at dksX0_look_8 12 rfl rfl)
abbrev cX0_hold : ByteArray := prog_1_method_62_code
def yX0_hold : MethodName := ⟨RX0, "hold", "(I)Z"⟩
def dkwX0_hold_1 : List UInt8 := [42, 180, 0, 86, 27, 4, 84, 4, 172]
abbrev dktX0_hold_1 : List UInt8 := dkwX0_hold_1 ++ []
def dkwX0_hold_0 : List UInt8 := [27, 3, 5, 184, 0, 146, 154, 0, 5, 3, 172, 42, 180, 0, 70, 27, 50, 42, 180, 0, 59, 182, 0, 193]
abbrev dktX0_hold_0 : List UInt8 := dkwX0_hold_0 ++ dktX0_hold_1
theorem dksX0_hold_0 : cX0_hold.data.toList.drop 0 = dktX0_hold_0 := by decide +kernel
theorem dksX0_hold_1 : cX0_hold.data.toList.drop 24 = dktX0_hold_1 := dk_seg dksX0_hold_0 24 rfl rfl
theorem dX0_hold_0 : decode cX0_hold 0 = .ok (.iload_n 1, 1) := dk_27 (dk_at dksX0_hold_0 0 rfl rfl)
theorem dX0_hold_1 : decode cX0_hold 1 = .ok (.iconst 0, 1) := dk_3 (dk_at dksX0_hold_0 1 rfl rfl)
theorem dX0_hold_2 : decode cX0_hold 2 = .ok (.iconst 2, 1) := dk_5 (dk_at dksX0_hold_0 2 rfl rfl)
theorem dX0_hold_3 : decode cX0_hold 3 = .ok (.invokestatic 146, 3) := dk_184 0 146 (dk_at dksX0_hold_0 3 rfl rfl)
theorem dX0_hold_6 : decode cX0_hold 6 = .ok (.ifCond .ne 5, 3) := dk_154 0 5 (dk_at dksX0_hold_0 6 rfl rfl)
theorem dX0_hold_9 : decode cX0_hold 9 = .ok (.iconst 0, 1) := dk_3 (dk_at dksX0_hold_0 9 rfl rfl)
theorem dX0_hold_10 : decode cX0_hold 10 = .ok (.ireturn, 1) := dk_172 (dk_at dksX0_hold_0 10 rfl rfl)
theorem dX0_hold_11 : decode cX0_hold 11 = .ok (.aload_n 0, 1) := dk_42 (dk_at dksX0_hold_0 11 rfl rfl)
theorem dX0_hold_12 : decode cX0_hold 12 = .ok (.getfield 70, 3) := dk_180 0 70 (dk_at dksX0_hold_0 12 rfl rfl)
theorem dX0_hold_15 : decode cX0_hold 15 = .ok (.iload_n 1, 1) := dk_27 (dk_at dksX0_hold_0 15 rfl rfl)
theorem dX0_hold_16 : decode cX0_hold 16 = .ok (.aaload, 1) := dk_50 (dk_at dksX0_hold_0 16 rfl rfl)
theorem dX0_hold_17 : decode cX0_hold 17 = .ok (.aload_n 0, 1) := dk_42 (dk_at dksX0_hold_0 17 rfl rfl)
theorem dX0_hold_18 : decode cX0_hold 18 = .ok (.getfield 59, 3) := dk_180 0 59 (dk_at dksX0_hold_0 18 rfl rfl)
theorem dX0_hold_21 : decode cX0_hold 21 = .ok (.invokevirtual 193, 3) := dk_182 0 193 (dk_at dksX0_hold_0 21 rfl rfl)
theorem dX0_hold_24 : decode cX0_hold 24 = .ok (.aload_n 0, 1) := dk_42 (dk_at dksX0_hold_1 0 rfl rfl)
theorem dX0_hold_25 : decode cX0_hold 25 = .ok (.getfield 86, 3) := dk_180 0 86 (dk_at dksX0_hold_1 1 rfl rfl)
theorem dX0_hold_28 : decode cX0_hold 28 = .ok (.iload_n 1, 1) := dk_27 (dk_at dksX0_hold_1 4 rfl rfl)
theorem dX0_hold_29 : decode cX0_hold 29 = .ok (.iconst 1, 1) := dk_4 (dk_at dksX0_hold_1 5 rfl rfl)
theorem dX0_hold_30 : decode cX0_hold 30 = .ok (.bastore, 1) := dk_84 (dk_at dksX0_hold_1 6 rfl rfl)
theorem dX0_hold_31 : decode cX0_hold 31 = .ok (.iconst 1, 1) := dk_4 (dk_at dksX0_hold_1 7 rfl rfl)
theorem dX0_hold_32 : decode cX0_hold 32 = .ok (.ireturn, 1) := dk_172 (dk_at dksX0_hold_1 8 rfl rfl)
abbrev cX0_restore : ByteArray := prog_1_method_63_code
def yX0_restore : MethodName := ⟨RX0, "restore", "(I)Z"⟩
def dkwX0_restore_1 : List UInt8 := [42, 180, 0, 70, 27, 50, 182, 0, 193, 42, 3, 181, 0, 131, 4, 172]
abbrev dktX0_restore_1 : List UInt8 := dkwX0_restore_1 ++ []
def dkwX0_restore_0 : List UInt8 := [27, 3, 5, 184, 0, 146, 153, 0, 12, 42, 180, 0, 86, 27, 51, 154, 0, 5, 3, 172, 42, 180, 0, 59]
abbrev dktX0_restore_0 : List UInt8 := dkwX0_restore_0 ++ dktX0_restore_1
theorem dksX0_restore_0 : cX0_restore.data.toList.drop 0 = dktX0_restore_0 := by decide +kernel
theorem dksX0_restore_1 : cX0_restore.data.toList.drop 24 = dktX0_restore_1 := dk_seg dksX0_restore_0 24 rfl rfl
theorem dX0_restore_0 : decode cX0_restore 0 = .ok (.iload_n 1, 1) := dk_27 (dk_at dksX0_restore_0 0 rfl rfl)
theorem dX0_restore_1 : decode cX0_restore 1 = .ok (.iconst 0, 1) := dk_3 (dk_at dksX0_restore_0 1 rfl rfl)
theorem dX0_restore_2 : decode cX0_restore 2 = .ok (.iconst 2, 1) := dk_5 (dk_at dksX0_restore_0 2 rfl rfl)
theorem dX0_restore_3 : decode cX0_restore 3 = .ok (.invokestatic 146, 3) := dk_184 0 146 (dk_at dksX0_restore_0 3 rfl rfl)
theorem dX0_restore_6 : decode cX0_restore 6 = .ok (.ifCond .eq 12, 3) := dk_153 0 12 (dk_at dksX0_restore_0 6 rfl rfl)
theorem dX0_restore_9 : decode cX0_restore 9 = .ok (.aload_n 0, 1) := dk_42 (dk_at dksX0_restore_0 9 rfl rfl)
theorem dX0_restore_10 : decode cX0_restore 10 = .ok (.getfield 86, 3) := dk_180 0 86 (dk_at dksX0_restore_0 10 rfl rfl)
theorem dX0_restore_13 : decode cX0_restore 13 = .ok (.iload_n 1, 1) := dk_27 (dk_at dksX0_restore_0 13 rfl rfl)
theorem dX0_restore_14 : decode cX0_restore 14 = .ok (.baload, 1) := dk_51 (dk_at dksX0_restore_0 14 rfl rfl)
theorem dX0_restore_15 : decode cX0_restore 15 = .ok (.ifCond .ne 5, 3) := dk_154 0 5 (dk_at dksX0_restore_0 15 rfl rfl)
theorem dX0_restore_18 : decode cX0_restore 18 = .ok (.iconst 0, 1) := dk_3 (dk_at dksX0_restore_0 18 rfl rfl)
theorem dX0_restore_19 : decode cX0_restore 19 = .ok (.ireturn, 1) := dk_172 (dk_at dksX0_restore_0 19 rfl rfl)
theorem dX0_restore_20 : decode cX0_restore 20 = .ok (.aload_n 0, 1) := dk_42 (dk_at dksX0_restore_0 20 rfl rfl)
theorem dX0_restore_21 : decode cX0_restore 21 = .ok (.getfield 59, 3) := dk_180 0 59 (dk_at dksX0_restore_0 21 rfl rfl)
theorem dX0_restore_24 : decode cX0_restore 24 = .ok (.aload_n 0, 1) := dk_42 (dk_at dksX0_restore_1 0 rfl rfl)
theorem dX0_restore_25 : decode cX0_restore 25 = .ok (.getfield 70, 3) := dk_180 0 70 (dk_at dksX0_restore_1 1 rfl rfl)
theorem dX0_restore_28 : decode cX0_restore 28 = .ok (.iload_n 1, 1) := dk_27 (dk_at dksX0_restore_1 4 rfl rfl)
theorem dX0_restore_29 : decode cX0_restore 29 = .ok (.aaload, 1) := dk_50 (dk_at dksX0_restore_1 5 rfl rfl)
theorem dX0_restore_30 : decode cX0_restore 30 = .ok (.invokevirtual 193, 3) := dk_182 0 193 (dk_at dksX0_restore_1 6 rfl rfl)
theorem dX0_restore_33 : decode cX0_restore 33 = .ok (.aload_n 0, 1) := dk_42 (dk_at dksX0_restore_1 9 rfl rfl)
theorem dX0_restore_34 : decode cX0_restore 34 = .ok (.iconst 0, 1) := dk_3 (dk_at dksX0_restore_1 10 rfl rfl)
theorem dX0_restore_35 : decode cX0_restore 35 = .ok (.putfield 131, 3) := dk_181 0 131 (dk_at dksX0_restore_1 11 rfl rfl)
theorem dX0_restore_38 : decode cX0_restore 38 = .ok (.iconst 1, 1) := dk_4 (dk_at dksX0_restore_1 14 rfl rfl)
theorem dX0_restore_39 : decode cX0_restore 39 = .ok (.ireturn, 1) := dk_172 (dk_at dksX0_restore_1 15 rfl rfl)
abbrev cX0_count : ByteArray := prog_1_method_64_code
def yX0_count : MethodName := ⟨RX0, "count", "(I)I"⟩
def dkwX0_count_13 : List UInt8 := [180, 0, 59, 180, 0, 161, 29, 46, 96, 61, 132, 3, 1, 167, 255, 233, 28, 172, 2, 172]
abbrev dktX0_count_13 : List UInt8 := dkwX0_count_13 ++ []
def dkwX0_count_12 : List UInt8 := [180, 0, 222, 42, 180, 0, 48, 180, 1, 42, 100, 172, 3, 62, 29, 42, 182, 0, 145, 162, 0, 21, 28, 42]
abbrev dktX0_count_12 : List UInt8 := dkwX0_count_12 ++ dktX0_count_13
def dkwX0_count_11 : List UInt8 := [180, 0, 59, 180, 0, 187, 29, 46, 96, 61, 132, 3, 1, 167, 255, 233, 28, 172, 42, 180, 0, 59]
abbrev dktX0_count_11 : List UInt8 := dkwX0_count_11 ++ dktX0_count_12
def dkwX0_count_10 : List UInt8 := [182, 0, 235, 172, 42, 180, 0, 48, 180, 0, 251, 172, 3, 62, 29, 42, 182, 0, 145, 162, 0, 21, 28, 42]
abbrev dktX0_count_10 : List UInt8 := dkwX0_count_10 ++ dktX0_count_11
def dkwX0_count_9 : List UInt8 := [180, 0, 59, 180, 1, 39, 172, 42, 42, 182, 0, 154, 4, 100, 42, 180, 0, 59, 180, 0, 200, 2, 130, 126]
abbrev dktX0_count_9 : List UInt8 := dkwX0_count_9 ++ dktX0_count_10
def dkwX0_count_8 : List UInt8 := [167, 0, 4, 3, 96, 42, 180, 0, 86, 5, 51, 153, 0, 7, 4, 167, 0, 4, 3, 96, 172, 42]
abbrev dktX0_count_8 : List UInt8 := dkwX0_count_8 ++ dktX0_count_9
def dkwX0_count_7 : List UInt8 := [180, 0, 86, 3, 51, 153, 0, 7, 4, 167, 0, 4, 3, 42, 180, 0, 86, 4, 51, 153, 0, 7, 4]
abbrev dktX0_count_7 : List UInt8 := dkwX0_count_7 ++ dktX0_count_8
def dkwX0_count_6 : List UInt8 := [182, 1, 35, 172, 42, 180, 0, 32, 180, 0, 116, 172, 42, 180, 0, 131, 172, 42, 180, 0, 134, 172, 42]
abbrev dktX0_count_6 : List UInt8 := dkwX0_count_6 ++ dktX0_count_7
def dkwX0_count_5 : List UInt8 := [167, 0, 4, 3, 128, 61, 132, 3, 1, 167, 255, 223, 28, 172, 42, 180, 0, 59, 42, 180, 0, 48]
abbrev dktX0_count_5 : List UInt8 := dkwX0_count_5 ++ dktX0_count_6
def dkwX0_count_4 : List UInt8 := [182, 0, 145, 162, 0, 31, 28, 42, 180, 0, 59, 180, 0, 164, 29, 46, 158, 0, 9, 4, 29, 120]
abbrev dktX0_count_4 : List UInt8 := dkwX0_count_4 ++ dktX0_count_5
def dkwX0_count_3 : List UInt8 := [42, 180, 0, 59, 180, 0, 200, 172, 42, 180, 0, 59, 180, 0, 200, 184, 0, 239, 172, 3, 62, 29, 42]
abbrev dktX0_count_3 : List UInt8 := dkwX0_count_3 ++ dktX0_count_4
def dkwX0_count_2 : List UInt8 := [42, 182, 0, 145, 172, 42, 180, 0, 59, 180, 0, 222, 172, 42, 180, 0, 59, 180, 0, 222, 16, 24, 112, 172]
abbrev dktX0_count_2 : List UInt8 := dkwX0_count_2 ++ dktX0_count_3
def dkwX0_count_1 : List UInt8 := [170, 0, 0, 1, 96, 0, 0, 0, 0, 0, 0, 0, 16, 0, 0, 0, 81, 0, 0, 0, 86, 0, 0, 0, 94, 0, 0, 0, 105, 0, 0, 0, 113, 0, 0, 0, 124, 0, 0, 0, 164, 0, 0, 0, 176, 0, 0, 0, 184, 0, 0, 0, 189, 0, 0, 0, 194, 0, 0, 0, 239, 0, 0, 0, 247, 0, 0, 1, 12, 0, 0, 1, 20, 0, 0, 1, 50, 0, 0, 1, 66]
abbrev dktX0_count_1 : List UInt8 := dkwX0_count_1 ++ dktX0_count_2
def dkwX0_count_0 : List UInt8 := [3, 61, 27]
abbrev dktX0_count_0 : List UInt8 := dkwX0_count_0 ++ dktX0_count_1
theorem dksX0_count_0 : cX0_count.data.toList.drop 0 = dktX0_count_0 := by decide +kernel
theorem dksX0_count_1 : cX0_count.data.toList.drop 3 = dktX0_count_1 := dk_seg dksX0_count_0 3 rfl rfl
theorem dksX0_count_2 : cX0_count.data.toList.drop 84 = dktX0_count_2 := dk_seg dksX0_count_1 81 rfl rfl
theorem dksX0_count_3 : cX0_count.data.toList.drop 108 = dktX0_count_3 := dk_seg dksX0_count_2 24 rfl rfl
theorem dksX0_count_4 : cX0_count.data.toList.drop 131 = dktX0_count_4 := dk_seg dksX0_count_3 23 rfl rfl
theorem dksX0_count_5 : cX0_count.data.toList.drop 153 = dktX0_count_5 := dk_seg dksX0_count_4 22 rfl rfl
theorem dksX0_count_6 : cX0_count.data.toList.drop 175 = dktX0_count_6 := dk_seg dksX0_count_5 22 rfl rfl
theorem dksX0_count_7 : cX0_count.data.toList.drop 198 = dktX0_count_7 := dk_seg dksX0_count_6 23 rfl rfl
theorem dksX0_count_8 : cX0_count.data.toList.drop 221 = dktX0_count_8 := dk_seg dksX0_count_7 23 rfl rfl
theorem dksX0_count_9 : cX0_count.data.toList.drop 243 = dktX0_count_9 := dk_seg dksX0_count_8 22 rfl rfl
theorem dksX0_count_10 : cX0_count.data.toList.drop 267 = dktX0_count_10 := dk_seg dksX0_count_9 24 rfl rfl
theorem dksX0_count_11 : cX0_count.data.toList.drop 291 = dktX0_count_11 := dk_seg dksX0_count_10 24 rfl rfl
theorem dksX0_count_12 : cX0_count.data.toList.drop 313 = dktX0_count_12 := dk_seg dksX0_count_11 22 rfl rfl
theorem dksX0_count_13 : cX0_count.data.toList.drop 337 = dktX0_count_13 := dk_seg dksX0_count_12 24 rfl rfl
theorem dX0_count_0 : decode cX0_count 0 = .ok (.iconst 0, 1) := dk_3 (dk_at dksX0_count_0 0 rfl rfl)
theorem dX0_count_1 : decode cX0_count 1 = .ok (.istore_n 2, 1) := dk_61 (dk_at dksX0_count_0 1 rfl rfl)
theorem dX0_count_2 : decode cX0_count 2 = .ok (.iload_n 1, 1) := dk_27 (dk_at dksX0_count_0 2 rfl rfl)
theorem dX0_count_3 : decode cX0_count 3 = .ok (.tableswitch 352 0 16 #[81, 86, 94, 105, 113, 124, 164, 176, 184, 189, 194, 239, 247, 268, 276, 306, 322], 81) := by decide +kernel
theorem dX0_count_84 : decode cX0_count 84 = .ok (.aload_n 0, 1) := dk_42 (dk_at dksX0_count_2 0 rfl rfl)
theorem dX0_count_85 : decode cX0_count 85 = .ok (.invokevirtual 145, 3) := dk_182 0 145 (dk_at dksX0_count_2 1 rfl rfl)
theorem dX0_count_88 : decode cX0_count 88 = .ok (.ireturn, 1) := dk_172 (dk_at dksX0_count_2 4 rfl rfl)
theorem dX0_count_89 : decode cX0_count 89 = .ok (.aload_n 0, 1) := dk_42 (dk_at dksX0_count_2 5 rfl rfl)
theorem dX0_count_90 : decode cX0_count 90 = .ok (.getfield 59, 3) := dk_180 0 59 (dk_at dksX0_count_2 6 rfl rfl)
theorem dX0_count_93 : decode cX0_count 93 = .ok (.getfield 222, 3) := dk_180 0 222 (dk_at dksX0_count_2 9 rfl rfl)
theorem dX0_count_96 : decode cX0_count 96 = .ok (.ireturn, 1) := dk_172 (dk_at dksX0_count_2 12 rfl rfl)
theorem dX0_count_97 : decode cX0_count 97 = .ok (.aload_n 0, 1) := dk_42 (dk_at dksX0_count_2 13 rfl rfl)
theorem dX0_count_98 : decode cX0_count 98 = .ok (.getfield 59, 3) := dk_180 0 59 (dk_at dksX0_count_2 14 rfl rfl)
theorem dX0_count_101 : decode cX0_count 101 = .ok (.getfield 222, 3) := dk_180 0 222 (dk_at dksX0_count_2 17 rfl rfl)
theorem dX0_count_104 : decode cX0_count 104 = .ok (.bipush 24, 2) := dk_16 24 (dk_at dksX0_count_2 20 rfl rfl)
theorem dX0_count_106 : decode cX0_count 106 = .ok (.irem, 1) := dk_112 (dk_at dksX0_count_2 22 rfl rfl)
theorem dX0_count_107 : decode cX0_count 107 = .ok (.ireturn, 1) := dk_172 (dk_at dksX0_count_2 23 rfl rfl)
theorem dX0_count_108 : decode cX0_count 108 = .ok (.aload_n 0, 1) := dk_42 (dk_at dksX0_count_3 0 rfl rfl)
theorem dX0_count_109 : decode cX0_count 109 = .ok (.getfield 59, 3) := dk_180 0 59 (dk_at dksX0_count_3 1 rfl rfl)
theorem dX0_count_112 : decode cX0_count 112 = .ok (.getfield 200, 3) := dk_180 0 200 (dk_at dksX0_count_3 4 rfl rfl)
theorem dX0_count_115 : decode cX0_count 115 = .ok (.ireturn, 1) := dk_172 (dk_at dksX0_count_3 7 rfl rfl)
theorem dX0_count_116 : decode cX0_count 116 = .ok (.aload_n 0, 1) := dk_42 (dk_at dksX0_count_3 8 rfl rfl)
theorem dX0_count_117 : decode cX0_count 117 = .ok (.getfield 59, 3) := dk_180 0 59 (dk_at dksX0_count_3 9 rfl rfl)
theorem dX0_count_120 : decode cX0_count 120 = .ok (.getfield 200, 3) := dk_180 0 200 (dk_at dksX0_count_3 12 rfl rfl)
theorem dX0_count_123 : decode cX0_count 123 = .ok (.invokestatic 239, 3) := dk_184 0 239 (dk_at dksX0_count_3 15 rfl rfl)
theorem dX0_count_126 : decode cX0_count 126 = .ok (.ireturn, 1) := dk_172 (dk_at dksX0_count_3 18 rfl rfl)
theorem dX0_count_127 : decode cX0_count 127 = .ok (.iconst 0, 1) := dk_3 (dk_at dksX0_count_3 19 rfl rfl)
theorem dX0_count_128 : decode cX0_count 128 = .ok (.istore_n 3, 1) := dk_62 (dk_at dksX0_count_3 20 rfl rfl)
theorem dX0_count_129 : decode cX0_count 129 = .ok (.iload_n 3, 1) := dk_29 (dk_at dksX0_count_3 21 rfl rfl)
theorem dX0_count_130 : decode cX0_count 130 = .ok (.aload_n 0, 1) := dk_42 (dk_at dksX0_count_3 22 rfl rfl)
theorem dX0_count_131 : decode cX0_count 131 = .ok (.invokevirtual 145, 3) := dk_182 0 145 (dk_at dksX0_count_4 0 rfl rfl)
theorem dX0_count_134 : decode cX0_count 134 = .ok (.if_icmp .ge 31, 3) := dk_162 0 31 (dk_at dksX0_count_4 3 rfl rfl)
theorem dX0_count_137 : decode cX0_count 137 = .ok (.iload_n 2, 1) := dk_28 (dk_at dksX0_count_4 6 rfl rfl)
theorem dX0_count_138 : decode cX0_count 138 = .ok (.aload_n 0, 1) := dk_42 (dk_at dksX0_count_4 7 rfl rfl)
theorem dX0_count_139 : decode cX0_count 139 = .ok (.getfield 59, 3) := dk_180 0 59 (dk_at dksX0_count_4 8 rfl rfl)
theorem dX0_count_142 : decode cX0_count 142 = .ok (.getfield 164, 3) := dk_180 0 164 (dk_at dksX0_count_4 11 rfl rfl)
theorem dX0_count_145 : decode cX0_count 145 = .ok (.iload_n 3, 1) := dk_29 (dk_at dksX0_count_4 14 rfl rfl)
theorem dX0_count_146 : decode cX0_count 146 = .ok (.iaload, 1) := dk_46 (dk_at dksX0_count_4 15 rfl rfl)
theorem dX0_count_147 : decode cX0_count 147 = .ok (.ifCond .le 9, 3) := dk_158 0 9 (dk_at dksX0_count_4 16 rfl rfl)
theorem dX0_count_150 : decode cX0_count 150 = .ok (.iconst 1, 1) := dk_4 (dk_at dksX0_count_4 19 rfl rfl)
theorem dX0_count_151 : decode cX0_count 151 = .ok (.iload_n 3, 1) := dk_29 (dk_at dksX0_count_4 20 rfl rfl)
theorem dX0_count_152 : decode cX0_count 152 = .ok (.ishl, 1) := dk_120 (dk_at dksX0_count_4 21 rfl rfl)
theorem dX0_count_153 : decode cX0_count 153 = .ok (.goto 4, 3) := dk_167 0 4 (dk_at dksX0_count_5 0 rfl rfl)
theorem dX0_count_156 : decode cX0_count 156 = .ok (.iconst 0, 1) := dk_3 (dk_at dksX0_count_5 3 rfl rfl)
theorem dX0_count_157 : decode cX0_count 157 = .ok (.ior, 1) := dk_128 (dk_at dksX0_count_5 4 rfl rfl)
theorem dX0_count_158 : decode cX0_count 158 = .ok (.istore_n 2, 1) := dk_61 (dk_at dksX0_count_5 5 rfl rfl)
theorem dX0_count_159 : decode cX0_count 159 = .ok (.iinc 3 1, 3) := dk_132 3 1 (dk_at dksX0_count_5 6 rfl rfl)
theorem dX0_count_162 : decode cX0_count 162 = .ok (.goto (-33), 3) := dk_167 255 223 (dk_at dksX0_count_5 9 rfl rfl)
theorem dX0_count_165 : decode cX0_count 165 = .ok (.iload_n 2, 1) := dk_28 (dk_at dksX0_count_5 12 rfl rfl)
theorem dX0_count_166 : decode cX0_count 166 = .ok (.ireturn, 1) := dk_172 (dk_at dksX0_count_5 13 rfl rfl)
theorem dX0_count_167 : decode cX0_count 167 = .ok (.aload_n 0, 1) := dk_42 (dk_at dksX0_count_5 14 rfl rfl)
theorem dX0_count_168 : decode cX0_count 168 = .ok (.getfield 59, 3) := dk_180 0 59 (dk_at dksX0_count_5 15 rfl rfl)
theorem dX0_count_171 : decode cX0_count 171 = .ok (.aload_n 0, 1) := dk_42 (dk_at dksX0_count_5 18 rfl rfl)
theorem dX0_count_172 : decode cX0_count 172 = .ok (.getfield 48, 3) := dk_180 0 48 (dk_at dksX0_count_5 19 rfl rfl)
theorem dX0_count_175 : decode cX0_count 175 = .ok (.invokevirtual 291, 3) := dk_182 1 35 (dk_at dksX0_count_6 0 rfl rfl)
theorem dX0_count_178 : decode cX0_count 178 = .ok (.ireturn, 1) := dk_172 (dk_at dksX0_count_6 3 rfl rfl)
theorem dX0_count_179 : decode cX0_count 179 = .ok (.aload_n 0, 1) := dk_42 (dk_at dksX0_count_6 4 rfl rfl)
theorem dX0_count_180 : decode cX0_count 180 = .ok (.getfield 32, 3) := dk_180 0 32 (dk_at dksX0_count_6 5 rfl rfl)
theorem dX0_count_183 : decode cX0_count 183 = .ok (.getfield 116, 3) := dk_180 0 116 (dk_at dksX0_count_6 8 rfl rfl)
theorem dX0_count_186 : decode cX0_count 186 = .ok (.ireturn, 1) := dk_172 (dk_at dksX0_count_6 11 rfl rfl)
theorem dX0_count_187 : decode cX0_count 187 = .ok (.aload_n 0, 1) := dk_42 (dk_at dksX0_count_6 12 rfl rfl)
theorem dX0_count_188 : decode cX0_count 188 = .ok (.getfield 131, 3) := dk_180 0 131 (dk_at dksX0_count_6 13 rfl rfl)
theorem dX0_count_191 : decode cX0_count 191 = .ok (.ireturn, 1) := dk_172 (dk_at dksX0_count_6 16 rfl rfl)
theorem dX0_count_192 : decode cX0_count 192 = .ok (.aload_n 0, 1) := dk_42 (dk_at dksX0_count_6 17 rfl rfl)
theorem dX0_count_193 : decode cX0_count 193 = .ok (.getfield 134, 3) := dk_180 0 134 (dk_at dksX0_count_6 18 rfl rfl)
theorem dX0_count_196 : decode cX0_count 196 = .ok (.ireturn, 1) := dk_172 (dk_at dksX0_count_6 21 rfl rfl)
theorem dX0_count_197 : decode cX0_count 197 = .ok (.aload_n 0, 1) := dk_42 (dk_at dksX0_count_6 22 rfl rfl)
theorem dX0_count_198 : decode cX0_count 198 = .ok (.getfield 86, 3) := dk_180 0 86 (dk_at dksX0_count_7 0 rfl rfl)
theorem dX0_count_201 : decode cX0_count 201 = .ok (.iconst 0, 1) := dk_3 (dk_at dksX0_count_7 3 rfl rfl)
theorem dX0_count_202 : decode cX0_count 202 = .ok (.baload, 1) := dk_51 (dk_at dksX0_count_7 4 rfl rfl)
theorem dX0_count_203 : decode cX0_count 203 = .ok (.ifCond .eq 7, 3) := dk_153 0 7 (dk_at dksX0_count_7 5 rfl rfl)
theorem dX0_count_206 : decode cX0_count 206 = .ok (.iconst 1, 1) := dk_4 (dk_at dksX0_count_7 8 rfl rfl)
theorem dX0_count_207 : decode cX0_count 207 = .ok (.goto 4, 3) := dk_167 0 4 (dk_at dksX0_count_7 9 rfl rfl)
theorem dX0_count_210 : decode cX0_count 210 = .ok (.iconst 0, 1) := dk_3 (dk_at dksX0_count_7 12 rfl rfl)
theorem dX0_count_211 : decode cX0_count 211 = .ok (.aload_n 0, 1) := dk_42 (dk_at dksX0_count_7 13 rfl rfl)
theorem dX0_count_212 : decode cX0_count 212 = .ok (.getfield 86, 3) := dk_180 0 86 (dk_at dksX0_count_7 14 rfl rfl)
theorem dX0_count_215 : decode cX0_count 215 = .ok (.iconst 1, 1) := dk_4 (dk_at dksX0_count_7 17 rfl rfl)
theorem dX0_count_216 : decode cX0_count 216 = .ok (.baload, 1) := dk_51 (dk_at dksX0_count_7 18 rfl rfl)
theorem dX0_count_217 : decode cX0_count 217 = .ok (.ifCond .eq 7, 3) := dk_153 0 7 (dk_at dksX0_count_7 19 rfl rfl)
theorem dX0_count_220 : decode cX0_count 220 = .ok (.iconst 1, 1) := dk_4 (dk_at dksX0_count_7 22 rfl rfl)
theorem dX0_count_221 : decode cX0_count 221 = .ok (.goto 4, 3) := dk_167 0 4 (dk_at dksX0_count_8 0 rfl rfl)
theorem dX0_count_224 : decode cX0_count 224 = .ok (.iconst 0, 1) := dk_3 (dk_at dksX0_count_8 3 rfl rfl)
theorem dX0_count_225 : decode cX0_count 225 = .ok (.iadd, 1) := dk_96 (dk_at dksX0_count_8 4 rfl rfl)
theorem dX0_count_226 : decode cX0_count 226 = .ok (.aload_n 0, 1) := dk_42 (dk_at dksX0_count_8 5 rfl rfl)
theorem dX0_count_227 : decode cX0_count 227 = .ok (.getfield 86, 3) := dk_180 0 86 (dk_at dksX0_count_8 6 rfl rfl)
theorem dX0_count_230 : decode cX0_count 230 = .ok (.iconst 2, 1) := dk_5 (dk_at dksX0_count_8 9 rfl rfl)
theorem dX0_count_231 : decode cX0_count 231 = .ok (.baload, 1) := dk_51 (dk_at dksX0_count_8 10 rfl rfl)
theorem dX0_count_232 : decode cX0_count 232 = .ok (.ifCond .eq 7, 3) := dk_153 0 7 (dk_at dksX0_count_8 11 rfl rfl)
theorem dX0_count_235 : decode cX0_count 235 = .ok (.iconst 1, 1) := dk_4 (dk_at dksX0_count_8 14 rfl rfl)
theorem dX0_count_236 : decode cX0_count 236 = .ok (.goto 4, 3) := dk_167 0 4 (dk_at dksX0_count_8 15 rfl rfl)
theorem dX0_count_239 : decode cX0_count 239 = .ok (.iconst 0, 1) := dk_3 (dk_at dksX0_count_8 18 rfl rfl)
theorem dX0_count_240 : decode cX0_count 240 = .ok (.iadd, 1) := dk_96 (dk_at dksX0_count_8 19 rfl rfl)
theorem dX0_count_241 : decode cX0_count 241 = .ok (.ireturn, 1) := dk_172 (dk_at dksX0_count_8 20 rfl rfl)
theorem dX0_count_242 : decode cX0_count 242 = .ok (.aload_n 0, 1) := dk_42 (dk_at dksX0_count_8 21 rfl rfl)
theorem dX0_count_243 : decode cX0_count 243 = .ok (.getfield 59, 3) := dk_180 0 59 (dk_at dksX0_count_9 0 rfl rfl)
theorem dX0_count_246 : decode cX0_count 246 = .ok (.getfield 295, 3) := dk_180 1 39 (dk_at dksX0_count_9 3 rfl rfl)
theorem dX0_count_249 : decode cX0_count 249 = .ok (.ireturn, 1) := dk_172 (dk_at dksX0_count_9 6 rfl rfl)
theorem dX0_count_250 : decode cX0_count 250 = .ok (.aload_n 0, 1) := dk_42 (dk_at dksX0_count_9 7 rfl rfl)
theorem dX0_count_251 : decode cX0_count 251 = .ok (.aload_n 0, 1) := dk_42 (dk_at dksX0_count_9 8 rfl rfl)
theorem dX0_count_252 : decode cX0_count 252 = .ok (.invokevirtual 154, 3) := dk_182 0 154 (dk_at dksX0_count_9 9 rfl rfl)
theorem dX0_count_255 : decode cX0_count 255 = .ok (.iconst 1, 1) := dk_4 (dk_at dksX0_count_9 12 rfl rfl)
theorem dX0_count_256 : decode cX0_count 256 = .ok (.isub, 1) := dk_100 (dk_at dksX0_count_9 13 rfl rfl)
theorem dX0_count_257 : decode cX0_count 257 = .ok (.aload_n 0, 1) := dk_42 (dk_at dksX0_count_9 14 rfl rfl)
theorem dX0_count_258 : decode cX0_count 258 = .ok (.getfield 59, 3) := dk_180 0 59 (dk_at dksX0_count_9 15 rfl rfl)
theorem dX0_count_261 : decode cX0_count 261 = .ok (.getfield 200, 3) := dk_180 0 200 (dk_at dksX0_count_9 18 rfl rfl)
theorem dX0_count_264 : decode cX0_count 264 = .ok (.iconst (-1), 1) := dk_2 (dk_at dksX0_count_9 21 rfl rfl)
theorem dX0_count_265 : decode cX0_count 265 = .ok (.ixor, 1) := dk_130 (dk_at dksX0_count_9 22 rfl rfl)
theorem dX0_count_266 : decode cX0_count 266 = .ok (.iand, 1) := dk_126 (dk_at dksX0_count_9 23 rfl rfl)
theorem dX0_count_267 : decode cX0_count 267 = .ok (.invokevirtual 235, 3) := dk_182 0 235 (dk_at dksX0_count_10 0 rfl rfl)
theorem dX0_count_270 : decode cX0_count 270 = .ok (.ireturn, 1) := dk_172 (dk_at dksX0_count_10 3 rfl rfl)
theorem dX0_count_271 : decode cX0_count 271 = .ok (.aload_n 0, 1) := dk_42 (dk_at dksX0_count_10 4 rfl rfl)
theorem dX0_count_272 : decode cX0_count 272 = .ok (.getfield 48, 3) := dk_180 0 48 (dk_at dksX0_count_10 5 rfl rfl)
theorem dX0_count_275 : decode cX0_count 275 = .ok (.getfield 251, 3) := dk_180 0 251 (dk_at dksX0_count_10 8 rfl rfl)
theorem dX0_count_278 : decode cX0_count 278 = .ok (.ireturn, 1) := dk_172 (dk_at dksX0_count_10 11 rfl rfl)
theorem dX0_count_279 : decode cX0_count 279 = .ok (.iconst 0, 1) := dk_3 (dk_at dksX0_count_10 12 rfl rfl)
theorem dX0_count_280 : decode cX0_count 280 = .ok (.istore_n 3, 1) := dk_62 (dk_at dksX0_count_10 13 rfl rfl)
theorem dX0_count_281 : decode cX0_count 281 = .ok (.iload_n 3, 1) := dk_29 (dk_at dksX0_count_10 14 rfl rfl)
theorem dX0_count_282 : decode cX0_count 282 = .ok (.aload_n 0, 1) := dk_42 (dk_at dksX0_count_10 15 rfl rfl)
theorem dX0_count_283 : decode cX0_count 283 = .ok (.invokevirtual 145, 3) := dk_182 0 145 (dk_at dksX0_count_10 16 rfl rfl)
theorem dX0_count_286 : decode cX0_count 286 = .ok (.if_icmp .ge 21, 3) := dk_162 0 21 (dk_at dksX0_count_10 19 rfl rfl)
theorem dX0_count_289 : decode cX0_count 289 = .ok (.iload_n 2, 1) := dk_28 (dk_at dksX0_count_10 22 rfl rfl)
theorem dX0_count_290 : decode cX0_count 290 = .ok (.aload_n 0, 1) := dk_42 (dk_at dksX0_count_10 23 rfl rfl)
theorem dX0_count_291 : decode cX0_count 291 = .ok (.getfield 59, 3) := dk_180 0 59 (dk_at dksX0_count_11 0 rfl rfl)
theorem dX0_count_294 : decode cX0_count 294 = .ok (.getfield 187, 3) := dk_180 0 187 (dk_at dksX0_count_11 3 rfl rfl)
theorem dX0_count_297 : decode cX0_count 297 = .ok (.iload_n 3, 1) := dk_29 (dk_at dksX0_count_11 6 rfl rfl)
theorem dX0_count_298 : decode cX0_count 298 = .ok (.iaload, 1) := dk_46 (dk_at dksX0_count_11 7 rfl rfl)
theorem dX0_count_299 : decode cX0_count 299 = .ok (.iadd, 1) := dk_96 (dk_at dksX0_count_11 8 rfl rfl)
theorem dX0_count_300 : decode cX0_count 300 = .ok (.istore_n 2, 1) := dk_61 (dk_at dksX0_count_11 9 rfl rfl)
theorem dX0_count_301 : decode cX0_count 301 = .ok (.iinc 3 1, 3) := dk_132 3 1 (dk_at dksX0_count_11 10 rfl rfl)
theorem dX0_count_304 : decode cX0_count 304 = .ok (.goto (-23), 3) := dk_167 255 233 (dk_at dksX0_count_11 13 rfl rfl)
theorem dX0_count_307 : decode cX0_count 307 = .ok (.iload_n 2, 1) := dk_28 (dk_at dksX0_count_11 16 rfl rfl)
theorem dX0_count_308 : decode cX0_count 308 = .ok (.ireturn, 1) := dk_172 (dk_at dksX0_count_11 17 rfl rfl)
theorem dX0_count_309 : decode cX0_count 309 = .ok (.aload_n 0, 1) := dk_42 (dk_at dksX0_count_11 18 rfl rfl)
theorem dX0_count_310 : decode cX0_count 310 = .ok (.getfield 59, 3) := dk_180 0 59 (dk_at dksX0_count_11 19 rfl rfl)
theorem dX0_count_313 : decode cX0_count 313 = .ok (.getfield 222, 3) := dk_180 0 222 (dk_at dksX0_count_12 0 rfl rfl)
theorem dX0_count_316 : decode cX0_count 316 = .ok (.aload_n 0, 1) := dk_42 (dk_at dksX0_count_12 3 rfl rfl)
theorem dX0_count_317 : decode cX0_count 317 = .ok (.getfield 48, 3) := dk_180 0 48 (dk_at dksX0_count_12 4 rfl rfl)
theorem dX0_count_320 : decode cX0_count 320 = .ok (.getfield 298, 3) := dk_180 1 42 (dk_at dksX0_count_12 7 rfl rfl)
theorem dX0_count_323 : decode cX0_count 323 = .ok (.isub, 1) := dk_100 (dk_at dksX0_count_12 10 rfl rfl)
theorem dX0_count_324 : decode cX0_count 324 = .ok (.ireturn, 1) := dk_172 (dk_at dksX0_count_12 11 rfl rfl)
theorem dX0_count_325 : decode cX0_count 325 = .ok (.iconst 0, 1) := dk_3 (dk_at dksX0_count_12 12 rfl rfl)
theorem dX0_count_326 : decode cX0_count 326 = .ok (.istore_n 3, 1) := dk_62 (dk_at dksX0_count_12 13 rfl rfl)
theorem dX0_count_327 : decode cX0_count 327 = .ok (.iload_n 3, 1) := dk_29 (dk_at dksX0_count_12 14 rfl rfl)
theorem dX0_count_328 : decode cX0_count 328 = .ok (.aload_n 0, 1) := dk_42 (dk_at dksX0_count_12 15 rfl rfl)
theorem dX0_count_329 : decode cX0_count 329 = .ok (.invokevirtual 145, 3) := dk_182 0 145 (dk_at dksX0_count_12 16 rfl rfl)
theorem dX0_count_332 : decode cX0_count 332 = .ok (.if_icmp .ge 21, 3) := dk_162 0 21 (dk_at dksX0_count_12 19 rfl rfl)
theorem dX0_count_335 : decode cX0_count 335 = .ok (.iload_n 2, 1) := dk_28 (dk_at dksX0_count_12 22 rfl rfl)
theorem dX0_count_336 : decode cX0_count 336 = .ok (.aload_n 0, 1) := dk_42 (dk_at dksX0_count_12 23 rfl rfl)
theorem dX0_count_337 : decode cX0_count 337 = .ok (.getfield 59, 3) := dk_180 0 59 (dk_at dksX0_count_13 0 rfl rfl)
theorem dX0_count_340 : decode cX0_count 340 = .ok (.getfield 161, 3) := dk_180 0 161 (dk_at dksX0_count_13 3 rfl rfl)
theorem dX0_count_343 : decode cX0_count 343 = .ok (.iload_n 3, 1) := dk_29 (dk_at dksX0_count_13 6 rfl rfl)
theorem dX0_count_344 : decode cX0_count 344 = .ok (.iaload, 1) := dk_46 (dk_at dksX0_count_13 7 rfl rfl)
theorem dX0_count_345 : decode cX0_count 345 = .ok (.iadd, 1) := dk_96 (dk_at dksX0_count_13 8 rfl rfl)
theorem dX0_count_346 : decode cX0_count 346 = .ok (.istore_n 2, 1) := dk_61 (dk_at dksX0_count_13 9 rfl rfl)
theorem dX0_count_347 : decode cX0_count 347 = .ok (.iinc 3 1, 3) := dk_132 3 1 (dk_at dksX0_count_13 10 rfl rfl)
theorem dX0_count_350 : decode cX0_count 350 = .ok (.goto (-23), 3) := dk_167 255 233 (dk_at dksX0_count_13 13 rfl rfl)
theorem dX0_count_353 : decode cX0_count 353 = .ok (.iload_n 2, 1) := dk_28 (dk_at dksX0_count_13 16 rfl rfl)
theorem dX0_count_354 : decode cX0_count 354 = .ok (.ireturn, 1) := dk_172 (dk_at dksX0_count_13 17 rfl rfl)
theorem dX0_count_355 : decode cX0_count 355 = .ok (.iconst (-1), 1) := dk_2 (dk_at dksX0_count_13 18 rfl rfl)
theorem dX0_count_356 : decode cX0_count 356 = .ok (.ireturn, 1) := dk_172 (dk_at dksX0_count_13 19 rfl rfl)
theorem q108 : (Jvm.Cond.initialized "PartedSide") ∈ lw_all := lw_g (lw_at lw_m1 1 rfl) rfl
theorem q147 : (Jvm.Cond.instantiable "PartedSide" (26 : Nat)) ∈ lw_all := lw_g (lw_at lw_m1 40 rfl) rfl
theorem q149 : (Jvm.Cond.instanceMethod ({ cls := "PartedSide", name := "<init>", desc := "()V" } : Jvm.MethodName)) ∈ lw_all := lw_g (lw_at lw_m1 42 rfl) rfl
theorem q150 : (Jvm.Cond.code ({ cls := "PartedSide", name := "<init>", desc := "()V" } : Jvm.MethodName) prog_1_method_4_code (2 : Nat) (Option.none : Option Jvm.ClassFile.FieldType)) ∈ lw_all := lw_g (lw_at lw_m1 43 rfl) rfl
theorem q151 : (Jvm.Cond.methodLink "PartedSide" (16 : Nat) ({ cls := "java/lang/Object", name := "<init>", desc := "()V" } : Jvm.MethodName)) ∈ lw_all := lw_g (lw_at lw_m1 44 rfl) rfl
theorem q154 : (Jvm.Cond.classLink "PartedSide" (22 : Nat) "PartedSide$Fault") ∈ lw_all := lw_g (lw_at lw_m1 47 rfl) rfl
theorem q193 : (Jvm.Cond.methodLink "PartedSide" (24 : Nat) ({ cls := "PartedSide$Fault", name := "<init>", desc := "()V" } : Jvm.MethodName)) ∈ lw_all := lw_g (lw_at lw_m1 86 rfl) rfl
theorem q207 : (Jvm.Cond.fieldLink "PartedSide" (137 : Nat) "PartedSide$Fault" "number" "I") ∈ lw_all := lw_g (lw_at lw_m1 100 rfl) rfl
theorem q209 : (Jvm.Cond.fieldLink "PartedSide" (140 : Nat) "PartedSide$Fault" "place" "I") ∈ lw_all := lw_g (lw_at lw_m1 102 rfl) rfl
theorem q228 : (Jvm.Cond.classLink "PartedSide" (29 : Nat) "PartedSide$Tokens") ∈ lw_all := lw_g (lw_at lw_m1 121 rfl) rfl
theorem q230 : (Jvm.Cond.methodLinkNest "PartedSide" (31 : Nat) ({ cls := "PartedSide$Tokens", name := "<init>", desc := "()V" } : Jvm.MethodName) "PartedSide") ∈ lw_tbl := lw_at lw_m1 123 rfl
theorem q259 : (Jvm.Cond.fieldLink "PartedSide" (123 : Nat) "PartedSide$Tokens" "tape" "[B") ∈ lw_all := lw_g (lw_at lw_m1 152 rfl) rfl
theorem q261 : (Jvm.Cond.fieldLink "PartedSide" (116 : Nat) "PartedSide$Tokens" "taped" "I") ∈ lw_all := lw_g (lw_at lw_m1 154 rfl) rfl
theorem q288 : (Jvm.Cond.classLink "PartedSide" (36 : Nat) "PartedSide$Parser") ∈ lw_all := lw_g (lw_at lw_m1 181 rfl) rfl
theorem q290 : (Jvm.Cond.methodLink "PartedSide" (38 : Nat) ({ cls := "PartedSide$Parser", name := "<init>", desc := "(LPartedSide$Tokens;LPartedSide$Fault;)V" } : Jvm.MethodName)) ∈ lw_all := lw_g (lw_at lw_m1 183 rfl) rfl
theorem q316 : (Jvm.Cond.classLink "PartedSide" (45 : Nat) "PartedSide$Text") ∈ lw_all := lw_g (lw_at lw_m1 209 rfl) rfl
theorem q318 : (Jvm.Cond.methodLinkNest "PartedSide" (47 : Nat) ({ cls := "PartedSide$Text", name := "<init>", desc := "()V" } : Jvm.MethodName) "PartedSide") ∈ lw_tbl := lw_at lw_m1 211 rfl
theorem q359 : (Jvm.Cond.fieldLink "PartedSide" (167 : Nat) "PartedSide$Text" "cold" "[I") ∈ lw_all := lw_g (lw_at lw_m2 12 rfl) rfl
theorem q367 : (Jvm.Cond.fieldLink "PartedSide" (251 : Nat) "PartedSide$Text" "ring" "I") ∈ lw_all := lw_g (lw_at lw_m2 20 rfl) rfl
theorem q370 : (Jvm.Cond.fieldLink "PartedSide" (298 : Nat) "PartedSide$Text" "begins" "I") ∈ lw_all := lw_g (lw_at lw_m2 23 rfl) rfl
theorem q373 : (Jvm.Cond.fieldLink "PartedSide" (269 : Nat) "PartedSide$Text" "seed" "I") ∈ lw_all := lw_g (lw_at lw_m2 26 rfl) rfl
theorem q392 : (Jvm.Cond.classLink "PartedSide" (56 : Nat) "PartedSide$Barrack") ∈ lw_all := lw_g (lw_at lw_m2 45 rfl) rfl
theorem q394 : (Jvm.Cond.methodLinkNest "PartedSide" (58 : Nat) ({ cls := "PartedSide$Barrack", name := "<init>", desc := "()V" } : Jvm.MethodName) "PartedSide") ∈ lw_tbl := lw_at lw_m2 47 rfl
theorem q434 : (Jvm.Cond.fieldLink "PartedSide" (161 : Nat) "PartedSide$Barrack" "habit" "[I") ∈ lw_all := lw_g (lw_at lw_m2 87 rfl) rfl
theorem q436 : (Jvm.Cond.fieldLink "PartedSide" (164 : Nat) "PartedSide$Barrack" "parted" "[I") ∈ lw_all := lw_g (lw_at lw_m2 89 rfl) rfl
theorem q438 : (Jvm.Cond.fieldLink "PartedSide" (170 : Nat) "PartedSide$Barrack" "who" "[I") ∈ lw_all := lw_g (lw_at lw_m2 91 rfl) rfl
theorem q440 : (Jvm.Cond.fieldLink "PartedSide" (187 : Nat) "PartedSide$Barrack" "turns" "[I") ∈ lw_all := lw_g (lw_at lw_m2 93 rfl) rfl
theorem q442 : (Jvm.Cond.fieldLink "PartedSide" (200 : Nat) "PartedSide$Barrack" "row" "I") ∈ lw_all := lw_g (lw_at lw_m2 95 rfl) rfl
theorem q445 : (Jvm.Cond.fieldLink "PartedSide" (222 : Nat) "PartedSide$Barrack" "hour" "I") ∈ lw_all := lw_g (lw_at lw_m2 98 rfl) rfl
theorem q447 : (Jvm.Cond.fieldLink "PartedSide" (295 : Nat) "PartedSide$Barrack" "chilled" "I") ∈ lw_all := lw_g (lw_at lw_m2 100 rfl) rfl
theorem q450 : (Jvm.Cond.fieldLink "PartedSide" (272 : Nat) "PartedSide$Barrack" "seed" "I") ∈ lw_all := lw_g (lw_at lw_m2 103 rfl) rfl
theorem q478 : (Jvm.Cond.classLink "PartedSide" (73 : Nat) "PartedSide$Drawn") ∈ lw_all := lw_g (lw_at lw_m2 131 rfl) rfl
theorem q480 : (Jvm.Cond.methodLinkNest "PartedSide" (75 : Nat) ({ cls := "PartedSide$Drawn", name := "<init>", desc := "()V" } : Jvm.MethodName) "PartedSide") ∈ lw_tbl := lw_at lw_m2 133 rfl
theorem q488 : (Jvm.Cond.classLink "PartedSide" (80 : Nat) "PartedSide$Mild") ∈ lw_all := lw_g (lw_at lw_m2 141 rfl) rfl
theorem q490 : (Jvm.Cond.methodLinkNest "PartedSide" (82 : Nat) ({ cls := "PartedSide$Mild", name := "<init>", desc := "()V" } : Jvm.MethodName) "PartedSide") ∈ lw_tbl := lw_at lw_m2 143 rfl
theorem q495 : (Jvm.Cond.methodLink "PartedSide" (112 : Nat) ({ cls := "PartedSide$Barrack", name := "begins", desc := "(LPartedSide$Text;)V" } : Jvm.MethodName)) ∈ lw_all := lw_g (lw_at lw_m2 148 rfl) rfl
theorem q522 : (Jvm.Cond.fieldLink "PartedSide" (25 : Nat) "PartedSide" "fault" "LPartedSide$Fault;") ∈ lw_all := lw_g (lw_at lw_m2 175 rfl) rfl
theorem q523 : (Jvm.Cond.fieldLink "PartedSide" (32 : Nat) "PartedSide" "tokens" "LPartedSide$Tokens;") ∈ lw_all := lw_g (lw_at lw_m2 176 rfl) rfl
theorem q524 : (Jvm.Cond.fieldLink "PartedSide" (41 : Nat) "PartedSide" "parser" "LPartedSide$Parser;") ∈ lw_all := lw_g (lw_at lw_m2 177 rfl) rfl
theorem q525 : (Jvm.Cond.fieldLink "PartedSide" (48 : Nat) "PartedSide" "text" "LPartedSide$Text;") ∈ lw_all := lw_g (lw_at lw_m2 178 rfl) rfl
theorem q526 : (Jvm.Cond.fieldLink "PartedSide" (52 : Nat) "PartedSide" "place" "I") ∈ lw_all := lw_g (lw_at lw_m2 179 rfl) rfl
theorem q527 : (Jvm.Cond.fieldLink "PartedSide" (131 : Nat) "PartedSide" "undos" "I") ∈ lw_all := lw_g (lw_at lw_m2 180 rfl) rfl
theorem q528 : (Jvm.Cond.fieldLink "PartedSide" (190 : Nat) "PartedSide" "undoAt" "I") ∈ lw_all := lw_g (lw_at lw_m2 181 rfl) rfl
theorem q529 : (Jvm.Cond.fieldLink "PartedSide" (59 : Nat) "PartedSide" "barrack" "LPartedSide$Barrack;") ∈ lw_all := lw_g (lw_at lw_m2 182 rfl) rfl
theorem q530 : (Jvm.Cond.fieldLink "PartedSide" (63 : Nat) "PartedSide" "trial" "LPartedSide$Barrack;") ∈ lw_all := lw_g (lw_at lw_m2 183 rfl) rfl
theorem q531 : (Jvm.Cond.fieldLink "PartedSide" (66 : Nat) "PartedSide" "past" "[LPartedSide$Barrack;") ∈ lw_all := lw_g (lw_at lw_m2 184 rfl) rfl
theorem q532 : (Jvm.Cond.fieldLink "PartedSide" (70 : Nat) "PartedSide" "slots" "[LPartedSide$Barrack;") ∈ lw_all := lw_g (lw_at lw_m2 185 rfl) rfl
theorem q533 : (Jvm.Cond.fieldLink "PartedSide" (76 : Nat) "PartedSide" "drawn" "LPartedSide$Night;") ∈ lw_all := lw_g (lw_at lw_m2 186 rfl) rfl
theorem q534 : (Jvm.Cond.fieldLink "PartedSide" (83 : Nat) "PartedSide" "mild" "LPartedSide$Night;") ∈ lw_all := lw_g (lw_at lw_m2 187 rfl) rfl
theorem q535 : (Jvm.Cond.fieldLink "PartedSide" (86 : Nat) "PartedSide" "held" "[Z") ∈ lw_all := lw_g (lw_at lw_m2 188 rfl) rfl
theorem q536 : (Jvm.Cond.fieldLink "PartedSide" (90 : Nat) "PartedSide" "reached" "[Z") ∈ lw_all := lw_g (lw_at lw_m2 189 rfl) rfl
theorem q537 : (Jvm.Cond.fieldLink "PartedSide" (134 : Nat) "PartedSide" "tolds" "I") ∈ lw_all := lw_g (lw_at lw_m2 190 rfl) rfl
theorem q538 : (Jvm.Cond.fieldLink "PartedSide" (273 : Nat) "PartedSide" "many" "I") ∈ lw_all := lw_g (lw_at lw_m2 191 rfl) rfl
theorem q539 : (Jvm.Cond.fieldLink "PartedSide" (276 : Nat) "PartedSide" "least" "I") ∈ lw_all := lw_g (lw_at lw_m2 192 rfl) rfl
theorem q540 : (Jvm.Cond.fieldLink "PartedSide" (279 : Nat) "PartedSide" "inAll" "I") ∈ lw_all := lw_g (lw_at lw_m2 193 rfl) rfl
theorem q541 : (Jvm.Cond.fieldLink "PartedSide" (282 : Nat) "PartedSide" "inNone" "I") ∈ lw_all := lw_g (lw_at lw_m2 194 rfl) rfl
theorem q542 : (Jvm.Cond.fieldLink "PartedSide" (93 : Nat) "PartedSide" "toldBed" "[I") ∈ lw_all := lw_g (lw_at lw_m2 195 rfl) rfl
theorem q543 : (Jvm.Cond.fieldLink "PartedSide" (97 : Nat) "PartedSide" "toldIn" "[I") ∈ lw_all := lw_g (lw_at lw_m2 196 rfl) rfl
theorem q544 : (Jvm.Cond.fieldLink "PartedSide" (100 : Nat) "PartedSide" "rowIn" "[I") ∈ lw_all := lw_g (lw_at lw_m2 197 rfl) rfl
theorem q545 : (Jvm.Cond.fieldLink "PartedSide" (103 : Nat) "PartedSide" "toldLeft" "[Z") ∈ lw_all := lw_g (lw_at lw_m2 198 rfl) rfl
theorem q546 : (Jvm.Cond.fieldLink "PartedSide" (106 : Nat) "PartedSide" "may" "[Z") ∈ lw_all := lw_g (lw_at lw_m2 199 rfl) rfl
theorem q547 : (Jvm.Cond.fieldLink "PartedSide" (109 : Nat) "PartedSide" "leftMany" "[I") ∈ lw_all := lw_g (lw_at lw_m2 200 rfl) rfl
theorem q548 : (Jvm.Cond.laysFinal "PartedSide" "PartedSide" "fault" "LPartedSide$Fault;") ∈ lw_all := lw_g (lw_at lw_m2 201 rfl) rfl
theorem q549 : (Jvm.Cond.soleField "PartedSide" "fault") ∈ lw_all := lw_g (lw_at lw_m2 202 rfl) rfl
theorem q550 : (Jvm.Cond.laysFinal "PartedSide" "PartedSide" "tokens" "LPartedSide$Tokens;") ∈ lw_all := lw_g (lw_at lw_m2 203 rfl) rfl
theorem q551 : (Jvm.Cond.soleField "PartedSide" "tokens") ∈ lw_all := lw_g (lw_at lw_m2 204 rfl) rfl
theorem q552 : (Jvm.Cond.laysFinal "PartedSide" "PartedSide" "parser" "LPartedSide$Parser;") ∈ lw_all := lw_g (lw_at lw_m2 205 rfl) rfl
theorem q553 : (Jvm.Cond.soleField "PartedSide" "parser") ∈ lw_all := lw_g (lw_at lw_m2 206 rfl) rfl
theorem q554 : (Jvm.Cond.lays "PartedSide" "PartedSide" "text" "LPartedSide$Text;") ∈ lw_all := lw_g (lw_at lw_m2 207 rfl) rfl
theorem q555 : (Jvm.Cond.soleField "PartedSide" "text") ∈ lw_all := lw_g (lw_at lw_m2 208 rfl) rfl
theorem q556 : (Jvm.Cond.lays "PartedSide" "PartedSide" "place" "I") ∈ lw_all := lw_g (lw_at lw_m2 209 rfl) rfl
theorem q557 : (Jvm.Cond.soleField "PartedSide" "place") ∈ lw_all := lw_g (lw_at lw_m2 210 rfl) rfl
theorem q558 : (Jvm.Cond.lays "PartedSide" "PartedSide" "undos" "I") ∈ lw_all := lw_g (lw_at lw_m2 211 rfl) rfl
theorem q559 : (Jvm.Cond.soleField "PartedSide" "undos") ∈ lw_all := lw_g (lw_at lw_m2 212 rfl) rfl
theorem q560 : (Jvm.Cond.lays "PartedSide" "PartedSide" "undoAt" "I") ∈ lw_all := lw_g (lw_at lw_m2 213 rfl) rfl
theorem q561 : (Jvm.Cond.soleField "PartedSide" "undoAt") ∈ lw_all := lw_g (lw_at lw_m2 214 rfl) rfl
theorem q562 : (Jvm.Cond.laysFinal "PartedSide" "PartedSide" "barrack" "LPartedSide$Barrack;") ∈ lw_all := lw_g (lw_at lw_m2 215 rfl) rfl
theorem q563 : (Jvm.Cond.soleField "PartedSide" "barrack") ∈ lw_all := lw_g (lw_at lw_m2 216 rfl) rfl
theorem q564 : (Jvm.Cond.laysFinal "PartedSide" "PartedSide" "trial" "LPartedSide$Barrack;") ∈ lw_all := lw_g (lw_at lw_m2 217 rfl) rfl
theorem q565 : (Jvm.Cond.soleField "PartedSide" "trial") ∈ lw_all := lw_g (lw_at lw_m2 218 rfl) rfl
theorem q566 : (Jvm.Cond.laysFinal "PartedSide" "PartedSide" "past" "[LPartedSide$Barrack;") ∈ lw_all := lw_g (lw_at lw_m2 219 rfl) rfl
theorem q567 : (Jvm.Cond.soleField "PartedSide" "past") ∈ lw_all := lw_g (lw_at lw_m2 220 rfl) rfl
theorem q568 : (Jvm.Cond.laysFinal "PartedSide" "PartedSide" "slots" "[LPartedSide$Barrack;") ∈ lw_all := lw_g (lw_at lw_m2 221 rfl) rfl
theorem q569 : (Jvm.Cond.soleField "PartedSide" "slots") ∈ lw_all := lw_g (lw_at lw_m2 222 rfl) rfl
theorem q570 : (Jvm.Cond.laysFinal "PartedSide" "PartedSide" "drawn" "LPartedSide$Night;") ∈ lw_all := lw_g (lw_at lw_m2 223 rfl) rfl
theorem q571 : (Jvm.Cond.soleField "PartedSide" "drawn") ∈ lw_all := lw_g (lw_at lw_m2 224 rfl) rfl
theorem q572 : (Jvm.Cond.laysFinal "PartedSide" "PartedSide" "mild" "LPartedSide$Night;") ∈ lw_all := lw_g (lw_at lw_m2 225 rfl) rfl
theorem q573 : (Jvm.Cond.soleField "PartedSide" "mild") ∈ lw_all := lw_g (lw_at lw_m2 226 rfl) rfl
theorem q574 : (Jvm.Cond.laysFinal "PartedSide" "PartedSide" "held" "[Z") ∈ lw_all := lw_g (lw_at lw_m2 227 rfl) rfl
theorem q575 : (Jvm.Cond.soleField "PartedSide" "held") ∈ lw_all := lw_g (lw_at lw_m2 228 rfl) rfl
theorem q576 : (Jvm.Cond.laysFinal "PartedSide" "PartedSide" "reached" "[Z") ∈ lw_all := lw_g (lw_at lw_m2 229 rfl) rfl
theorem q577 : (Jvm.Cond.soleField "PartedSide" "reached") ∈ lw_all := lw_g (lw_at lw_m2 230 rfl) rfl
theorem q578 : (Jvm.Cond.lays "PartedSide" "PartedSide" "tolds" "I") ∈ lw_all := lw_g (lw_at lw_m2 231 rfl) rfl
theorem q579 : (Jvm.Cond.soleField "PartedSide" "tolds") ∈ lw_all := lw_g (lw_at lw_m2 232 rfl) rfl
theorem q580 : (Jvm.Cond.lays "PartedSide" "PartedSide" "many" "I") ∈ lw_all := lw_g (lw_at lw_m2 233 rfl) rfl
theorem q581 : (Jvm.Cond.soleField "PartedSide" "many") ∈ lw_all := lw_g (lw_at lw_m2 234 rfl) rfl
theorem q582 : (Jvm.Cond.lays "PartedSide" "PartedSide" "least" "I") ∈ lw_all := lw_g (lw_at lw_m2 235 rfl) rfl
theorem q583 : (Jvm.Cond.soleField "PartedSide" "least") ∈ lw_all := lw_g (lw_at lw_m2 236 rfl) rfl
theorem q584 : (Jvm.Cond.lays "PartedSide" "PartedSide" "inAll" "I") ∈ lw_all := lw_g (lw_at lw_m2 237 rfl) rfl
theorem q585 : (Jvm.Cond.soleField "PartedSide" "inAll") ∈ lw_all := lw_g (lw_at lw_m2 238 rfl) rfl
theorem q586 : (Jvm.Cond.lays "PartedSide" "PartedSide" "inNone" "I") ∈ lw_all := lw_g (lw_at lw_m2 239 rfl) rfl
theorem q587 : (Jvm.Cond.soleField "PartedSide" "inNone") ∈ lw_all := lw_g (lw_at lw_m3 0 rfl) rfl
theorem q588 : (Jvm.Cond.laysFinal "PartedSide" "PartedSide" "toldBed" "[I") ∈ lw_all := lw_g (lw_at lw_m3 1 rfl) rfl
theorem q589 : (Jvm.Cond.soleField "PartedSide" "toldBed") ∈ lw_all := lw_g (lw_at lw_m3 2 rfl) rfl
theorem q590 : (Jvm.Cond.laysFinal "PartedSide" "PartedSide" "toldIn" "[I") ∈ lw_all := lw_g (lw_at lw_m3 3 rfl) rfl
theorem q591 : (Jvm.Cond.soleField "PartedSide" "toldIn") ∈ lw_all := lw_g (lw_at lw_m3 4 rfl) rfl
theorem q592 : (Jvm.Cond.laysFinal "PartedSide" "PartedSide" "rowIn" "[I") ∈ lw_all := lw_g (lw_at lw_m3 5 rfl) rfl
theorem q593 : (Jvm.Cond.soleField "PartedSide" "rowIn") ∈ lw_all := lw_g (lw_at lw_m3 6 rfl) rfl
theorem q594 : (Jvm.Cond.laysFinal "PartedSide" "PartedSide" "toldLeft" "[Z") ∈ lw_all := lw_g (lw_at lw_m3 7 rfl) rfl
theorem q595 : (Jvm.Cond.soleField "PartedSide" "toldLeft") ∈ lw_all := lw_g (lw_at lw_m3 8 rfl) rfl
theorem q596 : (Jvm.Cond.laysFinal "PartedSide" "PartedSide" "may" "[Z") ∈ lw_all := lw_g (lw_at lw_m3 9 rfl) rfl
theorem q597 : (Jvm.Cond.soleField "PartedSide" "may") ∈ lw_all := lw_g (lw_at lw_m3 10 rfl) rfl
theorem q598 : (Jvm.Cond.laysFinal "PartedSide" "PartedSide" "leftMany" "[I") ∈ lw_all := lw_g (lw_at lw_m3 11 rfl) rfl
theorem q599 : (Jvm.Cond.soleField "PartedSide" "leftMany") ∈ lw_all := lw_g (lw_at lw_m3 12 rfl) rfl
theorem q600 : (Jvm.Cond.superclass "PartedSide" "java/lang/Object") ∈ lw_all := lw_g (lw_at lw_m3 13 rfl) rfl
theorem q603 : (Jvm.Cond.instanceMethod ({ cls := "PartedSide", name := "feed", desc := "(IIIII)I" } : Jvm.MethodName)) ∈ lw_all := lw_g (lw_at lw_m3 16 rfl) rfl
theorem q604 : (Jvm.Cond.selects "PartedSide" ({ cls := "PartedSide", name := "feed", desc := "(IIIII)I" } : Jvm.MethodName) ({ cls := "PartedSide", name := "feed", desc := "(IIIII)I" } : Jvm.MethodName)) ∈ lw_all := lw_g (lw_at lw_m3 17 rfl) rfl
theorem q605 : (Jvm.Cond.code ({ cls := "PartedSide", name := "feed", desc := "(IIIII)I" } : Jvm.MethodName) prog_1_method_5_code (6 : Nat) (Option.some Jvm.ClassFile.FieldType.int)) ∈ lw_all := lw_g (lw_at lw_m3 18 rfl) rfl
theorem q606 : (Jvm.Cond.methodLink "PartedSide" (119 : Nat) ({ cls := "PartedSide", name := "typed", desc := "(I)V" } : Jvm.MethodName)) ∈ lw_all := lw_g (lw_at lw_m3 19 rfl) rfl
theorem q607 : (Jvm.Cond.privateMethod ({ cls := "PartedSide", name := "typed", desc := "(I)V" } : Jvm.MethodName)) ∈ lw_tbl := lw_at lw_m3 20 rfl
theorem q608 : (Jvm.Cond.instanceMethod ({ cls := "PartedSide", name := "typed", desc := "(I)V" } : Jvm.MethodName)) ∈ lw_all := lw_g (lw_at lw_m3 21 rfl) rfl
theorem q609 : (Jvm.Cond.code ({ cls := "PartedSide", name := "typed", desc := "(I)V" } : Jvm.MethodName) prog_1_method_6_code (3 : Nat) (Option.none : Option Jvm.ClassFile.FieldType)) ∈ lw_all := lw_g (lw_at lw_m3 22 rfl) rfl
theorem q611 : (Jvm.Cond.instanceMethod ({ cls := "PartedSide", name := "back", desc := "(I)I" } : Jvm.MethodName)) ∈ lw_all := lw_g (lw_at lw_m3 24 rfl) rfl
theorem q612 : (Jvm.Cond.selects "PartedSide" ({ cls := "PartedSide", name := "back", desc := "(I)I" } : Jvm.MethodName) ({ cls := "PartedSide", name := "back", desc := "(I)I" } : Jvm.MethodName)) ∈ lw_all := lw_g (lw_at lw_m3 25 rfl) rfl
theorem q613 : (Jvm.Cond.code ({ cls := "PartedSide", name := "back", desc := "(I)I" } : Jvm.MethodName) prog_1_method_7_code (2 : Nat) (Option.some Jvm.ClassFile.FieldType.int)) ∈ lw_all := lw_g (lw_at lw_m3 26 rfl) rfl
theorem q615 : (Jvm.Cond.instanceMethod ({ cls := "PartedSide", name := "read", desc := "()I" } : Jvm.MethodName)) ∈ lw_all := lw_g (lw_at lw_m3 28 rfl) rfl
theorem q616 : (Jvm.Cond.selects "PartedSide" ({ cls := "PartedSide", name := "read", desc := "()I" } : Jvm.MethodName) ({ cls := "PartedSide", name := "read", desc := "()I" } : Jvm.MethodName)) ∈ lw_all := lw_g (lw_at lw_m3 29 rfl) rfl
theorem q617 : (Jvm.Cond.codeWith ({ cls := "PartedSide", name := "read", desc := "()I" } : Jvm.MethodName) prog_1_method_8_code (3 : Nat) (Option.some Jvm.ClassFile.FieldType.int) [((7 : Nat), (59 : Nat), (62 : Nat), (22 : Nat))]) ∈ lw_all := lw_g (lw_at lw_m3 30 rfl) rfl
theorem q618 : (Jvm.Cond.methodLink "PartedSide" (127 : Nat) ({ cls := "PartedSide$Parser", name := "read", desc := "()LPartedSide$Text;" } : Jvm.MethodName)) ∈ lw_all := lw_g (lw_at lw_m3 31 rfl) rfl
theorem q1065 : (Jvm.Cond.selects "PartedSide" ({ cls := "java/lang/Object", name := "getClass", desc := "()Ljava/lang/Class;" } : Jvm.MethodName) ({ cls := "java/lang/Object", name := "getClass", desc := "()Ljava/lang/Class;" } : Jvm.MethodName)) ∈ lw_all := lw_g (lw_at lw_m4 238 rfl) rfl
theorem q1099 : (Jvm.Cond.instanceMethod ({ cls := "PartedSide", name := "place", desc := "()I" } : Jvm.MethodName)) ∈ lw_all := lw_g (lw_at lw_m5 32 rfl) rfl
theorem q1100 : (Jvm.Cond.selects "PartedSide" ({ cls := "PartedSide", name := "place", desc := "()I" } : Jvm.MethodName) ({ cls := "PartedSide", name := "place", desc := "()I" } : Jvm.MethodName)) ∈ lw_all := lw_g (lw_at lw_m5 33 rfl) rfl
theorem q1101 : (Jvm.Cond.code ({ cls := "PartedSide", name := "place", desc := "()I" } : Jvm.MethodName) prog_1_method_9_code (1 : Nat) (Option.some Jvm.ClassFile.FieldType.int)) ∈ lw_all := lw_g (lw_at lw_m5 34 rfl) rfl
theorem q1103 : (Jvm.Cond.instanceMethod ({ cls := "PartedSide", name := "sleeper", desc := "(II)I" } : Jvm.MethodName)) ∈ lw_all := lw_g (lw_at lw_m5 36 rfl) rfl
theorem q1104 : (Jvm.Cond.selects "PartedSide" ({ cls := "PartedSide", name := "sleeper", desc := "(II)I" } : Jvm.MethodName) ({ cls := "PartedSide", name := "sleeper", desc := "(II)I" } : Jvm.MethodName)) ∈ lw_all := lw_g (lw_at lw_m5 37 rfl) rfl
theorem q1105 : (Jvm.Cond.code ({ cls := "PartedSide", name := "sleeper", desc := "(II)I" } : Jvm.MethodName) prog_1_method_18_code (3 : Nat) (Option.some Jvm.ClassFile.FieldType.int)) ∈ lw_all := lw_g (lw_at lw_m5 38 rfl) rfl
theorem q1106 : (Jvm.Cond.methodLink "PartedSide" (150 : Nat) ({ cls := "PartedSide", name := "isBed", desc := "(I)Z" } : Jvm.MethodName)) ∈ lw_all := lw_g (lw_at lw_m5 39 rfl) rfl
theorem q1107 : (Jvm.Cond.privateMethod ({ cls := "PartedSide", name := "isBed", desc := "(I)Z" } : Jvm.MethodName)) ∈ lw_tbl := lw_at lw_m5 40 rfl
theorem q1108 : (Jvm.Cond.instanceMethod ({ cls := "PartedSide", name := "isBed", desc := "(I)Z" } : Jvm.MethodName)) ∈ lw_all := lw_g (lw_at lw_m5 41 rfl) rfl
theorem q1109 : (Jvm.Cond.code ({ cls := "PartedSide", name := "isBed", desc := "(I)Z" } : Jvm.MethodName) prog_1_method_13_code (2 : Nat) (Option.some Jvm.ClassFile.FieldType.boolean)) ∈ lw_all := lw_g (lw_at lw_m5 42 rfl) rfl
theorem q1110 : (Jvm.Cond.methodLink "PartedSide" (145 : Nat) ({ cls := "PartedSide", name := "beds", desc := "()I" } : Jvm.MethodName)) ∈ lw_all := lw_g (lw_at lw_m5 43 rfl) rfl
theorem q1111 : (Jvm.Cond.privateMethod ({ cls := "PartedSide", name := "beds", desc := "()I" } : Jvm.MethodName)) ∈ lw_tbl := lw_at lw_m5 44 rfl
theorem q1112 : (Jvm.Cond.instanceMethod ({ cls := "PartedSide", name := "beds", desc := "()I" } : Jvm.MethodName)) ∈ lw_all := lw_g (lw_at lw_m5 45 rfl) rfl
theorem q1113 : (Jvm.Cond.code ({ cls := "PartedSide", name := "beds", desc := "()I" } : Jvm.MethodName) prog_1_method_11_code (1 : Nat) (Option.some Jvm.ClassFile.FieldType.int)) ∈ lw_all := lw_g (lw_at lw_m5 46 rfl) rfl
theorem q1114 : (Jvm.Cond.methodLink "PartedSide" (141 : Nat) ({ cls := "PartedSide$Text", name := "beds", desc := "()I" } : Jvm.MethodName)) ∈ lw_all := lw_g (lw_at lw_m5 47 rfl) rfl
theorem q1115 : (Jvm.Cond.methodLink "PartedSide" (146 : Nat) ({ cls := "PartedSide", name := "isIn", desc := "(III)Z" } : Jvm.MethodName)) ∈ lw_all := lw_g (lw_at lw_m5 48 rfl) rfl
theorem q1116 : (Jvm.Cond.static ({ cls := "PartedSide", name := "isIn", desc := "(III)Z" } : Jvm.MethodName)) ∈ lw_all := lw_g (lw_at lw_m5 49 rfl) rfl
theorem q1117 : (Jvm.Cond.code ({ cls := "PartedSide", name := "isIn", desc := "(III)Z" } : Jvm.MethodName) prog_1_method_10_code (3 : Nat) (Option.some Jvm.ClassFile.FieldType.boolean)) ∈ lw_all := lw_g (lw_at lw_m5 50 rfl) rfl
theorem q1118 : (Jvm.Cond.constant "PartedSide" (157 : Nat) (-100000 : Int32)) ∈ lw_all := lw_g (lw_at lw_m5 51 rfl) rfl
theorem q1119 : (Jvm.Cond.methodLink "PartedSide" (158 : Nat) ({ cls := "PartedSide$Barrack", name := "isLeft", desc := "(I)Z" } : Jvm.MethodName)) ∈ lw_all := lw_g (lw_at lw_m5 52 rfl) rfl
theorem q1123 : (Jvm.Cond.methodLink "PartedSide" (173 : Nat) ({ cls := "PartedSide$Barrack", name := "liesLeft", desc := "(LPartedSide$Text;I)Z" } : Jvm.MethodName)) ∈ lw_all := lw_g (lw_at lw_m5 56 rfl) rfl
theorem q1165 : (Jvm.Cond.methodLink "PartedSide" (177 : Nat) ({ cls := "PartedSide$Barrack", name := "parts", desc := "(LPartedSide$Text;I)I" } : Jvm.MethodName)) ∈ lw_all := lw_g (lw_at lw_m5 98 rfl) rfl
theorem q1170 : (Jvm.Cond.methodLink "PartedSide" (181 : Nat) ({ cls := "PartedSide$Barrack", name := "chills", desc := "(LPartedSide$Text;I)I" } : Jvm.MethodName)) ∈ lw_all := lw_g (lw_at lw_m5 103 rfl) rfl
theorem q1174 : (Jvm.Cond.methodLink "PartedSide" (184 : Nat) ({ cls := "PartedSide$Barrack", name := "costs", desc := "(LPartedSide$Text;I)I" } : Jvm.MethodName)) ∈ lw_all := lw_g (lw_at lw_m5 107 rfl) rfl
theorem q1179 : (Jvm.Cond.instanceMethod ({ cls := "PartedSide", name := "turn", desc := "(I)Z" } : Jvm.MethodName)) ∈ lw_all := lw_g (lw_at lw_m5 112 rfl) rfl
theorem q1180 : (Jvm.Cond.selects "PartedSide" ({ cls := "PartedSide", name := "turn", desc := "(I)Z" } : Jvm.MethodName) ({ cls := "PartedSide", name := "turn", desc := "(I)Z" } : Jvm.MethodName)) ∈ lw_all := lw_g (lw_at lw_m5 113 rfl) rfl
theorem q1181 : (Jvm.Cond.code ({ cls := "PartedSide", name := "turn", desc := "(I)Z" } : Jvm.MethodName) prog_1_method_20_code (2 : Nat) (Option.some Jvm.ClassFile.FieldType.boolean)) ∈ lw_all := lw_g (lw_at lw_m5 114 rfl) rfl
theorem q1182 : (Jvm.Cond.methodLink "PartedSide" (197 : Nat) ({ cls := "PartedSide", name := "keeps", desc := "()V" } : Jvm.MethodName)) ∈ lw_all := lw_g (lw_at lw_m5 115 rfl) rfl
theorem q1183 : (Jvm.Cond.privateMethod ({ cls := "PartedSide", name := "keeps", desc := "()V" } : Jvm.MethodName)) ∈ lw_tbl := lw_at lw_m5 116 rfl
theorem q1184 : (Jvm.Cond.instanceMethod ({ cls := "PartedSide", name := "keeps", desc := "()V" } : Jvm.MethodName)) ∈ lw_all := lw_g (lw_at lw_m5 117 rfl) rfl
theorem q1185 : (Jvm.Cond.code ({ cls := "PartedSide", name := "keeps", desc := "()V" } : Jvm.MethodName) prog_1_method_19_code (1 : Nat) (Option.none : Option Jvm.ClassFile.FieldType)) ∈ lw_all := lw_g (lw_at lw_m5 118 rfl) rfl
theorem q1186 : (Jvm.Cond.methodLink "PartedSide" (193 : Nat) ({ cls := "PartedSide$Barrack", name := "takes", desc := "(LPartedSide$Barrack;)V" } : Jvm.MethodName)) ∈ lw_all := lw_g (lw_at lw_m5 119 rfl) rfl
theorem q1194 : (Jvm.Cond.methodLink "PartedSide" (8 : Nat) ({ cls := "java/lang/Math", name := "min", desc := "(II)I" } : Jvm.MethodName)) ∈ lw_all := lw_g (lw_at lw_m5 127 rfl) rfl
theorem q1196 : (Jvm.Cond.instanceMethod ({ cls := "PartedSide", name := "whistle", desc := "()Z" } : Jvm.MethodName)) ∈ lw_all := lw_g (lw_at lw_m5 129 rfl) rfl
theorem q1197 : (Jvm.Cond.selects "PartedSide" ({ cls := "PartedSide", name := "whistle", desc := "()Z" } : Jvm.MethodName) ({ cls := "PartedSide", name := "whistle", desc := "()Z" } : Jvm.MethodName)) ∈ lw_all := lw_g (lw_at lw_m5 130 rfl) rfl
theorem q1198 : (Jvm.Cond.code ({ cls := "PartedSide", name := "whistle", desc := "()Z" } : Jvm.MethodName) prog_1_method_21_code (1 : Nat) (Option.some Jvm.ClassFile.FieldType.boolean)) ∈ lw_all := lw_g (lw_at lw_m5 131 rfl) rfl
theorem q1199 : (Jvm.Cond.methodLink "PartedSide" (154 : Nat) ({ cls := "PartedSide", name := "rows", desc := "()I" } : Jvm.MethodName)) ∈ lw_all := lw_g (lw_at lw_m5 132 rfl) rfl
theorem q1200 : (Jvm.Cond.privateMethod ({ cls := "PartedSide", name := "rows", desc := "()I" } : Jvm.MethodName)) ∈ lw_tbl := lw_at lw_m5 133 rfl
theorem q1201 : (Jvm.Cond.instanceMethod ({ cls := "PartedSide", name := "rows", desc := "()I" } : Jvm.MethodName)) ∈ lw_all := lw_g (lw_at lw_m5 134 rfl) rfl
theorem q1202 : (Jvm.Cond.code ({ cls := "PartedSide", name := "rows", desc := "()I" } : Jvm.MethodName) prog_1_method_12_code (1 : Nat) (Option.some Jvm.ClassFile.FieldType.int)) ∈ lw_all := lw_g (lw_at lw_m5 135 rfl) rfl
theorem q1204 : (Jvm.Cond.instanceMethod ({ cls := "PartedSide", name := "change", desc := "(II)Z" } : Jvm.MethodName)) ∈ lw_all := lw_g (lw_at lw_m5 137 rfl) rfl
theorem q1205 : (Jvm.Cond.selects "PartedSide" ({ cls := "PartedSide", name := "change", desc := "(II)Z" } : Jvm.MethodName) ({ cls := "PartedSide", name := "change", desc := "(II)Z" } : Jvm.MethodName)) ∈ lw_all := lw_g (lw_at lw_m5 138 rfl) rfl
theorem q1206 : (Jvm.Cond.code ({ cls := "PartedSide", name := "change", desc := "(II)Z" } : Jvm.MethodName) prog_1_method_22_code (3 : Nat) (Option.some Jvm.ClassFile.FieldType.boolean)) ∈ lw_all := lw_g (lw_at lw_m5 139 rfl) rfl
theorem q1207 : (Jvm.Cond.methodLink "PartedSide" (203 : Nat) ({ cls := "PartedSide", name := "isPair", desc := "(II)Z" } : Jvm.MethodName)) ∈ lw_all := lw_g (lw_at lw_m5 140 rfl) rfl
theorem q1208 : (Jvm.Cond.privateMethod ({ cls := "PartedSide", name := "isPair", desc := "(II)Z" } : Jvm.MethodName)) ∈ lw_tbl := lw_at lw_m5 141 rfl
theorem q1209 : (Jvm.Cond.instanceMethod ({ cls := "PartedSide", name := "isPair", desc := "(II)Z" } : Jvm.MethodName)) ∈ lw_all := lw_g (lw_at lw_m5 142 rfl) rfl
theorem q1210 : (Jvm.Cond.code ({ cls := "PartedSide", name := "isPair", desc := "(II)Z" } : Jvm.MethodName) prog_1_method_14_code (3 : Nat) (Option.some Jvm.ClassFile.FieldType.boolean)) ∈ lw_all := lw_g (lw_at lw_m5 143 rfl) rfl
theorem q1211 : (Jvm.Cond.methodLink "PartedSide" (207 : Nat) ({ cls := "PartedSide$Barrack", name := "change", desc := "(II)V" } : Jvm.MethodName)) ∈ lw_all := lw_g (lw_at lw_m5 144 rfl) rfl
theorem q1219 : (Jvm.Cond.instanceMethod ({ cls := "PartedSide", name := "hours", desc := "(I)I" } : Jvm.MethodName)) ∈ lw_all := lw_g (lw_at lw_m5 152 rfl) rfl
theorem q1220 : (Jvm.Cond.selects "PartedSide" ({ cls := "PartedSide", name := "hours", desc := "(I)I" } : Jvm.MethodName) ({ cls := "PartedSide", name := "hours", desc := "(I)I" } : Jvm.MethodName)) ∈ lw_all := lw_g (lw_at lw_m5 153 rfl) rfl
theorem q1221 : (Jvm.Cond.code ({ cls := "PartedSide", name := "hours", desc := "(I)I" } : Jvm.MethodName) prog_1_method_24_code (2 : Nat) (Option.some Jvm.ClassFile.FieldType.int)) ∈ lw_all := lw_g (lw_at lw_m5 154 rfl) rfl
theorem q1222 : (Jvm.Cond.methodLink "PartedSide" (215 : Nat) ({ cls := "PartedSide", name := "isAhead", desc := "(I)Z" } : Jvm.MethodName)) ∈ lw_all := lw_g (lw_at lw_m5 155 rfl) rfl
theorem q1223 : (Jvm.Cond.static ({ cls := "PartedSide", name := "isAhead", desc := "(I)Z" } : Jvm.MethodName)) ∈ lw_all := lw_g (lw_at lw_m5 156 rfl) rfl
theorem q1224 : (Jvm.Cond.code ({ cls := "PartedSide", name := "isAhead", desc := "(I)Z" } : Jvm.MethodName) prog_1_method_16_code (1 : Nat) (Option.some Jvm.ClassFile.FieldType.boolean)) ∈ lw_all := lw_g (lw_at lw_m5 157 rfl) rfl
theorem q1225 : (Jvm.Cond.methodLink "PartedSide" (218 : Nat) ({ cls := "PartedSide", name := "runs", desc := "(LPartedSide$Barrack;ILPartedSide$Night;)V" } : Jvm.MethodName)) ∈ lw_all := lw_g (lw_at lw_m5 158 rfl) rfl
theorem q1226 : (Jvm.Cond.privateMethod ({ cls := "PartedSide", name := "runs", desc := "(LPartedSide$Barrack;ILPartedSide$Night;)V" } : Jvm.MethodName)) ∈ lw_tbl := lw_at lw_m5 159 rfl
theorem q1227 : (Jvm.Cond.instanceMethod ({ cls := "PartedSide", name := "runs", desc := "(LPartedSide$Barrack;ILPartedSide$Night;)V" } : Jvm.MethodName)) ∈ lw_all := lw_g (lw_at lw_m5 160 rfl) rfl
theorem q1228 : (Jvm.Cond.code ({ cls := "PartedSide", name := "runs", desc := "(LPartedSide$Barrack;ILPartedSide$Night;)V" } : Jvm.MethodName) prog_1_method_23_code (5 : Nat) (Option.none : Option Jvm.ClassFile.FieldType)) ∈ lw_all := lw_g (lw_at lw_m5 161 rfl) rfl
theorem q1229 : (Jvm.Cond.methodLink "PartedSide" (211 : Nat) ({ cls := "PartedSide$Barrack", name := "goesBy", desc := "(LPartedSide$Text;LPartedSide$Night;)V" } : Jvm.MethodName)) ∈ lw_all := lw_g (lw_at lw_m5 162 rfl) rfl
theorem q1246 : (Jvm.Cond.static ({ cls := "PartedSide", name := "lot", desc := "(III)I" } : Jvm.MethodName)) ∈ lw_all := lw_g (lw_at lw_m5 179 rfl) rfl
theorem q1247 : (Jvm.Cond.code ({ cls := "PartedSide", name := "lot", desc := "(III)I" } : Jvm.MethodName) prog_1_method_2_code (3 : Nat) (Option.some Jvm.ClassFile.FieldType.int)) ∈ lw_all := lw_g (lw_at lw_m5 180 rfl) rfl
theorem q1248 : (Jvm.Cond.methodLink "PartedSide" (2 : Nat) ({ cls := "PartedSide", name := "mixed", desc := "(II)I" } : Jvm.MethodName)) ∈ lw_all := lw_g (lw_at lw_m5 181 rfl) rfl
theorem q1249 : (Jvm.Cond.static ({ cls := "PartedSide", name := "mixed", desc := "(II)I" } : Jvm.MethodName)) ∈ lw_all := lw_g (lw_at lw_m5 182 rfl) rfl
theorem q1250 : (Jvm.Cond.code ({ cls := "PartedSide", name := "mixed", desc := "(II)I" } : Jvm.MethodName) prog_1_method_1_code (3 : Nat) (Option.some Jvm.ClassFile.FieldType.int)) ∈ lw_all := lw_g (lw_at lw_m5 183 rfl) rfl
theorem q1251 : (Jvm.Cond.constant "PartedSide" (1 : Nat) (1103515245 : Int32)) ∈ lw_all := lw_g (lw_at lw_m5 184 rfl) rfl
theorem q1257 : (Jvm.Cond.static ({ cls := "PartedSide", name := "within", desc := "(III)I" } : Jvm.MethodName)) ∈ lw_all := lw_g (lw_at lw_m5 190 rfl) rfl
theorem q1258 : (Jvm.Cond.code ({ cls := "PartedSide", name := "within", desc := "(III)I" } : Jvm.MethodName) prog_1_method_3_code (3 : Nat) (Option.some Jvm.ClassFile.FieldType.int)) ∈ lw_all := lw_g (lw_at lw_m5 191 rfl) rfl
theorem q1259 : (Jvm.Cond.methodLink "PartedSide" (13 : Nat) ({ cls := "java/lang/Math", name := "max", desc := "(II)I" } : Jvm.MethodName)) ∈ lw_all := lw_g (lw_at lw_m5 192 rfl) rfl
theorem q1261 : (Jvm.Cond.instanceMethod ({ cls := "PartedSide", name := "undo", desc := "()Z" } : Jvm.MethodName)) ∈ lw_all := lw_g (lw_at lw_m5 194 rfl) rfl
theorem q1262 : (Jvm.Cond.selects "PartedSide" ({ cls := "PartedSide", name := "undo", desc := "()Z" } : Jvm.MethodName) ({ cls := "PartedSide", name := "undo", desc := "()Z" } : Jvm.MethodName)) ∈ lw_all := lw_g (lw_at lw_m5 195 rfl) rfl
theorem q1263 : (Jvm.Cond.code ({ cls := "PartedSide", name := "undo", desc := "()Z" } : Jvm.MethodName) prog_1_method_25_code (1 : Nat) (Option.some Jvm.ClassFile.FieldType.boolean)) ∈ lw_all := lw_g (lw_at lw_m5 196 rfl) rfl
theorem q1265 : (Jvm.Cond.instanceMethod ({ cls := "PartedSide", name := "after", desc := "(II)I" } : Jvm.MethodName)) ∈ lw_all := lw_g (lw_at lw_m5 198 rfl) rfl
theorem q1266 : (Jvm.Cond.selects "PartedSide" ({ cls := "PartedSide", name := "after", desc := "(II)I" } : Jvm.MethodName) ({ cls := "PartedSide", name := "after", desc := "(II)I" } : Jvm.MethodName)) ∈ lw_all := lw_g (lw_at lw_m5 199 rfl) rfl
theorem q1267 : (Jvm.Cond.code ({ cls := "PartedSide", name := "after", desc := "(II)I" } : Jvm.MethodName) prog_1_method_27_code (3 : Nat) (Option.some Jvm.ClassFile.FieldType.int)) ∈ lw_all := lw_g (lw_at lw_m5 200 rfl) rfl
theorem q1268 : (Jvm.Cond.methodLink "PartedSide" (225 : Nat) ({ cls := "PartedSide", name := "isRow", desc := "(I)Z" } : Jvm.MethodName)) ∈ lw_all := lw_g (lw_at lw_m5 201 rfl) rfl
theorem q1269 : (Jvm.Cond.privateMethod ({ cls := "PartedSide", name := "isRow", desc := "(I)Z" } : Jvm.MethodName)) ∈ lw_tbl := lw_at lw_m5 202 rfl
theorem q1270 : (Jvm.Cond.instanceMethod ({ cls := "PartedSide", name := "isRow", desc := "(I)Z" } : Jvm.MethodName)) ∈ lw_all := lw_g (lw_at lw_m5 203 rfl) rfl
theorem q1271 : (Jvm.Cond.code ({ cls := "PartedSide", name := "isRow", desc := "(I)Z" } : Jvm.MethodName) prog_1_method_15_code (2 : Nat) (Option.some Jvm.ClassFile.FieldType.boolean)) ∈ lw_all := lw_g (lw_at lw_m5 204 rfl) rfl
theorem q1272 : (Jvm.Cond.methodLink "PartedSide" (228 : Nat) ({ cls := "PartedSide", name := "rowAfter", desc := "(II)I" } : Jvm.MethodName)) ∈ lw_all := lw_g (lw_at lw_m5 205 rfl) rfl
theorem q1273 : (Jvm.Cond.privateMethod ({ cls := "PartedSide", name := "rowAfter", desc := "(II)I" } : Jvm.MethodName)) ∈ lw_tbl := lw_at lw_m5 206 rfl
theorem q1274 : (Jvm.Cond.instanceMethod ({ cls := "PartedSide", name := "rowAfter", desc := "(II)I" } : Jvm.MethodName)) ∈ lw_all := lw_g (lw_at lw_m5 207 rfl) rfl
theorem q1275 : (Jvm.Cond.code ({ cls := "PartedSide", name := "rowAfter", desc := "(II)I" } : Jvm.MethodName) prog_1_method_26_code (3 : Nat) (Option.some Jvm.ClassFile.FieldType.int)) ∈ lw_all := lw_g (lw_at lw_m5 208 rfl) rfl
theorem q1277 : (Jvm.Cond.instanceMethod ({ cls := "PartedSide", name := "turned", desc := "(II)I" } : Jvm.MethodName)) ∈ lw_all := lw_g (lw_at lw_m5 210 rfl) rfl
theorem q1278 : (Jvm.Cond.selects "PartedSide" ({ cls := "PartedSide", name := "turned", desc := "(II)I" } : Jvm.MethodName) ({ cls := "PartedSide", name := "turned", desc := "(II)I" } : Jvm.MethodName)) ∈ lw_all := lw_g (lw_at lw_m5 211 rfl) rfl
theorem q1279 : (Jvm.Cond.code ({ cls := "PartedSide", name := "turned", desc := "(II)I" } : Jvm.MethodName) prog_1_method_29_code (7 : Nat) (Option.some Jvm.ClassFile.FieldType.int)) ∈ lw_all := lw_g (lw_at lw_m5 212 rfl) rfl
theorem q1280 : (Jvm.Cond.methodLink "PartedSide" (231 : Nat) ({ cls := "PartedSide", name := "isPlan", desc := "(I)Z" } : Jvm.MethodName)) ∈ lw_all := lw_g (lw_at lw_m5 213 rfl) rfl
theorem q1281 : (Jvm.Cond.static ({ cls := "PartedSide", name := "isPlan", desc := "(I)Z" } : Jvm.MethodName)) ∈ lw_all := lw_g (lw_at lw_m5 214 rfl) rfl
theorem q1282 : (Jvm.Cond.code ({ cls := "PartedSide", name := "isPlan", desc := "(I)Z" } : Jvm.MethodName) prog_1_method_17_code (1 : Nat) (Option.some Jvm.ClassFile.FieldType.boolean)) ∈ lw_all := lw_g (lw_at lw_m5 215 rfl) rfl
theorem q1283 : (Jvm.Cond.constant "PartedSide" (234 : Nat) (1000000 : Int32)) ∈ lw_all := lw_g (lw_at lw_m5 216 rfl) rfl
theorem q1284 : (Jvm.Cond.methodLink "PartedSide" (235 : Nat) ({ cls := "PartedSide", name := "costsOf", desc := "(I)I" } : Jvm.MethodName)) ∈ lw_all := lw_g (lw_at lw_m5 217 rfl) rfl
theorem q1285 : (Jvm.Cond.privateMethod ({ cls := "PartedSide", name := "costsOf", desc := "(I)I" } : Jvm.MethodName)) ∈ lw_tbl := lw_at lw_m5 218 rfl
theorem q1286 : (Jvm.Cond.instanceMethod ({ cls := "PartedSide", name := "costsOf", desc := "(I)I" } : Jvm.MethodName)) ∈ lw_all := lw_g (lw_at lw_m5 219 rfl) rfl
theorem q1287 : (Jvm.Cond.code ({ cls := "PartedSide", name := "costsOf", desc := "(I)I" } : Jvm.MethodName) prog_1_method_28_code (4 : Nat) (Option.some Jvm.ClassFile.FieldType.int)) ∈ lw_all := lw_g (lw_at lw_m5 220 rfl) rfl
theorem q1288 : (Jvm.Cond.methodLink "PartedSide" (239 : Nat) ({ cls := "java/lang/Integer", name := "bitCount", desc := "(I)I" } : Jvm.MethodName)) ∈ lw_all := lw_g (lw_at lw_m5 221 rfl) rfl
theorem q1295 : (Jvm.Cond.instanceMethod ({ cls := "PartedSide", name := "soonest", desc := "(I)I" } : Jvm.MethodName)) ∈ lw_all := lw_g (lw_at lw_m5 228 rfl) rfl
theorem q1296 : (Jvm.Cond.selects "PartedSide" ({ cls := "PartedSide", name := "soonest", desc := "(I)I" } : Jvm.MethodName) ({ cls := "PartedSide", name := "soonest", desc := "(I)I" } : Jvm.MethodName)) ∈ lw_all := lw_g (lw_at lw_m5 229 rfl) rfl
theorem q1297 : (Jvm.Cond.code ({ cls := "PartedSide", name := "soonest", desc := "(I)I" } : Jvm.MethodName) prog_1_method_31_code (4 : Nat) (Option.some Jvm.ClassFile.FieldType.int)) ∈ lw_all := lw_g (lw_at lw_m5 230 rfl) rfl
theorem q1298 : (Jvm.Cond.methodLink "PartedSide" (244 : Nat) ({ cls := "PartedSide", name := "oneFor", desc := "(I)I" } : Jvm.MethodName)) ∈ lw_all := lw_g (lw_at lw_m5 231 rfl) rfl
theorem q1299 : (Jvm.Cond.privateMethod ({ cls := "PartedSide", name := "oneFor", desc := "(I)I" } : Jvm.MethodName)) ∈ lw_tbl := lw_at lw_m5 232 rfl
theorem q1300 : (Jvm.Cond.instanceMethod ({ cls := "PartedSide", name := "oneFor", desc := "(I)I" } : Jvm.MethodName)) ∈ lw_all := lw_g (lw_at lw_m5 233 rfl) rfl
theorem q1301 : (Jvm.Cond.code ({ cls := "PartedSide", name := "oneFor", desc := "(I)I" } : Jvm.MethodName) prog_1_method_30_code (3 : Nat) (Option.some Jvm.ClassFile.FieldType.int)) ∈ lw_all := lw_g (lw_at lw_m5 234 rfl) rfl
theorem q1303 : (Jvm.Cond.instanceMethod ({ cls := "PartedSide", name := "spread", desc := "(II)I" } : Jvm.MethodName)) ∈ lw_all := lw_g (lw_at lw_m5 236 rfl) rfl
theorem q1304 : (Jvm.Cond.selects "PartedSide" ({ cls := "PartedSide", name := "spread", desc := "(II)I" } : Jvm.MethodName) ({ cls := "PartedSide", name := "spread", desc := "(II)I" } : Jvm.MethodName)) ∈ lw_all := lw_g (lw_at lw_m5 237 rfl) rfl
theorem q1305 : (Jvm.Cond.code ({ cls := "PartedSide", name := "spread", desc := "(II)I" } : Jvm.MethodName) prog_1_method_32_code (3 : Nat) (Option.some Jvm.ClassFile.FieldType.int)) ∈ lw_all := lw_g (lw_at lw_m5 238 rfl) rfl
theorem q1307 : (Jvm.Cond.instanceMethod ({ cls := "PartedSide", name := "leads", desc := "(III)I" } : Jvm.MethodName)) ∈ lw_all := lw_g (lw_at lw_m6 0 rfl) rfl
theorem q1308 : (Jvm.Cond.selects "PartedSide" ({ cls := "PartedSide", name := "leads", desc := "(III)I" } : Jvm.MethodName) ({ cls := "PartedSide", name := "leads", desc := "(III)I" } : Jvm.MethodName)) ∈ lw_all := lw_g (lw_at lw_m6 1 rfl) rfl
theorem q1309 : (Jvm.Cond.code ({ cls := "PartedSide", name := "leads", desc := "(III)I" } : Jvm.MethodName) prog_1_method_33_code (7 : Nat) (Option.some Jvm.ClassFile.FieldType.int)) ∈ lw_all := lw_g (lw_at lw_m6 2 rfl) rfl
theorem q1311 : (Jvm.Cond.instanceMethod ({ cls := "PartedSide", name := "turnTo", desc := "(II)I" } : Jvm.MethodName)) ∈ lw_all := lw_g (lw_at lw_m6 4 rfl) rfl
theorem q1312 : (Jvm.Cond.selects "PartedSide" ({ cls := "PartedSide", name := "turnTo", desc := "(II)I" } : Jvm.MethodName) ({ cls := "PartedSide", name := "turnTo", desc := "(II)I" } : Jvm.MethodName)) ∈ lw_all := lw_g (lw_at lw_m6 5 rfl) rfl
theorem q1313 : (Jvm.Cond.code ({ cls := "PartedSide", name := "turnTo", desc := "(II)I" } : Jvm.MethodName) prog_1_method_34_code (5 : Nat) (Option.some Jvm.ClassFile.FieldType.int)) ∈ lw_all := lw_g (lw_at lw_m6 6 rfl) rfl
theorem q1315 : (Jvm.Cond.instanceMethod ({ cls := "PartedSide", name := "round", desc := "(II)I" } : Jvm.MethodName)) ∈ lw_all := lw_g (lw_at lw_m6 8 rfl) rfl
theorem q1316 : (Jvm.Cond.selects "PartedSide" ({ cls := "PartedSide", name := "round", desc := "(II)I" } : Jvm.MethodName) ({ cls := "PartedSide", name := "round", desc := "(II)I" } : Jvm.MethodName)) ∈ lw_all := lw_g (lw_at lw_m6 9 rfl) rfl
theorem q1317 : (Jvm.Cond.code ({ cls := "PartedSide", name := "round", desc := "(II)I" } : Jvm.MethodName) prog_1_method_35_code (7 : Nat) (Option.some Jvm.ClassFile.FieldType.int)) ∈ lw_all := lw_g (lw_at lw_m6 10 rfl) rfl
theorem q1319 : (Jvm.Cond.instanceMethod ({ cls := "PartedSide", name := "rule", desc := "(I)I" } : Jvm.MethodName)) ∈ lw_all := lw_g (lw_at lw_m6 12 rfl) rfl
theorem q1320 : (Jvm.Cond.selects "PartedSide" ({ cls := "PartedSide", name := "rule", desc := "(I)I" } : Jvm.MethodName) ({ cls := "PartedSide", name := "rule", desc := "(I)I" } : Jvm.MethodName)) ∈ lw_all := lw_g (lw_at lw_m6 13 rfl) rfl
theorem q1321 : (Jvm.Cond.code ({ cls := "PartedSide", name := "rule", desc := "(I)I" } : Jvm.MethodName) prog_1_method_36_code (4 : Nat) (Option.some Jvm.ClassFile.FieldType.int)) ∈ lw_all := lw_g (lw_at lw_m6 14 rfl) rfl
theorem q1322 : (Jvm.Cond.methodLink "PartedSide" (247 : Nat) ({ cls := "PartedSide$Barrack", name := "liesIn", desc := "(LPartedSide$Text;IIII)Z" } : Jvm.MethodName)) ∈ lw_all := lw_g (lw_at lw_m6 15 rfl) rfl
theorem q1327 : (Jvm.Cond.instanceMethod ({ cls := "PartedSide", name := "coldest", desc := "(I)I" } : Jvm.MethodName)) ∈ lw_all := lw_g (lw_at lw_m6 20 rfl) rfl
theorem q1328 : (Jvm.Cond.selects "PartedSide" ({ cls := "PartedSide", name := "coldest", desc := "(I)I" } : Jvm.MethodName) ({ cls := "PartedSide", name := "coldest", desc := "(I)I" } : Jvm.MethodName)) ∈ lw_all := lw_g (lw_at lw_m6 21 rfl) rfl
theorem q1329 : (Jvm.Cond.code ({ cls := "PartedSide", name := "coldest", desc := "(I)I" } : Jvm.MethodName) prog_1_method_37_code (7 : Nat) (Option.some Jvm.ClassFile.FieldType.int)) ∈ lw_all := lw_g (lw_at lw_m6 22 rfl) rfl
theorem q1331 : (Jvm.Cond.instanceMethod ({ cls := "PartedSide", name := "run", desc := "(I)I" } : Jvm.MethodName)) ∈ lw_all := lw_g (lw_at lw_m6 24 rfl) rfl
theorem q1332 : (Jvm.Cond.selects "PartedSide" ({ cls := "PartedSide", name := "run", desc := "(I)I" } : Jvm.MethodName) ({ cls := "PartedSide", name := "run", desc := "(I)I" } : Jvm.MethodName)) ∈ lw_all := lw_g (lw_at lw_m6 25 rfl) rfl
theorem q1333 : (Jvm.Cond.code ({ cls := "PartedSide", name := "run", desc := "(I)I" } : Jvm.MethodName) prog_1_method_39_code (6 : Nat) (Option.some Jvm.ClassFile.FieldType.int)) ∈ lw_all := lw_g (lw_at lw_m6 26 rfl) rfl
theorem q1334 : (Jvm.Cond.methodLink "PartedSide" (254 : Nat) ({ cls := "PartedSide", name := "runFrom", desc := "(I)I" } : Jvm.MethodName)) ∈ lw_all := lw_g (lw_at lw_m6 27 rfl) rfl
theorem q1335 : (Jvm.Cond.privateMethod ({ cls := "PartedSide", name := "runFrom", desc := "(I)I" } : Jvm.MethodName)) ∈ lw_tbl := lw_at lw_m6 28 rfl
theorem q1336 : (Jvm.Cond.instanceMethod ({ cls := "PartedSide", name := "runFrom", desc := "(I)I" } : Jvm.MethodName)) ∈ lw_all := lw_g (lw_at lw_m6 29 rfl) rfl
theorem q1337 : (Jvm.Cond.code ({ cls := "PartedSide", name := "runFrom", desc := "(I)I" } : Jvm.MethodName) prog_1_method_38_code (4 : Nat) (Option.some Jvm.ClassFile.FieldType.int)) ∈ lw_all := lw_g (lw_at lw_m6 30 rfl) rfl
theorem q1339 : (Jvm.Cond.instanceMethod ({ cls := "PartedSide", name := "unlike", desc := "()I" } : Jvm.MethodName)) ∈ lw_all := lw_g (lw_at lw_m6 32 rfl) rfl
theorem q1340 : (Jvm.Cond.selects "PartedSide" ({ cls := "PartedSide", name := "unlike", desc := "()I" } : Jvm.MethodName) ({ cls := "PartedSide", name := "unlike", desc := "()I" } : Jvm.MethodName)) ∈ lw_all := lw_g (lw_at lw_m6 33 rfl) rfl
theorem q1341 : (Jvm.Cond.code ({ cls := "PartedSide", name := "unlike", desc := "()I" } : Jvm.MethodName) prog_1_method_40_code (3 : Nat) (Option.some Jvm.ClassFile.FieldType.int)) ∈ lw_all := lw_g (lw_at lw_m6 34 rfl) rfl
theorem q1342 : (Jvm.Cond.methodLink "PartedSide" (257 : Nat) ({ cls := "PartedSide$Barrack", name := "areUnlike", desc := "(LPartedSide$Text;I)Z" } : Jvm.MethodName)) ∈ lw_all := lw_g (lw_at lw_m6 35 rfl) rfl
theorem q1347 : (Jvm.Cond.instanceMethod ({ cls := "PartedSide", name := "eden", desc := "(I)I" } : Jvm.MethodName)) ∈ lw_all := lw_g (lw_at lw_m6 40 rfl) rfl
theorem q1348 : (Jvm.Cond.selects "PartedSide" ({ cls := "PartedSide", name := "eden", desc := "(I)I" } : Jvm.MethodName) ({ cls := "PartedSide", name := "eden", desc := "(I)I" } : Jvm.MethodName)) ∈ lw_all := lw_g (lw_at lw_m6 41 rfl) rfl
theorem q1349 : (Jvm.Cond.code ({ cls := "PartedSide", name := "eden", desc := "(I)I" } : Jvm.MethodName) prog_1_method_41_code (4 : Nat) (Option.some Jvm.ClassFile.FieldType.int)) ∈ lw_all := lw_g (lw_at lw_m6 42 rfl) rfl
theorem q1351 : (Jvm.Cond.instanceMethod ({ cls := "PartedSide", name := "duel", desc := "(II)I" } : Jvm.MethodName)) ∈ lw_all := lw_g (lw_at lw_m6 44 rfl) rfl
theorem q1352 : (Jvm.Cond.selects "PartedSide" ({ cls := "PartedSide", name := "duel", desc := "(II)I" } : Jvm.MethodName) ({ cls := "PartedSide", name := "duel", desc := "(II)I" } : Jvm.MethodName)) ∈ lw_all := lw_g (lw_at lw_m6 45 rfl) rfl
theorem q1353 : (Jvm.Cond.code ({ cls := "PartedSide", name := "duel", desc := "(II)I" } : Jvm.MethodName) prog_1_method_43_code (7 : Nat) (Option.some Jvm.ClassFile.FieldType.int)) ∈ lw_all := lw_g (lw_at lw_m6 46 rfl) rfl
theorem q1354 : (Jvm.Cond.methodLink "PartedSide" (260 : Nat) ({ cls := "PartedSide", name := "mostOf", desc := "(II)I" } : Jvm.MethodName)) ∈ lw_all := lw_g (lw_at lw_m6 47 rfl) rfl
theorem q1355 : (Jvm.Cond.privateMethod ({ cls := "PartedSide", name := "mostOf", desc := "(II)I" } : Jvm.MethodName)) ∈ lw_tbl := lw_at lw_m6 48 rfl
theorem q1356 : (Jvm.Cond.instanceMethod ({ cls := "PartedSide", name := "mostOf", desc := "(II)I" } : Jvm.MethodName)) ∈ lw_all := lw_g (lw_at lw_m6 49 rfl) rfl
theorem q1357 : (Jvm.Cond.code ({ cls := "PartedSide", name := "mostOf", desc := "(II)I" } : Jvm.MethodName) prog_1_method_42_code (5 : Nat) (Option.some Jvm.ClassFile.FieldType.int)) ∈ lw_all := lw_g (lw_at lw_m6 50 rfl) rfl
theorem q1359 : (Jvm.Cond.instanceMethod ({ cls := "PartedSide", name := "sentry", desc := "(II)I" } : Jvm.MethodName)) ∈ lw_all := lw_g (lw_at lw_m6 52 rfl) rfl
theorem q1360 : (Jvm.Cond.selects "PartedSide" ({ cls := "PartedSide", name := "sentry", desc := "(II)I" } : Jvm.MethodName) ({ cls := "PartedSide", name := "sentry", desc := "(II)I" } : Jvm.MethodName)) ∈ lw_all := lw_g (lw_at lw_m6 53 rfl) rfl
theorem q1361 : (Jvm.Cond.code ({ cls := "PartedSide", name := "sentry", desc := "(II)I" } : Jvm.MethodName) prog_1_method_45_code (7 : Nat) (Option.some Jvm.ClassFile.FieldType.int)) ∈ lw_all := lw_g (lw_at lw_m6 54 rfl) rfl
theorem q1362 : (Jvm.Cond.methodLink "PartedSide" (263 : Nat) ({ cls := "PartedSide", name := "worstBut", desc := "(II)I" } : Jvm.MethodName)) ∈ lw_all := lw_g (lw_at lw_m6 55 rfl) rfl
theorem q1363 : (Jvm.Cond.privateMethod ({ cls := "PartedSide", name := "worstBut", desc := "(II)I" } : Jvm.MethodName)) ∈ lw_tbl := lw_at lw_m6 56 rfl
theorem q1364 : (Jvm.Cond.instanceMethod ({ cls := "PartedSide", name := "worstBut", desc := "(II)I" } : Jvm.MethodName)) ∈ lw_all := lw_g (lw_at lw_m6 57 rfl) rfl
theorem q1365 : (Jvm.Cond.code ({ cls := "PartedSide", name := "worstBut", desc := "(II)I" } : Jvm.MethodName) prog_1_method_44_code (5 : Nat) (Option.some Jvm.ClassFile.FieldType.int)) ∈ lw_all := lw_g (lw_at lw_m6 58 rfl) rfl
theorem q1367 : (Jvm.Cond.instanceMethod ({ cls := "PartedSide", name := "parting", desc := "(I)I" } : Jvm.MethodName)) ∈ lw_all := lw_g (lw_at lw_m6 60 rfl) rfl
theorem q1368 : (Jvm.Cond.selects "PartedSide" ({ cls := "PartedSide", name := "parting", desc := "(I)I" } : Jvm.MethodName) ({ cls := "PartedSide", name := "parting", desc := "(I)I" } : Jvm.MethodName)) ∈ lw_all := lw_g (lw_at lw_m6 61 rfl) rfl
theorem q1369 : (Jvm.Cond.code ({ cls := "PartedSide", name := "parting", desc := "(I)I" } : Jvm.MethodName) prog_1_method_46_code (4 : Nat) (Option.some Jvm.ClassFile.FieldType.int)) ∈ lw_all := lw_g (lw_at lw_m6 62 rfl) rfl
theorem q1371 : (Jvm.Cond.instanceMethod ({ cls := "PartedSide", name := "shows", desc := "(I)I" } : Jvm.MethodName)) ∈ lw_all := lw_g (lw_at lw_m6 64 rfl) rfl
theorem q1372 : (Jvm.Cond.selects "PartedSide" ({ cls := "PartedSide", name := "shows", desc := "(I)I" } : Jvm.MethodName) ({ cls := "PartedSide", name := "shows", desc := "(I)I" } : Jvm.MethodName)) ∈ lw_all := lw_g (lw_at lw_m6 65 rfl) rfl
theorem q1373 : (Jvm.Cond.code ({ cls := "PartedSide", name := "shows", desc := "(I)I" } : Jvm.MethodName) prog_1_method_47_code (4 : Nat) (Option.some Jvm.ClassFile.FieldType.int)) ∈ lw_all := lw_g (lw_at lw_m6 66 rfl) rfl
theorem q1375 : (Jvm.Cond.instanceMethod ({ cls := "PartedSide", name := "still", desc := "(I)I" } : Jvm.MethodName)) ∈ lw_all := lw_g (lw_at lw_m6 68 rfl) rfl
theorem q1376 : (Jvm.Cond.selects "PartedSide" ({ cls := "PartedSide", name := "still", desc := "(I)I" } : Jvm.MethodName) ({ cls := "PartedSide", name := "still", desc := "(I)I" } : Jvm.MethodName)) ∈ lw_all := lw_g (lw_at lw_m6 69 rfl) rfl
theorem q1377 : (Jvm.Cond.code ({ cls := "PartedSide", name := "still", desc := "(I)I" } : Jvm.MethodName) prog_1_method_48_code (7 : Nat) (Option.some Jvm.ClassFile.FieldType.int)) ∈ lw_all := lw_g (lw_at lw_m6 70 rfl) rfl
theorem q1379 : (Jvm.Cond.instanceMethod ({ cls := "PartedSide", name := "again", desc := "()I" } : Jvm.MethodName)) ∈ lw_all := lw_g (lw_at lw_m6 72 rfl) rfl
theorem q1380 : (Jvm.Cond.selects "PartedSide" ({ cls := "PartedSide", name := "again", desc := "()I" } : Jvm.MethodName) ({ cls := "PartedSide", name := "again", desc := "()I" } : Jvm.MethodName)) ∈ lw_all := lw_g (lw_at lw_m6 73 rfl) rfl
theorem q1381 : (Jvm.Cond.code ({ cls := "PartedSide", name := "again", desc := "()I" } : Jvm.MethodName) prog_1_method_49_code (2 : Nat) (Option.some Jvm.ClassFile.FieldType.int)) ∈ lw_all := lw_g (lw_at lw_m6 74 rfl) rfl
theorem q1383 : (Jvm.Cond.instanceMethod ({ cls := "PartedSide", name := "worst", desc := "(II)I" } : Jvm.MethodName)) ∈ lw_all := lw_g (lw_at lw_m6 76 rfl) rfl
theorem q1384 : (Jvm.Cond.selects "PartedSide" ({ cls := "PartedSide", name := "worst", desc := "(II)I" } : Jvm.MethodName) ({ cls := "PartedSide", name := "worst", desc := "(II)I" } : Jvm.MethodName)) ∈ lw_all := lw_g (lw_at lw_m6 77 rfl) rfl
theorem q1385 : (Jvm.Cond.code ({ cls := "PartedSide", name := "worst", desc := "(II)I" } : Jvm.MethodName) prog_1_method_50_code (7 : Nat) (Option.some Jvm.ClassFile.FieldType.int)) ∈ lw_all := lw_g (lw_at lw_m6 78 rfl) rfl
theorem q1387 : (Jvm.Cond.instanceMethod ({ cls := "PartedSide", name := "changeBest", desc := "(II)I" } : Jvm.MethodName)) ∈ lw_all := lw_g (lw_at lw_m6 80 rfl) rfl
theorem q1388 : (Jvm.Cond.selects "PartedSide" ({ cls := "PartedSide", name := "changeBest", desc := "(II)I" } : Jvm.MethodName) ({ cls := "PartedSide", name := "changeBest", desc := "(II)I" } : Jvm.MethodName)) ∈ lw_all := lw_g (lw_at lw_m6 81 rfl) rfl
theorem q1389 : (Jvm.Cond.code ({ cls := "PartedSide", name := "changeBest", desc := "(II)I" } : Jvm.MethodName) prog_1_method_52_code (8 : Nat) (Option.some Jvm.ClassFile.FieldType.int)) ∈ lw_all := lw_g (lw_at lw_m6 82 rfl) rfl
theorem q1390 : (Jvm.Cond.methodLink "PartedSide" (266 : Nat) ({ cls := "PartedSide", name := "leftIn", desc := "(I)I" } : Jvm.MethodName)) ∈ lw_all := lw_g (lw_at lw_m6 83 rfl) rfl
theorem q1391 : (Jvm.Cond.privateMethod ({ cls := "PartedSide", name := "leftIn", desc := "(I)I" } : Jvm.MethodName)) ∈ lw_tbl := lw_at lw_m6 84 rfl
theorem q1392 : (Jvm.Cond.instanceMethod ({ cls := "PartedSide", name := "leftIn", desc := "(I)I" } : Jvm.MethodName)) ∈ lw_all := lw_g (lw_at lw_m6 85 rfl) rfl
theorem q1393 : (Jvm.Cond.code ({ cls := "PartedSide", name := "leftIn", desc := "(I)I" } : Jvm.MethodName) prog_1_method_51_code (4 : Nat) (Option.some Jvm.ClassFile.FieldType.int)) ∈ lw_all := lw_g (lw_at lw_m6 86 rfl) rfl
theorem q1395 : (Jvm.Cond.instanceMethod ({ cls := "PartedSide", name := "leave", desc := "(I)I" } : Jvm.MethodName)) ∈ lw_all := lw_g (lw_at lw_m6 88 rfl) rfl
theorem q1396 : (Jvm.Cond.selects "PartedSide" ({ cls := "PartedSide", name := "leave", desc := "(I)I" } : Jvm.MethodName) ({ cls := "PartedSide", name := "leave", desc := "(I)I" } : Jvm.MethodName)) ∈ lw_all := lw_g (lw_at lw_m6 89 rfl) rfl
theorem q1397 : (Jvm.Cond.code ({ cls := "PartedSide", name := "leave", desc := "(I)I" } : Jvm.MethodName) prog_1_method_53_code (3 : Nat) (Option.some Jvm.ClassFile.FieldType.int)) ∈ lw_all := lw_g (lw_at lw_m6 90 rfl) rfl
theorem q1399 : (Jvm.Cond.instanceMethod ({ cls := "PartedSide", name := "then", desc := "(III)I" } : Jvm.MethodName)) ∈ lw_all := lw_g (lw_at lw_m6 92 rfl) rfl
theorem q1400 : (Jvm.Cond.selects "PartedSide" ({ cls := "PartedSide", name := "then", desc := "(III)I" } : Jvm.MethodName) ({ cls := "PartedSide", name := "then", desc := "(III)I" } : Jvm.MethodName)) ∈ lw_all := lw_g (lw_at lw_m6 93 rfl) rfl
theorem q1401 : (Jvm.Cond.code ({ cls := "PartedSide", name := "then", desc := "(III)I" } : Jvm.MethodName) prog_1_method_54_code (4 : Nat) (Option.some Jvm.ClassFile.FieldType.int)) ∈ lw_all := lw_g (lw_at lw_m6 94 rfl) rfl
theorem q1403 : (Jvm.Cond.instanceMethod ({ cls := "PartedSide", name := "year", desc := "(II)I" } : Jvm.MethodName)) ∈ lw_all := lw_g (lw_at lw_m6 96 rfl) rfl
theorem q1404 : (Jvm.Cond.selects "PartedSide" ({ cls := "PartedSide", name := "year", desc := "(II)I" } : Jvm.MethodName) ({ cls := "PartedSide", name := "year", desc := "(II)I" } : Jvm.MethodName)) ∈ lw_all := lw_g (lw_at lw_m6 97 rfl) rfl
theorem q1405 : (Jvm.Cond.code ({ cls := "PartedSide", name := "year", desc := "(II)I" } : Jvm.MethodName) prog_1_method_55_code (5 : Nat) (Option.some Jvm.ClassFile.FieldType.int)) ∈ lw_all := lw_g (lw_at lw_m6 98 rfl) rfl
theorem q1407 : (Jvm.Cond.instanceMethod ({ cls := "PartedSide", name := "tell", desc := "(IIZ)I" } : Jvm.MethodName)) ∈ lw_all := lw_g (lw_at lw_m6 100 rfl) rfl
theorem q1408 : (Jvm.Cond.selects "PartedSide" ({ cls := "PartedSide", name := "tell", desc := "(IIZ)I" } : Jvm.MethodName) ({ cls := "PartedSide", name := "tell", desc := "(IIZ)I" } : Jvm.MethodName)) ∈ lw_all := lw_g (lw_at lw_m6 101 rfl) rfl
theorem q1409 : (Jvm.Cond.code ({ cls := "PartedSide", name := "tell", desc := "(IIZ)I" } : Jvm.MethodName) prog_1_method_56_code (4 : Nat) (Option.some Jvm.ClassFile.FieldType.int)) ∈ lw_all := lw_g (lw_at lw_m6 102 rfl) rfl
theorem q1411 : (Jvm.Cond.instanceMethod ({ cls := "PartedSide", name := "forget", desc := "()I" } : Jvm.MethodName)) ∈ lw_all := lw_g (lw_at lw_m6 104 rfl) rfl
theorem q1412 : (Jvm.Cond.selects "PartedSide" ({ cls := "PartedSide", name := "forget", desc := "()I" } : Jvm.MethodName) ({ cls := "PartedSide", name := "forget", desc := "()I" } : Jvm.MethodName)) ∈ lw_all := lw_g (lw_at lw_m6 105 rfl) rfl
theorem q1413 : (Jvm.Cond.code ({ cls := "PartedSide", name := "forget", desc := "()I" } : Jvm.MethodName) prog_1_method_57_code (2 : Nat) (Option.some Jvm.ClassFile.FieldType.int)) ∈ lw_all := lw_g (lw_at lw_m6 106 rfl) rfl
theorem q1415 : (Jvm.Cond.instanceMethod ({ cls := "PartedSide", name := "lay", desc := "(II)I" } : Jvm.MethodName)) ∈ lw_all := lw_g (lw_at lw_m6 108 rfl) rfl
theorem q1416 : (Jvm.Cond.selects "PartedSide" ({ cls := "PartedSide", name := "lay", desc := "(II)I" } : Jvm.MethodName) ({ cls := "PartedSide", name := "lay", desc := "(II)I" } : Jvm.MethodName)) ∈ lw_all := lw_g (lw_at lw_m6 109 rfl) rfl
theorem q1417 : (Jvm.Cond.code ({ cls := "PartedSide", name := "lay", desc := "(II)I" } : Jvm.MethodName) prog_1_method_60_code (3 : Nat) (Option.some Jvm.ClassFile.FieldType.int)) ∈ lw_all := lw_g (lw_at lw_m6 110 rfl) rfl
theorem q1418 : (Jvm.Cond.methodLink "PartedSide" (288 : Nat) ({ cls := "PartedSide", name := "laysLay", desc := "(I)V" } : Jvm.MethodName)) ∈ lw_all := lw_g (lw_at lw_m6 111 rfl) rfl
theorem q1419 : (Jvm.Cond.privateMethod ({ cls := "PartedSide", name := "laysLay", desc := "(I)V" } : Jvm.MethodName)) ∈ lw_tbl := lw_at lw_m6 112 rfl
theorem q1420 : (Jvm.Cond.instanceMethod ({ cls := "PartedSide", name := "laysLay", desc := "(I)V" } : Jvm.MethodName)) ∈ lw_all := lw_g (lw_at lw_m6 113 rfl) rfl
theorem q1421 : (Jvm.Cond.code ({ cls := "PartedSide", name := "laysLay", desc := "(I)V" } : Jvm.MethodName) prog_1_method_59_code (3 : Nat) (Option.none : Option Jvm.ClassFile.FieldType)) ∈ lw_all := lw_g (lw_at lw_m6 114 rfl) rfl
theorem q1422 : (Jvm.Cond.methodLink "PartedSide" (285 : Nat) ({ cls := "PartedSide", name := "isSo", desc := "(II)Z" } : Jvm.MethodName)) ∈ lw_all := lw_g (lw_at lw_m6 115 rfl) rfl
theorem q1423 : (Jvm.Cond.privateMethod ({ cls := "PartedSide", name := "isSo", desc := "(II)Z" } : Jvm.MethodName)) ∈ lw_tbl := lw_at lw_m6 116 rfl
theorem q1424 : (Jvm.Cond.instanceMethod ({ cls := "PartedSide", name := "isSo", desc := "(II)Z" } : Jvm.MethodName)) ∈ lw_all := lw_g (lw_at lw_m6 117 rfl) rfl
theorem q1425 : (Jvm.Cond.code ({ cls := "PartedSide", name := "isSo", desc := "(II)Z" } : Jvm.MethodName) prog_1_method_58_code (4 : Nat) (Option.some Jvm.ClassFile.FieldType.boolean)) ∈ lw_all := lw_g (lw_at lw_m6 118 rfl) rfl
theorem q1427 : (Jvm.Cond.instanceMethod ({ cls := "PartedSide", name := "look", desc := "(II)I" } : Jvm.MethodName)) ∈ lw_all := lw_g (lw_at lw_m6 120 rfl) rfl
theorem q1428 : (Jvm.Cond.selects "PartedSide" ({ cls := "PartedSide", name := "look", desc := "(II)I" } : Jvm.MethodName) ({ cls := "PartedSide", name := "look", desc := "(II)I" } : Jvm.MethodName)) ∈ lw_all := lw_g (lw_at lw_m6 121 rfl) rfl
theorem q1429 : (Jvm.Cond.code ({ cls := "PartedSide", name := "look", desc := "(II)I" } : Jvm.MethodName) prog_1_method_61_code (8 : Nat) (Option.some Jvm.ClassFile.FieldType.int)) ∈ lw_all := lw_g (lw_at lw_m6 122 rfl) rfl
theorem q1431 : (Jvm.Cond.instanceMethod ({ cls := "PartedSide", name := "hold", desc := "(I)Z" } : Jvm.MethodName)) ∈ lw_all := lw_g (lw_at lw_m6 124 rfl) rfl
theorem q1432 : (Jvm.Cond.selects "PartedSide" ({ cls := "PartedSide", name := "hold", desc := "(I)Z" } : Jvm.MethodName) ({ cls := "PartedSide", name := "hold", desc := "(I)Z" } : Jvm.MethodName)) ∈ lw_all := lw_g (lw_at lw_m6 125 rfl) rfl
theorem q1433 : (Jvm.Cond.code ({ cls := "PartedSide", name := "hold", desc := "(I)Z" } : Jvm.MethodName) prog_1_method_62_code (2 : Nat) (Option.some Jvm.ClassFile.FieldType.boolean)) ∈ lw_all := lw_g (lw_at lw_m6 126 rfl) rfl
theorem q1435 : (Jvm.Cond.instanceMethod ({ cls := "PartedSide", name := "restore", desc := "(I)Z" } : Jvm.MethodName)) ∈ lw_all := lw_g (lw_at lw_m6 128 rfl) rfl
theorem q1436 : (Jvm.Cond.selects "PartedSide" ({ cls := "PartedSide", name := "restore", desc := "(I)Z" } : Jvm.MethodName) ({ cls := "PartedSide", name := "restore", desc := "(I)Z" } : Jvm.MethodName)) ∈ lw_all := lw_g (lw_at lw_m6 129 rfl) rfl
theorem q1437 : (Jvm.Cond.code ({ cls := "PartedSide", name := "restore", desc := "(I)Z" } : Jvm.MethodName) prog_1_method_63_code (2 : Nat) (Option.some Jvm.ClassFile.FieldType.boolean)) ∈ lw_all := lw_g (lw_at lw_m6 130 rfl) rfl
theorem q1439 : (Jvm.Cond.instanceMethod ({ cls := "PartedSide", name := "count", desc := "(I)I" } : Jvm.MethodName)) ∈ lw_all := lw_g (lw_at lw_m6 132 rfl) rfl
theorem q1440 : (Jvm.Cond.selects "PartedSide" ({ cls := "PartedSide", name := "count", desc := "(I)I" } : Jvm.MethodName) ({ cls := "PartedSide", name := "count", desc := "(I)I" } : Jvm.MethodName)) ∈ lw_all := lw_g (lw_at lw_m6 133 rfl) rfl
theorem q1441 : (Jvm.Cond.code ({ cls := "PartedSide", name := "count", desc := "(I)I" } : Jvm.MethodName) prog_1_method_64_code (4 : Nat) (Option.some Jvm.ClassFile.FieldType.int)) ∈ lw_all := lw_g (lw_at lw_m6 134 rfl) rfl
theorem q1442 : (Jvm.Cond.methodLink "PartedSide" (291 : Nat) ({ cls := "PartedSide$Barrack", name := "next", desc := "(LPartedSide$Text;)I" } : Jvm.MethodName)) ∈ lw_all := lw_g (lw_at lw_m6 135 rfl) rfl
theorem q2089 : (Jvm.Cond.castable "PartedSide" "java/lang/Object") ∈ lw_tbl := lw_at lw_m9 62 rfl
theorem in_X0 : ∀ w ∈ wsX00, w ∈ lw_all := lw_in wsX00 [548, 550, 552, 554, 556, 558, 560, 562, 564, 566, 568, 570, 572, 574, 576, 578, 580, 582, 584, 586, 588, 590, 592, 594, 596, 598] (by decide +kernel) (by decide +kernel)
