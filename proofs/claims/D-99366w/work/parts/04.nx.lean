/-! LentSundays -/
set_option maxRecDepth 100000
def RX0 : String := "LentSundays"
def TX0 : u_T := fun k => match k with
  | 0 => ("LentSundays", "fault", "LLentSundays$Fault;", true)
  | 1 => ("LentSundays", "tokens", "LLentSundays$Tokens;", true)
  | 2 => ("LentSundays", "parser", "LLentSundays$Parser;", true)
  | 3 => ("LentSundays", "text", "LLentSundays$Text;", false)
  | 4 => ("LentSundays", "place", "I", false)
  | 5 => ("LentSundays", "undos", "I", false)
  | 6 => ("LentSundays", "undoAt", "I", false)
  | 7 => ("LentSundays", "house", "LLentSundays$House;", true)
  | 8 => ("LentSundays", "trial", "LLentSundays$House;", true)
  | 9 => ("LentSundays", "past", "[LLentSundays$House;", true)
  | 10 => ("LentSundays", "slots", "[LLentSundays$House;", true)
  | 11 => ("LentSundays", "drawn", "LLentSundays$Fate;", true)
  | 12 => ("LentSundays", "spared", "LLentSundays$Fate;", true)
  | 13 => ("LentSundays", "held", "[Z", true)
  | 14 => ("LentSundays", "pay", "[[I", true)
  | 15 => ("LentSundays", "most", "[[I", true)
  | 16 => ("LentSundays", "placed", "[Z", true)
  | 17 => ("LentSundays", "parts", "[I", true)
  | 18 => ("LentSundays", "tolds", "I", false)
  | 19 => ("LentSundays", "toldHour", "[I", true)
  | _ => ("LentSundays", "toldThere", "[Z", true)
def tyX0 : Nat → FieldType := fun k => match k with
  | 0 => .object "LentSundays$Fault"
  | 1 => .object "LentSundays$Tokens"
  | 2 => .object "LentSundays$Parser"
  | 3 => .object "LentSundays$Text"
  | 4 => .int
  | 5 => .int
  | 6 => .int
  | 7 => .object "LentSundays$House"
  | 8 => .object "LentSundays$House"
  | 9 => .array (.object "LentSundays$House")
  | 10 => .array (.object "LentSundays$House")
  | 11 => .object "LentSundays$Fate"
  | 12 => .object "LentSundays$Fate"
  | 13 => .array .boolean
  | 14 => .array (.array .int)
  | 15 => .array (.array .int)
  | 16 => .array .boolean
  | 17 => .array .int
  | 18 => .int
  | 19 => .array .int
  | _ => .array .boolean
abbrev wsX00 : List Cond := u_ws RX0 TX0 21
set_option maxRecDepth 100000 in
theorem nmX0 : ∀ a, a < 21 → ∀ b, b < 21 → a ≠ b → (TX0 a).2.1 ≠ (TX0 b).2.1 := by decide +kernel
set_option maxRecDepth 100000 in
theorem tyX0_ok : ∀ k, k < 21 → parseFieldDescriptor (TX0 k).2.2.1 = some (tyX0 k) := by decide +kernel
abbrev cX0_init : ByteArray := prog_1_method_3_code
def yX0_init : MethodName := ⟨RX0, "<init>", "()V"⟩
def dkwX0_init_10 : List UInt8 := [183, 0, 50, 83, 132, 1, 1, 167, 255, 234, 42, 180, 0, 51, 42, 180, 0, 40, 182, 0, 103, 177]
abbrev dktX0_init_10 : List UInt8 := dkwX0_init_10 ++ []
def dkwX0_init_9 : List UInt8 := [16, 20, 188, 4, 181, 0, 100, 3, 60, 27, 16, 40, 162, 0, 22, 42, 180, 0, 58, 27, 187, 0, 48, 89]
abbrev dktX0_init_9 : List UInt8 := dkwX0_init_9 ++ dktX0_init_10
def dkwX0_init_8 : List UInt8 := [188, 4, 181, 0, 90, 42, 17, 0, 128, 188, 10, 181, 0, 93, 42, 16, 20, 188, 10, 181, 0, 97, 42]
abbrev dktX0_init_8 : List UInt8 := dkwX0_init_8 ++ dktX0_init_9
def dkwX0_init_7 : List UInt8 := [197, 0, 82, 2, 181, 0, 84, 42, 8, 17, 0, 128, 197, 0, 82, 2, 181, 0, 87, 42, 17, 0, 128]
abbrev dktX0_init_7 : List UInt8 := dkwX0_init_7 ++ dktX0_init_8
def dkwX0_init_6 : List UInt8 := [42, 187, 0, 72, 89, 183, 0, 74, 181, 0, 75, 42, 6, 188, 4, 181, 0, 78, 42, 7, 17, 0, 128]
abbrev dktX0_init_6 : List UInt8 := dkwX0_init_6 ++ dktX0_init_7
def dkwX0_init_5 : List UInt8 := [89, 5, 187, 0, 48, 89, 183, 0, 50, 83, 181, 0, 62, 42, 187, 0, 65, 89, 183, 0, 67, 181, 0, 68]
abbrev dktX0_init_5 : List UInt8 := dkwX0_init_5 ++ dktX0_init_6
def dkwX0_init_4 : List UInt8 := [6, 189, 0, 48, 89, 3, 187, 0, 48, 89, 183, 0, 50, 83, 89, 4, 187, 0, 48, 89, 183, 0, 50, 83]
abbrev dktX0_init_4 : List UInt8 := dkwX0_init_4 ++ dktX0_init_5
def dkwX0_init_3 : List UInt8 := [181, 0, 51, 42, 187, 0, 48, 89, 183, 0, 50, 181, 0, 55, 42, 16, 40, 189, 0, 48, 181, 0, 58, 42]
abbrev dktX0_init_3 : List UInt8 := dkwX0_init_3 ++ dktX0_init_4
def dkwX0_init_2 : List UInt8 := [187, 0, 37, 89, 183, 0, 39, 181, 0, 40, 42, 2, 181, 0, 44, 42, 187, 0, 48, 89, 183, 0, 50]
abbrev dktX0_init_2 : List UInt8 := dkwX0_init_2 ++ dktX0_init_3
def dkwX0_init_1 : List UInt8 := [181, 0, 24, 42, 187, 0, 28, 89, 42, 180, 0, 24, 42, 180, 0, 17, 183, 0, 30, 181, 0, 33, 42]
abbrev dktX0_init_1 : List UInt8 := dkwX0_init_1 ++ dktX0_init_2
def dkwX0_init_0 : List UInt8 := [42, 183, 0, 8, 42, 187, 0, 14, 89, 183, 0, 16, 181, 0, 17, 42, 187, 0, 21, 89, 183, 0, 23]
abbrev dktX0_init_0 : List UInt8 := dkwX0_init_0 ++ dktX0_init_1
theorem dksX0_init_0 : cX0_init.data.toList.drop 0 = dktX0_init_0 := by decide +kernel
theorem dksX0_init_1 : cX0_init.data.toList.drop 23 = dktX0_init_1 := dk_seg dksX0_init_0 23 rfl rfl
theorem dksX0_init_2 : cX0_init.data.toList.drop 46 = dktX0_init_2 := dk_seg dksX0_init_1 23 rfl rfl
theorem dksX0_init_3 : cX0_init.data.toList.drop 69 = dktX0_init_3 := dk_seg dksX0_init_2 23 rfl rfl
theorem dksX0_init_4 : cX0_init.data.toList.drop 93 = dktX0_init_4 := dk_seg dksX0_init_3 24 rfl rfl
theorem dksX0_init_5 : cX0_init.data.toList.drop 117 = dktX0_init_5 := dk_seg dksX0_init_4 24 rfl rfl
theorem dksX0_init_6 : cX0_init.data.toList.drop 141 = dktX0_init_6 := dk_seg dksX0_init_5 24 rfl rfl
theorem dksX0_init_7 : cX0_init.data.toList.drop 164 = dktX0_init_7 := dk_seg dksX0_init_6 23 rfl rfl
theorem dksX0_init_8 : cX0_init.data.toList.drop 187 = dktX0_init_8 := dk_seg dksX0_init_7 23 rfl rfl
theorem dksX0_init_9 : cX0_init.data.toList.drop 210 = dktX0_init_9 := dk_seg dksX0_init_8 23 rfl rfl
theorem dksX0_init_10 : cX0_init.data.toList.drop 234 = dktX0_init_10 := dk_seg dksX0_init_9 24 rfl rfl
theorem dX0_init_0 : decode cX0_init 0 = .ok (.aload_n 0, 1) := dk_42 (dk_at dksX0_init_0 0 rfl rfl)
theorem dX0_init_1 : decode cX0_init 1 = .ok (.invokespecial 8, 3) := dk_183 0 8 (dk_at dksX0_init_0 1 rfl rfl)
theorem dX0_init_4 : decode cX0_init 4 = .ok (.aload_n 0, 1) := dk_42 (dk_at dksX0_init_0 4 rfl rfl)
theorem dX0_init_5 : decode cX0_init 5 = .ok (.new 14, 3) := dk_187 0 14 (dk_at dksX0_init_0 5 rfl rfl)
theorem dX0_init_8 : decode cX0_init 8 = .ok (.dup, 1) := dk_89 (dk_at dksX0_init_0 8 rfl rfl)
theorem dX0_init_9 : decode cX0_init 9 = .ok (.invokespecial 16, 3) := dk_183 0 16 (dk_at dksX0_init_0 9 rfl rfl)
theorem dX0_init_12 : decode cX0_init 12 = .ok (.putfield 17, 3) := dk_181 0 17 (dk_at dksX0_init_0 12 rfl rfl)
theorem dX0_init_15 : decode cX0_init 15 = .ok (.aload_n 0, 1) := dk_42 (dk_at dksX0_init_0 15 rfl rfl)
theorem dX0_init_16 : decode cX0_init 16 = .ok (.new 21, 3) := dk_187 0 21 (dk_at dksX0_init_0 16 rfl rfl)
theorem dX0_init_19 : decode cX0_init 19 = .ok (.dup, 1) := dk_89 (dk_at dksX0_init_0 19 rfl rfl)
theorem dX0_init_20 : decode cX0_init 20 = .ok (.invokespecial 23, 3) := dk_183 0 23 (dk_at dksX0_init_0 20 rfl rfl)
theorem dX0_init_23 : decode cX0_init 23 = .ok (.putfield 24, 3) := dk_181 0 24 (dk_at dksX0_init_1 0 rfl rfl)
theorem dX0_init_26 : decode cX0_init 26 = .ok (.aload_n 0, 1) := dk_42 (dk_at dksX0_init_1 3 rfl rfl)
theorem dX0_init_27 : decode cX0_init 27 = .ok (.new 28, 3) := dk_187 0 28 (dk_at dksX0_init_1 4 rfl rfl)
theorem dX0_init_30 : decode cX0_init 30 = .ok (.dup, 1) := dk_89 (dk_at dksX0_init_1 7 rfl rfl)
theorem dX0_init_31 : decode cX0_init 31 = .ok (.aload_n 0, 1) := dk_42 (dk_at dksX0_init_1 8 rfl rfl)
theorem dX0_init_32 : decode cX0_init 32 = .ok (.getfield 24, 3) := dk_180 0 24 (dk_at dksX0_init_1 9 rfl rfl)
theorem dX0_init_35 : decode cX0_init 35 = .ok (.aload_n 0, 1) := dk_42 (dk_at dksX0_init_1 12 rfl rfl)
theorem dX0_init_36 : decode cX0_init 36 = .ok (.getfield 17, 3) := dk_180 0 17 (dk_at dksX0_init_1 13 rfl rfl)
theorem dX0_init_39 : decode cX0_init 39 = .ok (.invokespecial 30, 3) := dk_183 0 30 (dk_at dksX0_init_1 16 rfl rfl)
theorem dX0_init_42 : decode cX0_init 42 = .ok (.putfield 33, 3) := dk_181 0 33 (dk_at dksX0_init_1 19 rfl rfl)
theorem dX0_init_45 : decode cX0_init 45 = .ok (.aload_n 0, 1) := dk_42 (dk_at dksX0_init_1 22 rfl rfl)
theorem dX0_init_46 : decode cX0_init 46 = .ok (.new 37, 3) := dk_187 0 37 (dk_at dksX0_init_2 0 rfl rfl)
theorem dX0_init_49 : decode cX0_init 49 = .ok (.dup, 1) := dk_89 (dk_at dksX0_init_2 3 rfl rfl)
theorem dX0_init_50 : decode cX0_init 50 = .ok (.invokespecial 39, 3) := dk_183 0 39 (dk_at dksX0_init_2 4 rfl rfl)
theorem dX0_init_53 : decode cX0_init 53 = .ok (.putfield 40, 3) := dk_181 0 40 (dk_at dksX0_init_2 7 rfl rfl)
theorem dX0_init_56 : decode cX0_init 56 = .ok (.aload_n 0, 1) := dk_42 (dk_at dksX0_init_2 10 rfl rfl)
theorem dX0_init_57 : decode cX0_init 57 = .ok (.iconst (-1), 1) := dk_2 (dk_at dksX0_init_2 11 rfl rfl)
theorem dX0_init_58 : decode cX0_init 58 = .ok (.putfield 44, 3) := dk_181 0 44 (dk_at dksX0_init_2 12 rfl rfl)
theorem dX0_init_61 : decode cX0_init 61 = .ok (.aload_n 0, 1) := dk_42 (dk_at dksX0_init_2 15 rfl rfl)
theorem dX0_init_62 : decode cX0_init 62 = .ok (.new 48, 3) := dk_187 0 48 (dk_at dksX0_init_2 16 rfl rfl)
theorem dX0_init_65 : decode cX0_init 65 = .ok (.dup, 1) := dk_89 (dk_at dksX0_init_2 19 rfl rfl)
theorem dX0_init_66 : decode cX0_init 66 = .ok (.invokespecial 50, 3) := dk_183 0 50 (dk_at dksX0_init_2 20 rfl rfl)
theorem dX0_init_69 : decode cX0_init 69 = .ok (.putfield 51, 3) := dk_181 0 51 (dk_at dksX0_init_3 0 rfl rfl)
theorem dX0_init_72 : decode cX0_init 72 = .ok (.aload_n 0, 1) := dk_42 (dk_at dksX0_init_3 3 rfl rfl)
theorem dX0_init_73 : decode cX0_init 73 = .ok (.new 48, 3) := dk_187 0 48 (dk_at dksX0_init_3 4 rfl rfl)
theorem dX0_init_76 : decode cX0_init 76 = .ok (.dup, 1) := dk_89 (dk_at dksX0_init_3 7 rfl rfl)
theorem dX0_init_77 : decode cX0_init 77 = .ok (.invokespecial 50, 3) := dk_183 0 50 (dk_at dksX0_init_3 8 rfl rfl)
theorem dX0_init_80 : decode cX0_init 80 = .ok (.putfield 55, 3) := dk_181 0 55 (dk_at dksX0_init_3 11 rfl rfl)
theorem dX0_init_83 : decode cX0_init 83 = .ok (.aload_n 0, 1) := dk_42 (dk_at dksX0_init_3 14 rfl rfl)
theorem dX0_init_84 : decode cX0_init 84 = .ok (.bipush 40, 2) := dk_16 40 (dk_at dksX0_init_3 15 rfl rfl)
theorem dX0_init_86 : decode cX0_init 86 = .ok (.anewarray 48, 3) := dk_189 0 48 (dk_at dksX0_init_3 17 rfl rfl)
theorem dX0_init_89 : decode cX0_init 89 = .ok (.putfield 58, 3) := dk_181 0 58 (dk_at dksX0_init_3 20 rfl rfl)
theorem dX0_init_92 : decode cX0_init 92 = .ok (.aload_n 0, 1) := dk_42 (dk_at dksX0_init_3 23 rfl rfl)
theorem dX0_init_93 : decode cX0_init 93 = .ok (.iconst 3, 1) := dk_6 (dk_at dksX0_init_4 0 rfl rfl)
theorem dX0_init_94 : decode cX0_init 94 = .ok (.anewarray 48, 3) := dk_189 0 48 (dk_at dksX0_init_4 1 rfl rfl)
theorem dX0_init_97 : decode cX0_init 97 = .ok (.dup, 1) := dk_89 (dk_at dksX0_init_4 4 rfl rfl)
theorem dX0_init_98 : decode cX0_init 98 = .ok (.iconst 0, 1) := dk_3 (dk_at dksX0_init_4 5 rfl rfl)
theorem dX0_init_99 : decode cX0_init 99 = .ok (.new 48, 3) := dk_187 0 48 (dk_at dksX0_init_4 6 rfl rfl)
theorem dX0_init_102 : decode cX0_init 102 = .ok (.dup, 1) := dk_89 (dk_at dksX0_init_4 9 rfl rfl)
theorem dX0_init_103 : decode cX0_init 103 = .ok (.invokespecial 50, 3) := dk_183 0 50 (dk_at dksX0_init_4 10 rfl rfl)
theorem dX0_init_106 : decode cX0_init 106 = .ok (.aastore, 1) := dk_83 (dk_at dksX0_init_4 13 rfl rfl)
theorem dX0_init_107 : decode cX0_init 107 = .ok (.dup, 1) := dk_89 (dk_at dksX0_init_4 14 rfl rfl)
theorem dX0_init_108 : decode cX0_init 108 = .ok (.iconst 1, 1) := dk_4 (dk_at dksX0_init_4 15 rfl rfl)
theorem dX0_init_109 : decode cX0_init 109 = .ok (.new 48, 3) := dk_187 0 48 (dk_at dksX0_init_4 16 rfl rfl)
theorem dX0_init_112 : decode cX0_init 112 = .ok (.dup, 1) := dk_89 (dk_at dksX0_init_4 19 rfl rfl)
theorem dX0_init_113 : decode cX0_init 113 = .ok (.invokespecial 50, 3) := dk_183 0 50 (dk_at dksX0_init_4 20 rfl rfl)
theorem dX0_init_116 : decode cX0_init 116 = .ok (.aastore, 1) := dk_83 (dk_at dksX0_init_4 23 rfl rfl)
theorem dX0_init_117 : decode cX0_init 117 = .ok (.dup, 1) := dk_89 (dk_at dksX0_init_5 0 rfl rfl)
theorem dX0_init_118 : decode cX0_init 118 = .ok (.iconst 2, 1) := dk_5 (dk_at dksX0_init_5 1 rfl rfl)
theorem dX0_init_119 : decode cX0_init 119 = .ok (.new 48, 3) := dk_187 0 48 (dk_at dksX0_init_5 2 rfl rfl)
theorem dX0_init_122 : decode cX0_init 122 = .ok (.dup, 1) := dk_89 (dk_at dksX0_init_5 5 rfl rfl)
theorem dX0_init_123 : decode cX0_init 123 = .ok (.invokespecial 50, 3) := dk_183 0 50 (dk_at dksX0_init_5 6 rfl rfl)
theorem dX0_init_126 : decode cX0_init 126 = .ok (.aastore, 1) := dk_83 (dk_at dksX0_init_5 9 rfl rfl)
theorem dX0_init_127 : decode cX0_init 127 = .ok (.putfield 62, 3) := dk_181 0 62 (dk_at dksX0_init_5 10 rfl rfl)
theorem dX0_init_130 : decode cX0_init 130 = .ok (.aload_n 0, 1) := dk_42 (dk_at dksX0_init_5 13 rfl rfl)
theorem dX0_init_131 : decode cX0_init 131 = .ok (.new 65, 3) := dk_187 0 65 (dk_at dksX0_init_5 14 rfl rfl)
theorem dX0_init_134 : decode cX0_init 134 = .ok (.dup, 1) := dk_89 (dk_at dksX0_init_5 17 rfl rfl)
theorem dX0_init_135 : decode cX0_init 135 = .ok (.invokespecial 67, 3) := dk_183 0 67 (dk_at dksX0_init_5 18 rfl rfl)
theorem dX0_init_138 : decode cX0_init 138 = .ok (.putfield 68, 3) := dk_181 0 68 (dk_at dksX0_init_5 21 rfl rfl)
theorem dX0_init_141 : decode cX0_init 141 = .ok (.aload_n 0, 1) := dk_42 (dk_at dksX0_init_6 0 rfl rfl)
theorem dX0_init_142 : decode cX0_init 142 = .ok (.new 72, 3) := dk_187 0 72 (dk_at dksX0_init_6 1 rfl rfl)
theorem dX0_init_145 : decode cX0_init 145 = .ok (.dup, 1) := dk_89 (dk_at dksX0_init_6 4 rfl rfl)
theorem dX0_init_146 : decode cX0_init 146 = .ok (.invokespecial 74, 3) := dk_183 0 74 (dk_at dksX0_init_6 5 rfl rfl)
theorem dX0_init_149 : decode cX0_init 149 = .ok (.putfield 75, 3) := dk_181 0 75 (dk_at dksX0_init_6 8 rfl rfl)
theorem dX0_init_152 : decode cX0_init 152 = .ok (.aload_n 0, 1) := dk_42 (dk_at dksX0_init_6 11 rfl rfl)
theorem dX0_init_153 : decode cX0_init 153 = .ok (.iconst 3, 1) := dk_6 (dk_at dksX0_init_6 12 rfl rfl)
theorem dX0_init_154 : decode cX0_init 154 = .ok (.newarray .boolean, 2) := dk_188_4 (dk_at dksX0_init_6 13 rfl rfl)
theorem dX0_init_156 : decode cX0_init 156 = .ok (.putfield 78, 3) := dk_181 0 78 (dk_at dksX0_init_6 15 rfl rfl)
theorem dX0_init_159 : decode cX0_init 159 = .ok (.aload_n 0, 1) := dk_42 (dk_at dksX0_init_6 18 rfl rfl)
theorem dX0_init_160 : decode cX0_init 160 = .ok (.iconst 4, 1) := dk_7 (dk_at dksX0_init_6 19 rfl rfl)
theorem dX0_init_161 : decode cX0_init 161 = .ok (.sipush 128, 3) := dk_17 0 128 (dk_at dksX0_init_6 20 rfl rfl)
theorem dX0_init_164 : decode cX0_init 164 = .ok (.multianewarray 82 2, 4) := by decide +kernel
theorem dX0_init_168 : decode cX0_init 168 = .ok (.putfield 84, 3) := dk_181 0 84 (dk_at dksX0_init_7 4 rfl rfl)
theorem dX0_init_171 : decode cX0_init 171 = .ok (.aload_n 0, 1) := dk_42 (dk_at dksX0_init_7 7 rfl rfl)
theorem dX0_init_172 : decode cX0_init 172 = .ok (.iconst 5, 1) := dk_8 (dk_at dksX0_init_7 8 rfl rfl)
theorem dX0_init_173 : decode cX0_init 173 = .ok (.sipush 128, 3) := dk_17 0 128 (dk_at dksX0_init_7 9 rfl rfl)
theorem dX0_init_176 : decode cX0_init 176 = .ok (.multianewarray 82 2, 4) := by decide +kernel
theorem dX0_init_180 : decode cX0_init 180 = .ok (.putfield 87, 3) := dk_181 0 87 (dk_at dksX0_init_7 16 rfl rfl)
theorem dX0_init_183 : decode cX0_init 183 = .ok (.aload_n 0, 1) := dk_42 (dk_at dksX0_init_7 19 rfl rfl)
theorem dX0_init_184 : decode cX0_init 184 = .ok (.sipush 128, 3) := dk_17 0 128 (dk_at dksX0_init_7 20 rfl rfl)
theorem dX0_init_187 : decode cX0_init 187 = .ok (.newarray .boolean, 2) := dk_188_4 (dk_at dksX0_init_8 0 rfl rfl)
theorem dX0_init_189 : decode cX0_init 189 = .ok (.putfield 90, 3) := dk_181 0 90 (dk_at dksX0_init_8 2 rfl rfl)
theorem dX0_init_192 : decode cX0_init 192 = .ok (.aload_n 0, 1) := dk_42 (dk_at dksX0_init_8 5 rfl rfl)
theorem dX0_init_193 : decode cX0_init 193 = .ok (.sipush 128, 3) := dk_17 0 128 (dk_at dksX0_init_8 6 rfl rfl)
theorem dX0_init_196 : decode cX0_init 196 = .ok (.newarray .int, 2) := dk_188_10 (dk_at dksX0_init_8 9 rfl rfl)
theorem dX0_init_198 : decode cX0_init 198 = .ok (.putfield 93, 3) := dk_181 0 93 (dk_at dksX0_init_8 11 rfl rfl)
theorem dX0_init_201 : decode cX0_init 201 = .ok (.aload_n 0, 1) := dk_42 (dk_at dksX0_init_8 14 rfl rfl)
theorem dX0_init_202 : decode cX0_init 202 = .ok (.bipush 20, 2) := dk_16 20 (dk_at dksX0_init_8 15 rfl rfl)
theorem dX0_init_204 : decode cX0_init 204 = .ok (.newarray .int, 2) := dk_188_10 (dk_at dksX0_init_8 17 rfl rfl)
theorem dX0_init_206 : decode cX0_init 206 = .ok (.putfield 97, 3) := dk_181 0 97 (dk_at dksX0_init_8 19 rfl rfl)
theorem dX0_init_209 : decode cX0_init 209 = .ok (.aload_n 0, 1) := dk_42 (dk_at dksX0_init_8 22 rfl rfl)
theorem dX0_init_210 : decode cX0_init 210 = .ok (.bipush 20, 2) := dk_16 20 (dk_at dksX0_init_9 0 rfl rfl)
theorem dX0_init_212 : decode cX0_init 212 = .ok (.newarray .boolean, 2) := dk_188_4 (dk_at dksX0_init_9 2 rfl rfl)
theorem dX0_init_214 : decode cX0_init 214 = .ok (.putfield 100, 3) := dk_181 0 100 (dk_at dksX0_init_9 4 rfl rfl)
theorem dX0_init_217 : decode cX0_init 217 = .ok (.iconst 0, 1) := dk_3 (dk_at dksX0_init_9 7 rfl rfl)
theorem dX0_init_218 : decode cX0_init 218 = .ok (.istore_n 1, 1) := dk_60 (dk_at dksX0_init_9 8 rfl rfl)
theorem dX0_init_219 : decode cX0_init 219 = .ok (.iload_n 1, 1) := dk_27 (dk_at dksX0_init_9 9 rfl rfl)
theorem dX0_init_220 : decode cX0_init 220 = .ok (.bipush 40, 2) := dk_16 40 (dk_at dksX0_init_9 10 rfl rfl)
theorem dX0_init_222 : decode cX0_init 222 = .ok (.if_icmp .ge 22, 3) := dk_162 0 22 (dk_at dksX0_init_9 12 rfl rfl)
theorem dX0_init_225 : decode cX0_init 225 = .ok (.aload_n 0, 1) := dk_42 (dk_at dksX0_init_9 15 rfl rfl)
theorem dX0_init_226 : decode cX0_init 226 = .ok (.getfield 58, 3) := dk_180 0 58 (dk_at dksX0_init_9 16 rfl rfl)
theorem dX0_init_229 : decode cX0_init 229 = .ok (.iload_n 1, 1) := dk_27 (dk_at dksX0_init_9 19 rfl rfl)
theorem dX0_init_230 : decode cX0_init 230 = .ok (.new 48, 3) := dk_187 0 48 (dk_at dksX0_init_9 20 rfl rfl)
theorem dX0_init_233 : decode cX0_init 233 = .ok (.dup, 1) := dk_89 (dk_at dksX0_init_9 23 rfl rfl)
theorem dX0_init_234 : decode cX0_init 234 = .ok (.invokespecial 50, 3) := dk_183 0 50 (dk_at dksX0_init_10 0 rfl rfl)
theorem dX0_init_237 : decode cX0_init 237 = .ok (.aastore, 1) := dk_83 (dk_at dksX0_init_10 3 rfl rfl)
theorem dX0_init_238 : decode cX0_init 238 = .ok (.iinc 1 1, 3) := dk_132 1 1 (dk_at dksX0_init_10 4 rfl rfl)
theorem dX0_init_241 : decode cX0_init 241 = .ok (.goto (-22), 3) := dk_167 255 234 (dk_at dksX0_init_10 7 rfl rfl)
theorem dX0_init_244 : decode cX0_init 244 = .ok (.aload_n 0, 1) := dk_42 (dk_at dksX0_init_10 10 rfl rfl)
theorem dX0_init_245 : decode cX0_init 245 = .ok (.getfield 51, 3) := dk_180 0 51 (dk_at dksX0_init_10 11 rfl rfl)
theorem dX0_init_248 : decode cX0_init 248 = .ok (.aload_n 0, 1) := dk_42 (dk_at dksX0_init_10 14 rfl rfl)
theorem dX0_init_249 : decode cX0_init 249 = .ok (.getfield 40, 3) := dk_180 0 40 (dk_at dksX0_init_10 15 rfl rfl)
theorem dX0_init_252 : decode cX0_init 252 = .ok (.invokevirtual 103, 3) := dk_182 0 103 (dk_at dksX0_init_10 18 rfl rfl)
theorem dX0_init_255 : decode cX0_init 255 = .ok (.return_, 1) := dk_177 (dk_at dksX0_init_10 21 rfl rfl)
abbrev cX0_feed : ByteArray := prog_1_method_4_code
def yX0_feed : MethodName := ⟨RX0, "feed", "(IIIII)I"⟩
def dkwX0_feed_2 : List UInt8 := [180, 0, 24, 180, 0, 107, 172]
abbrev dktX0_feed_2 : List UInt8 := dkwX0_feed_2 ++ []
def dkwX0_feed_1 : List UInt8 := [28, 182, 0, 110, 42, 29, 182, 0, 110, 42, 21, 4, 182, 0, 110, 42, 21, 5, 182, 0, 110, 42]
abbrev dktX0_feed_1 : List UInt8 := dkwX0_feed_1 ++ dktX0_feed_2
def dkwX0_feed_0 : List UInt8 := [42, 180, 0, 24, 180, 0, 107, 16, 20, 96, 17, 7, 208, 164, 0, 5, 2, 172, 42, 27, 182, 0, 110, 42]
abbrev dktX0_feed_0 : List UInt8 := dkwX0_feed_0 ++ dktX0_feed_1
theorem dksX0_feed_0 : cX0_feed.data.toList.drop 0 = dktX0_feed_0 := by decide +kernel
theorem dksX0_feed_1 : cX0_feed.data.toList.drop 24 = dktX0_feed_1 := dk_seg dksX0_feed_0 24 rfl rfl
theorem dksX0_feed_2 : cX0_feed.data.toList.drop 46 = dktX0_feed_2 := dk_seg dksX0_feed_1 22 rfl rfl
theorem dX0_feed_0 : decode cX0_feed 0 = .ok (.aload_n 0, 1) := dk_42 (dk_at dksX0_feed_0 0 rfl rfl)
theorem dX0_feed_1 : decode cX0_feed 1 = .ok (.getfield 24, 3) := dk_180 0 24 (dk_at dksX0_feed_0 1 rfl rfl)
theorem dX0_feed_4 : decode cX0_feed 4 = .ok (.getfield 107, 3) := dk_180 0 107 (dk_at dksX0_feed_0 4 rfl rfl)
theorem dX0_feed_7 : decode cX0_feed 7 = .ok (.bipush 20, 2) := dk_16 20 (dk_at dksX0_feed_0 7 rfl rfl)
theorem dX0_feed_9 : decode cX0_feed 9 = .ok (.iadd, 1) := dk_96 (dk_at dksX0_feed_0 9 rfl rfl)
theorem dX0_feed_10 : decode cX0_feed 10 = .ok (.sipush 2000, 3) := dk_17 7 208 (dk_at dksX0_feed_0 10 rfl rfl)
theorem dX0_feed_13 : decode cX0_feed 13 = .ok (.if_icmp .le 5, 3) := dk_164 0 5 (dk_at dksX0_feed_0 13 rfl rfl)
theorem dX0_feed_16 : decode cX0_feed 16 = .ok (.iconst (-1), 1) := dk_2 (dk_at dksX0_feed_0 16 rfl rfl)
theorem dX0_feed_17 : decode cX0_feed 17 = .ok (.ireturn, 1) := dk_172 (dk_at dksX0_feed_0 17 rfl rfl)
theorem dX0_feed_18 : decode cX0_feed 18 = .ok (.aload_n 0, 1) := dk_42 (dk_at dksX0_feed_0 18 rfl rfl)
theorem dX0_feed_19 : decode cX0_feed 19 = .ok (.iload_n 1, 1) := dk_27 (dk_at dksX0_feed_0 19 rfl rfl)
theorem dX0_feed_20 : decode cX0_feed 20 = .ok (.invokevirtual 110, 3) := dk_182 0 110 (dk_at dksX0_feed_0 20 rfl rfl)
theorem dX0_feed_23 : decode cX0_feed 23 = .ok (.aload_n 0, 1) := dk_42 (dk_at dksX0_feed_0 23 rfl rfl)
theorem dX0_feed_24 : decode cX0_feed 24 = .ok (.iload_n 2, 1) := dk_28 (dk_at dksX0_feed_1 0 rfl rfl)
theorem dX0_feed_25 : decode cX0_feed 25 = .ok (.invokevirtual 110, 3) := dk_182 0 110 (dk_at dksX0_feed_1 1 rfl rfl)
theorem dX0_feed_28 : decode cX0_feed 28 = .ok (.aload_n 0, 1) := dk_42 (dk_at dksX0_feed_1 4 rfl rfl)
theorem dX0_feed_29 : decode cX0_feed 29 = .ok (.iload_n 3, 1) := dk_29 (dk_at dksX0_feed_1 5 rfl rfl)
theorem dX0_feed_30 : decode cX0_feed 30 = .ok (.invokevirtual 110, 3) := dk_182 0 110 (dk_at dksX0_feed_1 6 rfl rfl)
theorem dX0_feed_33 : decode cX0_feed 33 = .ok (.aload_n 0, 1) := dk_42 (dk_at dksX0_feed_1 9 rfl rfl)
theorem dX0_feed_34 : decode cX0_feed 34 = .ok (.iload 4, 2) := dk_21 4 (dk_at dksX0_feed_1 10 rfl rfl)
theorem dX0_feed_36 : decode cX0_feed 36 = .ok (.invokevirtual 110, 3) := dk_182 0 110 (dk_at dksX0_feed_1 12 rfl rfl)
theorem dX0_feed_39 : decode cX0_feed 39 = .ok (.aload_n 0, 1) := dk_42 (dk_at dksX0_feed_1 15 rfl rfl)
theorem dX0_feed_40 : decode cX0_feed 40 = .ok (.iload 5, 2) := dk_21 5 (dk_at dksX0_feed_1 16 rfl rfl)
theorem dX0_feed_42 : decode cX0_feed 42 = .ok (.invokevirtual 110, 3) := dk_182 0 110 (dk_at dksX0_feed_1 18 rfl rfl)
theorem dX0_feed_45 : decode cX0_feed 45 = .ok (.aload_n 0, 1) := dk_42 (dk_at dksX0_feed_1 21 rfl rfl)
theorem dX0_feed_46 : decode cX0_feed 46 = .ok (.getfield 24, 3) := dk_180 0 24 (dk_at dksX0_feed_2 0 rfl rfl)
theorem dX0_feed_49 : decode cX0_feed 49 = .ok (.getfield 107, 3) := dk_180 0 107 (dk_at dksX0_feed_2 3 rfl rfl)
theorem dX0_feed_52 : decode cX0_feed 52 = .ok (.ireturn, 1) := dk_172 (dk_at dksX0_feed_2 6 rfl rfl)
abbrev cX0_typed : ByteArray := prog_1_method_5_code
def yX0_typed : MethodName := ⟨RX0, "typed", "(I)V"⟩
def dkwX0_typed_1 : List UInt8 := [145, 84, 42, 180, 0, 24, 89, 180, 0, 107, 4, 96, 181, 0, 107, 132, 2, 248, 167, 255, 217, 177]
abbrev dktX0_typed_1 : List UInt8 := dkwX0_typed_1 ++ []
def dkwX0_typed_0 : List UInt8 := [16, 24, 61, 28, 155, 0, 41, 42, 180, 0, 24, 180, 0, 114, 42, 180, 0, 24, 180, 0, 107, 27, 28, 122]
abbrev dktX0_typed_0 : List UInt8 := dkwX0_typed_0 ++ dktX0_typed_1
theorem dksX0_typed_0 : cX0_typed.data.toList.drop 0 = dktX0_typed_0 := by decide +kernel
theorem dksX0_typed_1 : cX0_typed.data.toList.drop 24 = dktX0_typed_1 := dk_seg dksX0_typed_0 24 rfl rfl
theorem dX0_typed_0 : decode cX0_typed 0 = .ok (.bipush 24, 2) := dk_16 24 (dk_at dksX0_typed_0 0 rfl rfl)
theorem dX0_typed_2 : decode cX0_typed 2 = .ok (.istore_n 2, 1) := dk_61 (dk_at dksX0_typed_0 2 rfl rfl)
theorem dX0_typed_3 : decode cX0_typed 3 = .ok (.iload_n 2, 1) := dk_28 (dk_at dksX0_typed_0 3 rfl rfl)
theorem dX0_typed_4 : decode cX0_typed 4 = .ok (.ifCond .lt 41, 3) := dk_155 0 41 (dk_at dksX0_typed_0 4 rfl rfl)
theorem dX0_typed_7 : decode cX0_typed 7 = .ok (.aload_n 0, 1) := dk_42 (dk_at dksX0_typed_0 7 rfl rfl)
theorem dX0_typed_8 : decode cX0_typed 8 = .ok (.getfield 24, 3) := dk_180 0 24 (dk_at dksX0_typed_0 8 rfl rfl)
theorem dX0_typed_11 : decode cX0_typed 11 = .ok (.getfield 114, 3) := dk_180 0 114 (dk_at dksX0_typed_0 11 rfl rfl)
theorem dX0_typed_14 : decode cX0_typed 14 = .ok (.aload_n 0, 1) := dk_42 (dk_at dksX0_typed_0 14 rfl rfl)
theorem dX0_typed_15 : decode cX0_typed 15 = .ok (.getfield 24, 3) := dk_180 0 24 (dk_at dksX0_typed_0 15 rfl rfl)
theorem dX0_typed_18 : decode cX0_typed 18 = .ok (.getfield 107, 3) := dk_180 0 107 (dk_at dksX0_typed_0 18 rfl rfl)
theorem dX0_typed_21 : decode cX0_typed 21 = .ok (.iload_n 1, 1) := dk_27 (dk_at dksX0_typed_0 21 rfl rfl)
theorem dX0_typed_22 : decode cX0_typed 22 = .ok (.iload_n 2, 1) := dk_28 (dk_at dksX0_typed_0 22 rfl rfl)
theorem dX0_typed_23 : decode cX0_typed 23 = .ok (.ishr, 1) := dk_122 (dk_at dksX0_typed_0 23 rfl rfl)
theorem dX0_typed_24 : decode cX0_typed 24 = .ok (.i2b, 1) := dk_145 (dk_at dksX0_typed_1 0 rfl rfl)
theorem dX0_typed_25 : decode cX0_typed 25 = .ok (.bastore, 1) := dk_84 (dk_at dksX0_typed_1 1 rfl rfl)
theorem dX0_typed_26 : decode cX0_typed 26 = .ok (.aload_n 0, 1) := dk_42 (dk_at dksX0_typed_1 2 rfl rfl)
theorem dX0_typed_27 : decode cX0_typed 27 = .ok (.getfield 24, 3) := dk_180 0 24 (dk_at dksX0_typed_1 3 rfl rfl)
theorem dX0_typed_30 : decode cX0_typed 30 = .ok (.dup, 1) := dk_89 (dk_at dksX0_typed_1 6 rfl rfl)
theorem dX0_typed_31 : decode cX0_typed 31 = .ok (.getfield 107, 3) := dk_180 0 107 (dk_at dksX0_typed_1 7 rfl rfl)
theorem dX0_typed_34 : decode cX0_typed 34 = .ok (.iconst 1, 1) := dk_4 (dk_at dksX0_typed_1 10 rfl rfl)
theorem dX0_typed_35 : decode cX0_typed 35 = .ok (.iadd, 1) := dk_96 (dk_at dksX0_typed_1 11 rfl rfl)
theorem dX0_typed_36 : decode cX0_typed 36 = .ok (.putfield 107, 3) := dk_181 0 107 (dk_at dksX0_typed_1 12 rfl rfl)
theorem dX0_typed_39 : decode cX0_typed 39 = .ok (.iinc 2 (-8), 3) := dk_132 2 248 (dk_at dksX0_typed_1 15 rfl rfl)
theorem dX0_typed_42 : decode cX0_typed 42 = .ok (.goto (-39), 3) := dk_167 255 217 (dk_at dksX0_typed_1 18 rfl rfl)
theorem dX0_typed_45 : decode cX0_typed 45 = .ok (.return_, 1) := dk_177 (dk_at dksX0_typed_1 21 rfl rfl)
abbrev cX0_back : ByteArray := prog_1_method_6_code
def yX0_back : MethodName := ⟨RX0, "back", "(I)I"⟩
def dkwX0_back_1 : List UInt8 := [180, 0, 107, 27, 100, 181, 0, 107, 42, 180, 0, 24, 180, 0, 107, 172]
abbrev dktX0_back_1 : List UInt8 := dkwX0_back_1 ++ []
def dkwX0_back_0 : List UInt8 := [27, 155, 0, 14, 27, 42, 180, 0, 24, 180, 0, 107, 164, 0, 5, 2, 172, 42, 180, 0, 24, 89]
abbrev dktX0_back_0 : List UInt8 := dkwX0_back_0 ++ dktX0_back_1
theorem dksX0_back_0 : cX0_back.data.toList.drop 0 = dktX0_back_0 := by decide +kernel
theorem dksX0_back_1 : cX0_back.data.toList.drop 22 = dktX0_back_1 := dk_seg dksX0_back_0 22 rfl rfl
theorem dX0_back_0 : decode cX0_back 0 = .ok (.iload_n 1, 1) := dk_27 (dk_at dksX0_back_0 0 rfl rfl)
theorem dX0_back_1 : decode cX0_back 1 = .ok (.ifCond .lt 14, 3) := dk_155 0 14 (dk_at dksX0_back_0 1 rfl rfl)
theorem dX0_back_4 : decode cX0_back 4 = .ok (.iload_n 1, 1) := dk_27 (dk_at dksX0_back_0 4 rfl rfl)
theorem dX0_back_5 : decode cX0_back 5 = .ok (.aload_n 0, 1) := dk_42 (dk_at dksX0_back_0 5 rfl rfl)
theorem dX0_back_6 : decode cX0_back 6 = .ok (.getfield 24, 3) := dk_180 0 24 (dk_at dksX0_back_0 6 rfl rfl)
theorem dX0_back_9 : decode cX0_back 9 = .ok (.getfield 107, 3) := dk_180 0 107 (dk_at dksX0_back_0 9 rfl rfl)
theorem dX0_back_12 : decode cX0_back 12 = .ok (.if_icmp .le 5, 3) := dk_164 0 5 (dk_at dksX0_back_0 12 rfl rfl)
theorem dX0_back_15 : decode cX0_back 15 = .ok (.iconst (-1), 1) := dk_2 (dk_at dksX0_back_0 15 rfl rfl)
theorem dX0_back_16 : decode cX0_back 16 = .ok (.ireturn, 1) := dk_172 (dk_at dksX0_back_0 16 rfl rfl)
theorem dX0_back_17 : decode cX0_back 17 = .ok (.aload_n 0, 1) := dk_42 (dk_at dksX0_back_0 17 rfl rfl)
theorem dX0_back_18 : decode cX0_back 18 = .ok (.getfield 24, 3) := dk_180 0 24 (dk_at dksX0_back_0 18 rfl rfl)
theorem dX0_back_21 : decode cX0_back 21 = .ok (.dup, 1) := dk_89 (dk_at dksX0_back_0 21 rfl rfl)
theorem dX0_back_22 : decode cX0_back 22 = .ok (.getfield 107, 3) := dk_180 0 107 (dk_at dksX0_back_1 0 rfl rfl)
theorem dX0_back_25 : decode cX0_back 25 = .ok (.iload_n 1, 1) := dk_27 (dk_at dksX0_back_1 3 rfl rfl)
theorem dX0_back_26 : decode cX0_back 26 = .ok (.isub, 1) := dk_100 (dk_at dksX0_back_1 4 rfl rfl)
theorem dX0_back_27 : decode cX0_back 27 = .ok (.putfield 107, 3) := dk_181 0 107 (dk_at dksX0_back_1 5 rfl rfl)
theorem dX0_back_30 : decode cX0_back 30 = .ok (.aload_n 0, 1) := dk_42 (dk_at dksX0_back_1 8 rfl rfl)
theorem dX0_back_31 : decode cX0_back 31 = .ok (.getfield 24, 3) := dk_180 0 24 (dk_at dksX0_back_1 9 rfl rfl)
theorem dX0_back_34 : decode cX0_back 34 = .ok (.getfield 107, 3) := dk_180 0 107 (dk_at dksX0_back_1 12 rfl rfl)
theorem dX0_back_37 : decode cX0_back 37 = .ok (.ireturn, 1) := dk_172 (dk_at dksX0_back_1 15 rfl rfl)
abbrev cX0_read : ByteArray := prog_1_method_7_code
def yX0_read : MethodName := ⟨RX0, "read", "()I"⟩
def dkwX0_read_3 : List UInt8 := [180, 0, 131, 181, 0, 44, 42, 180, 0, 24, 3, 181, 0, 107, 27, 172]
abbrev dktX0_read_3 : List UInt8 := dkwX0_read_3 ++ []
def dkwX0_read_2 : List UInt8 := [180, 0, 78, 28, 3, 84, 132, 2, 1, 167, 255, 241, 167, 0, 17, 77, 44, 180, 0, 128, 60, 42, 44]
abbrev dktX0_read_2 : List UInt8 := dkwX0_read_2 ++ dktX0_read_3
def dkwX0_read_1 : List UInt8 := [180, 0, 40, 182, 0, 103, 42, 3, 181, 0, 122, 42, 3, 181, 0, 125, 3, 61, 28, 6, 162, 0, 16, 42]
abbrev dktX0_read_1 : List UInt8 := dkwX0_read_1 ++ dktX0_read_2
def dkwX0_read_0 : List UInt8 := [3, 60, 42, 2, 181, 0, 44, 42, 42, 180, 0, 33, 182, 0, 118, 181, 0, 40, 42, 180, 0, 51, 42]
abbrev dktX0_read_0 : List UInt8 := dkwX0_read_0 ++ dktX0_read_1
theorem dksX0_read_0 : cX0_read.data.toList.drop 0 = dktX0_read_0 := by decide +kernel
theorem dksX0_read_1 : cX0_read.data.toList.drop 23 = dktX0_read_1 := dk_seg dksX0_read_0 23 rfl rfl
theorem dksX0_read_2 : cX0_read.data.toList.drop 47 = dktX0_read_2 := dk_seg dksX0_read_1 24 rfl rfl
theorem dksX0_read_3 : cX0_read.data.toList.drop 70 = dktX0_read_3 := dk_seg dksX0_read_2 23 rfl rfl
theorem dX0_read_0 : decode cX0_read 0 = .ok (.iconst 0, 1) := dk_3 (dk_at dksX0_read_0 0 rfl rfl)
theorem dX0_read_1 : decode cX0_read 1 = .ok (.istore_n 1, 1) := dk_60 (dk_at dksX0_read_0 1 rfl rfl)
theorem dX0_read_2 : decode cX0_read 2 = .ok (.aload_n 0, 1) := dk_42 (dk_at dksX0_read_0 2 rfl rfl)
theorem dX0_read_3 : decode cX0_read 3 = .ok (.iconst (-1), 1) := dk_2 (dk_at dksX0_read_0 3 rfl rfl)
theorem dX0_read_4 : decode cX0_read 4 = .ok (.putfield 44, 3) := dk_181 0 44 (dk_at dksX0_read_0 4 rfl rfl)
theorem dX0_read_7 : decode cX0_read 7 = .ok (.aload_n 0, 1) := dk_42 (dk_at dksX0_read_0 7 rfl rfl)
theorem dX0_read_8 : decode cX0_read 8 = .ok (.aload_n 0, 1) := dk_42 (dk_at dksX0_read_0 8 rfl rfl)
theorem dX0_read_9 : decode cX0_read 9 = .ok (.getfield 33, 3) := dk_180 0 33 (dk_at dksX0_read_0 9 rfl rfl)
theorem dX0_read_12 : decode cX0_read 12 = .ok (.invokevirtual 118, 3) := dk_182 0 118 (dk_at dksX0_read_0 12 rfl rfl)
theorem dX0_read_15 : decode cX0_read 15 = .ok (.putfield 40, 3) := dk_181 0 40 (dk_at dksX0_read_0 15 rfl rfl)
theorem dX0_read_18 : decode cX0_read 18 = .ok (.aload_n 0, 1) := dk_42 (dk_at dksX0_read_0 18 rfl rfl)
theorem dX0_read_19 : decode cX0_read 19 = .ok (.getfield 51, 3) := dk_180 0 51 (dk_at dksX0_read_0 19 rfl rfl)
theorem dX0_read_22 : decode cX0_read 22 = .ok (.aload_n 0, 1) := dk_42 (dk_at dksX0_read_0 22 rfl rfl)
theorem dX0_read_23 : decode cX0_read 23 = .ok (.getfield 40, 3) := dk_180 0 40 (dk_at dksX0_read_1 0 rfl rfl)
theorem dX0_read_26 : decode cX0_read 26 = .ok (.invokevirtual 103, 3) := dk_182 0 103 (dk_at dksX0_read_1 3 rfl rfl)
theorem dX0_read_29 : decode cX0_read 29 = .ok (.aload_n 0, 1) := dk_42 (dk_at dksX0_read_1 6 rfl rfl)
theorem dX0_read_30 : decode cX0_read 30 = .ok (.iconst 0, 1) := dk_3 (dk_at dksX0_read_1 7 rfl rfl)
theorem dX0_read_31 : decode cX0_read 31 = .ok (.putfield 122, 3) := dk_181 0 122 (dk_at dksX0_read_1 8 rfl rfl)
theorem dX0_read_34 : decode cX0_read 34 = .ok (.aload_n 0, 1) := dk_42 (dk_at dksX0_read_1 11 rfl rfl)
theorem dX0_read_35 : decode cX0_read 35 = .ok (.iconst 0, 1) := dk_3 (dk_at dksX0_read_1 12 rfl rfl)
theorem dX0_read_36 : decode cX0_read 36 = .ok (.putfield 125, 3) := dk_181 0 125 (dk_at dksX0_read_1 13 rfl rfl)
theorem dX0_read_39 : decode cX0_read 39 = .ok (.iconst 0, 1) := dk_3 (dk_at dksX0_read_1 16 rfl rfl)
theorem dX0_read_40 : decode cX0_read 40 = .ok (.istore_n 2, 1) := dk_61 (dk_at dksX0_read_1 17 rfl rfl)
theorem dX0_read_41 : decode cX0_read 41 = .ok (.iload_n 2, 1) := dk_28 (dk_at dksX0_read_1 18 rfl rfl)
theorem dX0_read_42 : decode cX0_read 42 = .ok (.iconst 3, 1) := dk_6 (dk_at dksX0_read_1 19 rfl rfl)
theorem dX0_read_43 : decode cX0_read 43 = .ok (.if_icmp .ge 16, 3) := dk_162 0 16 (dk_at dksX0_read_1 20 rfl rfl)
theorem dX0_read_46 : decode cX0_read 46 = .ok (.aload_n 0, 1) := dk_42 (dk_at dksX0_read_1 23 rfl rfl)
theorem dX0_read_47 : decode cX0_read 47 = .ok (.getfield 78, 3) := dk_180 0 78 (dk_at dksX0_read_2 0 rfl rfl)
theorem dX0_read_50 : decode cX0_read 50 = .ok (.iload_n 2, 1) := dk_28 (dk_at dksX0_read_2 3 rfl rfl)
theorem dX0_read_51 : decode cX0_read 51 = .ok (.iconst 0, 1) := dk_3 (dk_at dksX0_read_2 4 rfl rfl)
theorem dX0_read_52 : decode cX0_read 52 = .ok (.bastore, 1) := dk_84 (dk_at dksX0_read_2 5 rfl rfl)
theorem dX0_read_53 : decode cX0_read 53 = .ok (.iinc 2 1, 3) := dk_132 2 1 (dk_at dksX0_read_2 6 rfl rfl)
theorem dX0_read_56 : decode cX0_read 56 = .ok (.goto (-15), 3) := dk_167 255 241 (dk_at dksX0_read_2 9 rfl rfl)
theorem dX0_read_59 : decode cX0_read 59 = .ok (.goto 17, 3) := dk_167 0 17 (dk_at dksX0_read_2 12 rfl rfl)
theorem dX0_read_62 : decode cX0_read 62 = .ok (.astore_n 2, 1) := dk_77 (dk_at dksX0_read_2 15 rfl rfl)
theorem dX0_read_63 : decode cX0_read 63 = .ok (.aload_n 2, 1) := dk_44 (dk_at dksX0_read_2 16 rfl rfl)
theorem dX0_read_64 : decode cX0_read 64 = .ok (.getfield 128, 3) := dk_180 0 128 (dk_at dksX0_read_2 17 rfl rfl)
theorem dX0_read_67 : decode cX0_read 67 = .ok (.istore_n 1, 1) := dk_60 (dk_at dksX0_read_2 20 rfl rfl)
theorem dX0_read_68 : decode cX0_read 68 = .ok (.aload_n 0, 1) := dk_42 (dk_at dksX0_read_2 21 rfl rfl)
theorem dX0_read_69 : decode cX0_read 69 = .ok (.aload_n 2, 1) := dk_44 (dk_at dksX0_read_2 22 rfl rfl)
theorem dX0_read_70 : decode cX0_read 70 = .ok (.getfield 131, 3) := dk_180 0 131 (dk_at dksX0_read_3 0 rfl rfl)
theorem dX0_read_73 : decode cX0_read 73 = .ok (.putfield 44, 3) := dk_181 0 44 (dk_at dksX0_read_3 3 rfl rfl)
theorem dX0_read_76 : decode cX0_read 76 = .ok (.aload_n 0, 1) := dk_42 (dk_at dksX0_read_3 6 rfl rfl)
theorem dX0_read_77 : decode cX0_read 77 = .ok (.getfield 24, 3) := dk_180 0 24 (dk_at dksX0_read_3 7 rfl rfl)
theorem dX0_read_80 : decode cX0_read 80 = .ok (.iconst 0, 1) := dk_3 (dk_at dksX0_read_3 10 rfl rfl)
theorem dX0_read_81 : decode cX0_read 81 = .ok (.putfield 107, 3) := dk_181 0 107 (dk_at dksX0_read_3 11 rfl rfl)
theorem dX0_read_84 : decode cX0_read 84 = .ok (.iload_n 1, 1) := dk_27 (dk_at dksX0_read_3 14 rfl rfl)
theorem dX0_read_85 : decode cX0_read 85 = .ok (.ireturn, 1) := dk_172 (dk_at dksX0_read_3 15 rfl rfl)
abbrev cX0_place : ByteArray := prog_1_method_8_code
def yX0_place : MethodName := ⟨RX0, "place", "()I"⟩
theorem dX0_place_0 : decode cX0_place 0 = .ok (.aload_n 0, 1) := by decide +kernel
theorem dX0_place_1 : decode cX0_place 1 = .ok (.getfield 44, 3) := by decide +kernel
theorem dX0_place_4 : decode cX0_place 4 = .ok (.ireturn, 1) := by decide +kernel
abbrev cX0_sunday : ByteArray := prog_1_method_16_code
def yX0_sunday : MethodName := ⟨RX0, "sunday", "(II)I"⟩
def dkwX0_sunday_6 : List UInt8 := [180, 0, 40, 27, 182, 0, 182, 172, 2, 172]
abbrev dktX0_sunday_6 : List UInt8 := dkwX0_sunday_6 ++ []
def dkwX0_sunday_5 : List UInt8 := [182, 0, 175, 172, 42, 180, 0, 51, 42, 180, 0, 40, 27, 182, 0, 178, 172, 42, 180, 0, 51, 42]
abbrev dktX0_sunday_5 : List UInt8 := dkwX0_sunday_5 ++ dktX0_sunday_6
def dkwX0_sunday_4 : List UInt8 := [42, 180, 0, 51, 27, 182, 0, 157, 153, 0, 7, 4, 167, 0, 4, 3, 172, 42, 180, 0, 51, 27]
abbrev dktX0_sunday_4 : List UInt8 := dkwX0_sunday_4 ++ dktX0_sunday_5
def dkwX0_sunday_3 : List UInt8 := [180, 0, 132, 27, 182, 0, 160, 192, 0, 164, 180, 0, 169, 172, 42, 180, 0, 51, 180, 0, 172, 27, 46, 172]
abbrev dktX0_sunday_3 : List UInt8 := dkwX0_sunday_3 ++ dktX0_sunday_4
def dkwX0_sunday_2 : List UInt8 := [42, 180, 0, 40, 180, 0, 132, 27, 182, 0, 160, 192, 0, 164, 180, 0, 166, 172, 42, 180, 0, 40]
abbrev dktX0_sunday_2 : List UInt8 := dkwX0_sunday_2 ++ dktX0_sunday_3
def dkwX0_sunday_1 : List UInt8 := [170, 0, 0, 0, 139, 0, 0, 0, 0, 0, 0, 0, 6, 0, 0, 0, 41, 0, 0, 0, 59, 0, 0, 0, 77, 0, 0, 0, 87, 0, 0, 0, 104, 0, 0, 0, 113, 0, 0, 0, 126]
abbrev dktX0_sunday_1 : List UInt8 := dkwX0_sunday_1 ++ dktX0_sunday_2
def dkwX0_sunday_0 : List UInt8 := [42, 27, 182, 0, 153, 154, 0, 5, 2, 172, 28]
abbrev dktX0_sunday_0 : List UInt8 := dkwX0_sunday_0 ++ dktX0_sunday_1
theorem dksX0_sunday_0 : cX0_sunday.data.toList.drop 0 = dktX0_sunday_0 := by decide +kernel
theorem dksX0_sunday_1 : cX0_sunday.data.toList.drop 11 = dktX0_sunday_1 := dk_seg dksX0_sunday_0 11 rfl rfl
theorem dksX0_sunday_2 : cX0_sunday.data.toList.drop 52 = dktX0_sunday_2 := dk_seg dksX0_sunday_1 41 rfl rfl
theorem dksX0_sunday_3 : cX0_sunday.data.toList.drop 74 = dktX0_sunday_3 := dk_seg dksX0_sunday_2 22 rfl rfl
theorem dksX0_sunday_4 : cX0_sunday.data.toList.drop 98 = dktX0_sunday_4 := dk_seg dksX0_sunday_3 24 rfl rfl
theorem dksX0_sunday_5 : cX0_sunday.data.toList.drop 120 = dktX0_sunday_5 := dk_seg dksX0_sunday_4 22 rfl rfl
theorem dksX0_sunday_6 : cX0_sunday.data.toList.drop 142 = dktX0_sunday_6 := dk_seg dksX0_sunday_5 22 rfl rfl
theorem dX0_sunday_0 : decode cX0_sunday 0 = .ok (.aload_n 0, 1) := dk_42 (dk_at dksX0_sunday_0 0 rfl rfl)
theorem dX0_sunday_1 : decode cX0_sunday 1 = .ok (.iload_n 1, 1) := dk_27 (dk_at dksX0_sunday_0 1 rfl rfl)
theorem dX0_sunday_2 : decode cX0_sunday 2 = .ok (.invokevirtual 153, 3) := dk_182 0 153 (dk_at dksX0_sunday_0 2 rfl rfl)
theorem dX0_sunday_5 : decode cX0_sunday 5 = .ok (.ifCond .ne 5, 3) := dk_154 0 5 (dk_at dksX0_sunday_0 5 rfl rfl)
theorem dX0_sunday_8 : decode cX0_sunday 8 = .ok (.iconst (-1), 1) := dk_2 (dk_at dksX0_sunday_0 8 rfl rfl)
theorem dX0_sunday_9 : decode cX0_sunday 9 = .ok (.ireturn, 1) := dk_172 (dk_at dksX0_sunday_0 9 rfl rfl)
theorem dX0_sunday_10 : decode cX0_sunday 10 = .ok (.iload_n 2, 1) := dk_28 (dk_at dksX0_sunday_0 10 rfl rfl)
theorem dX0_sunday_11 : decode cX0_sunday 11 = .ok (.tableswitch 139 0 6 #[41, 59, 77, 87, 104, 113, 126], 41) := by decide +kernel
theorem dX0_sunday_52 : decode cX0_sunday 52 = .ok (.aload_n 0, 1) := dk_42 (dk_at dksX0_sunday_2 0 rfl rfl)
theorem dX0_sunday_53 : decode cX0_sunday 53 = .ok (.getfield 40, 3) := dk_180 0 40 (dk_at dksX0_sunday_2 1 rfl rfl)
theorem dX0_sunday_56 : decode cX0_sunday 56 = .ok (.getfield 132, 3) := dk_180 0 132 (dk_at dksX0_sunday_2 4 rfl rfl)
theorem dX0_sunday_59 : decode cX0_sunday 59 = .ok (.iload_n 1, 1) := dk_27 (dk_at dksX0_sunday_2 7 rfl rfl)
theorem dX0_sunday_60 : decode cX0_sunday 60 = .ok (.invokevirtual 160, 3) := dk_182 0 160 (dk_at dksX0_sunday_2 8 rfl rfl)
theorem dX0_sunday_63 : decode cX0_sunday 63 = .ok (.checkcast 164, 3) := dk_192 0 164 (dk_at dksX0_sunday_2 11 rfl rfl)
theorem dX0_sunday_66 : decode cX0_sunday 66 = .ok (.getfield 166, 3) := dk_180 0 166 (dk_at dksX0_sunday_2 14 rfl rfl)
theorem dX0_sunday_69 : decode cX0_sunday 69 = .ok (.ireturn, 1) := dk_172 (dk_at dksX0_sunday_2 17 rfl rfl)
theorem dX0_sunday_70 : decode cX0_sunday 70 = .ok (.aload_n 0, 1) := dk_42 (dk_at dksX0_sunday_2 18 rfl rfl)
theorem dX0_sunday_71 : decode cX0_sunday 71 = .ok (.getfield 40, 3) := dk_180 0 40 (dk_at dksX0_sunday_2 19 rfl rfl)
theorem dX0_sunday_74 : decode cX0_sunday 74 = .ok (.getfield 132, 3) := dk_180 0 132 (dk_at dksX0_sunday_3 0 rfl rfl)
theorem dX0_sunday_77 : decode cX0_sunday 77 = .ok (.iload_n 1, 1) := dk_27 (dk_at dksX0_sunday_3 3 rfl rfl)
theorem dX0_sunday_78 : decode cX0_sunday 78 = .ok (.invokevirtual 160, 3) := dk_182 0 160 (dk_at dksX0_sunday_3 4 rfl rfl)
theorem dX0_sunday_81 : decode cX0_sunday 81 = .ok (.checkcast 164, 3) := dk_192 0 164 (dk_at dksX0_sunday_3 7 rfl rfl)
theorem dX0_sunday_84 : decode cX0_sunday 84 = .ok (.getfield 169, 3) := dk_180 0 169 (dk_at dksX0_sunday_3 10 rfl rfl)
theorem dX0_sunday_87 : decode cX0_sunday 87 = .ok (.ireturn, 1) := dk_172 (dk_at dksX0_sunday_3 13 rfl rfl)
theorem dX0_sunday_88 : decode cX0_sunday 88 = .ok (.aload_n 0, 1) := dk_42 (dk_at dksX0_sunday_3 14 rfl rfl)
theorem dX0_sunday_89 : decode cX0_sunday 89 = .ok (.getfield 51, 3) := dk_180 0 51 (dk_at dksX0_sunday_3 15 rfl rfl)
theorem dX0_sunday_92 : decode cX0_sunday 92 = .ok (.getfield 172, 3) := dk_180 0 172 (dk_at dksX0_sunday_3 18 rfl rfl)
theorem dX0_sunday_95 : decode cX0_sunday 95 = .ok (.iload_n 1, 1) := dk_27 (dk_at dksX0_sunday_3 21 rfl rfl)
theorem dX0_sunday_96 : decode cX0_sunday 96 = .ok (.iaload, 1) := dk_46 (dk_at dksX0_sunday_3 22 rfl rfl)
theorem dX0_sunday_97 : decode cX0_sunday 97 = .ok (.ireturn, 1) := dk_172 (dk_at dksX0_sunday_3 23 rfl rfl)
theorem dX0_sunday_98 : decode cX0_sunday 98 = .ok (.aload_n 0, 1) := dk_42 (dk_at dksX0_sunday_4 0 rfl rfl)
theorem dX0_sunday_99 : decode cX0_sunday 99 = .ok (.getfield 51, 3) := dk_180 0 51 (dk_at dksX0_sunday_4 1 rfl rfl)
theorem dX0_sunday_102 : decode cX0_sunday 102 = .ok (.iload_n 1, 1) := dk_27 (dk_at dksX0_sunday_4 4 rfl rfl)
theorem dX0_sunday_103 : decode cX0_sunday 103 = .ok (.invokevirtual 157, 3) := dk_182 0 157 (dk_at dksX0_sunday_4 5 rfl rfl)
theorem dX0_sunday_106 : decode cX0_sunday 106 = .ok (.ifCond .eq 7, 3) := dk_153 0 7 (dk_at dksX0_sunday_4 8 rfl rfl)
theorem dX0_sunday_109 : decode cX0_sunday 109 = .ok (.iconst 1, 1) := dk_4 (dk_at dksX0_sunday_4 11 rfl rfl)
theorem dX0_sunday_110 : decode cX0_sunday 110 = .ok (.goto 4, 3) := dk_167 0 4 (dk_at dksX0_sunday_4 12 rfl rfl)
theorem dX0_sunday_113 : decode cX0_sunday 113 = .ok (.iconst 0, 1) := dk_3 (dk_at dksX0_sunday_4 15 rfl rfl)
theorem dX0_sunday_114 : decode cX0_sunday 114 = .ok (.ireturn, 1) := dk_172 (dk_at dksX0_sunday_4 16 rfl rfl)
theorem dX0_sunday_115 : decode cX0_sunday 115 = .ok (.aload_n 0, 1) := dk_42 (dk_at dksX0_sunday_4 17 rfl rfl)
theorem dX0_sunday_116 : decode cX0_sunday 116 = .ok (.getfield 51, 3) := dk_180 0 51 (dk_at dksX0_sunday_4 18 rfl rfl)
theorem dX0_sunday_119 : decode cX0_sunday 119 = .ok (.iload_n 1, 1) := dk_27 (dk_at dksX0_sunday_4 21 rfl rfl)
theorem dX0_sunday_120 : decode cX0_sunday 120 = .ok (.invokevirtual 175, 3) := dk_182 0 175 (dk_at dksX0_sunday_5 0 rfl rfl)
theorem dX0_sunday_123 : decode cX0_sunday 123 = .ok (.ireturn, 1) := dk_172 (dk_at dksX0_sunday_5 3 rfl rfl)
theorem dX0_sunday_124 : decode cX0_sunday 124 = .ok (.aload_n 0, 1) := dk_42 (dk_at dksX0_sunday_5 4 rfl rfl)
theorem dX0_sunday_125 : decode cX0_sunday 125 = .ok (.getfield 51, 3) := dk_180 0 51 (dk_at dksX0_sunday_5 5 rfl rfl)
theorem dX0_sunday_128 : decode cX0_sunday 128 = .ok (.aload_n 0, 1) := dk_42 (dk_at dksX0_sunday_5 8 rfl rfl)
theorem dX0_sunday_129 : decode cX0_sunday 129 = .ok (.getfield 40, 3) := dk_180 0 40 (dk_at dksX0_sunday_5 9 rfl rfl)
theorem dX0_sunday_132 : decode cX0_sunday 132 = .ok (.iload_n 1, 1) := dk_27 (dk_at dksX0_sunday_5 12 rfl rfl)
theorem dX0_sunday_133 : decode cX0_sunday 133 = .ok (.invokevirtual 178, 3) := dk_182 0 178 (dk_at dksX0_sunday_5 13 rfl rfl)
theorem dX0_sunday_136 : decode cX0_sunday 136 = .ok (.ireturn, 1) := dk_172 (dk_at dksX0_sunday_5 16 rfl rfl)
theorem dX0_sunday_137 : decode cX0_sunday 137 = .ok (.aload_n 0, 1) := dk_42 (dk_at dksX0_sunday_5 17 rfl rfl)
theorem dX0_sunday_138 : decode cX0_sunday 138 = .ok (.getfield 51, 3) := dk_180 0 51 (dk_at dksX0_sunday_5 18 rfl rfl)
theorem dX0_sunday_141 : decode cX0_sunday 141 = .ok (.aload_n 0, 1) := dk_42 (dk_at dksX0_sunday_5 21 rfl rfl)
theorem dX0_sunday_142 : decode cX0_sunday 142 = .ok (.getfield 40, 3) := dk_180 0 40 (dk_at dksX0_sunday_6 0 rfl rfl)
theorem dX0_sunday_145 : decode cX0_sunday 145 = .ok (.iload_n 1, 1) := dk_27 (dk_at dksX0_sunday_6 3 rfl rfl)
theorem dX0_sunday_146 : decode cX0_sunday 146 = .ok (.invokevirtual 182, 3) := dk_182 0 182 (dk_at dksX0_sunday_6 4 rfl rfl)
theorem dX0_sunday_149 : decode cX0_sunday 149 = .ok (.ireturn, 1) := dk_172 (dk_at dksX0_sunday_6 7 rfl rfl)
theorem dX0_sunday_150 : decode cX0_sunday 150 = .ok (.iconst (-1), 1) := dk_2 (dk_at dksX0_sunday_6 8 rfl rfl)
theorem dX0_sunday_151 : decode cX0_sunday 151 = .ok (.ireturn, 1) := dk_172 (dk_at dksX0_sunday_6 9 rfl rfl)
abbrev cX0_isSunday : ByteArray := prog_1_method_12_code
def yX0_isSunday : MethodName := ⟨RX0, "isSunday", "(I)Z"⟩
def dkwX0_isSunday_0 : List UInt8 := [27, 3, 42, 182, 0, 145, 4, 100, 184, 0, 147, 172]
abbrev dktX0_isSunday_0 : List UInt8 := dkwX0_isSunday_0 ++ []
theorem dksX0_isSunday_0 : cX0_isSunday.data.toList.drop 0 = dktX0_isSunday_0 := by decide +kernel
theorem dX0_isSunday_0 : decode cX0_isSunday 0 = .ok (.iload_n 1, 1) := dk_27 (dk_at dksX0_isSunday_0 0 rfl rfl)
theorem dX0_isSunday_1 : decode cX0_isSunday 1 = .ok (.iconst 0, 1) := dk_3 (dk_at dksX0_isSunday_0 1 rfl rfl)
theorem dX0_isSunday_2 : decode cX0_isSunday 2 = .ok (.aload_n 0, 1) := dk_42 (dk_at dksX0_isSunday_0 2 rfl rfl)
theorem dX0_isSunday_3 : decode cX0_isSunday 3 = .ok (.invokevirtual 145, 3) := dk_182 0 145 (dk_at dksX0_isSunday_0 3 rfl rfl)
theorem dX0_isSunday_6 : decode cX0_isSunday 6 = .ok (.iconst 1, 1) := dk_4 (dk_at dksX0_isSunday_0 6 rfl rfl)
theorem dX0_isSunday_7 : decode cX0_isSunday 7 = .ok (.isub, 1) := dk_100 (dk_at dksX0_isSunday_0 7 rfl rfl)
theorem dX0_isSunday_8 : decode cX0_isSunday 8 = .ok (.invokestatic 147, 3) := dk_184 0 147 (dk_at dksX0_isSunday_0 8 rfl rfl)
theorem dX0_isSunday_11 : decode cX0_isSunday 11 = .ok (.ireturn, 1) := dk_172 (dk_at dksX0_isSunday_0 11 rfl rfl)
abbrev cX0_sundays : ByteArray := prog_1_method_10_code
def yX0_sundays : MethodName := ⟨RX0, "sundays", "()I"⟩
def dkwX0_sundays_0 : List UInt8 := [42, 180, 0, 40, 180, 0, 132, 182, 0, 136, 172]
abbrev dktX0_sundays_0 : List UInt8 := dkwX0_sundays_0 ++ []
theorem dksX0_sundays_0 : cX0_sundays.data.toList.drop 0 = dktX0_sundays_0 := by decide +kernel
theorem dX0_sundays_0 : decode cX0_sundays 0 = .ok (.aload_n 0, 1) := dk_42 (dk_at dksX0_sundays_0 0 rfl rfl)
theorem dX0_sundays_1 : decode cX0_sundays 1 = .ok (.getfield 40, 3) := dk_180 0 40 (dk_at dksX0_sundays_0 1 rfl rfl)
theorem dX0_sundays_4 : decode cX0_sundays 4 = .ok (.getfield 132, 3) := dk_180 0 132 (dk_at dksX0_sundays_0 4 rfl rfl)
theorem dX0_sundays_7 : decode cX0_sundays 7 = .ok (.invokevirtual 136, 3) := dk_182 0 136 (dk_at dksX0_sundays_0 7 rfl rfl)
theorem dX0_sundays_10 : decode cX0_sundays 10 = .ok (.ireturn, 1) := dk_172 (dk_at dksX0_sundays_0 10 rfl rfl)
abbrev cX0_isIn : ByteArray := prog_1_method_9_code
def yX0_isIn : MethodName := ⟨RX0, "isIn", "(III)Z"⟩
def dkwX0_isIn_0 : List UInt8 := [26, 27, 161, 0, 12, 26, 28, 163, 0, 7, 4, 167, 0, 4, 3, 172]
abbrev dktX0_isIn_0 : List UInt8 := dkwX0_isIn_0 ++ []
theorem dksX0_isIn_0 : cX0_isIn.data.toList.drop 0 = dktX0_isIn_0 := by decide +kernel
theorem dX0_isIn_0 : decode cX0_isIn 0 = .ok (.iload_n 0, 1) := dk_26 (dk_at dksX0_isIn_0 0 rfl rfl)
theorem dX0_isIn_1 : decode cX0_isIn 1 = .ok (.iload_n 1, 1) := dk_27 (dk_at dksX0_isIn_0 1 rfl rfl)
theorem dX0_isIn_2 : decode cX0_isIn 2 = .ok (.if_icmp .lt 12, 3) := dk_161 0 12 (dk_at dksX0_isIn_0 2 rfl rfl)
theorem dX0_isIn_5 : decode cX0_isIn 5 = .ok (.iload_n 0, 1) := dk_26 (dk_at dksX0_isIn_0 5 rfl rfl)
theorem dX0_isIn_6 : decode cX0_isIn 6 = .ok (.iload_n 2, 1) := dk_28 (dk_at dksX0_isIn_0 6 rfl rfl)
theorem dX0_isIn_7 : decode cX0_isIn 7 = .ok (.if_icmp .gt 7, 3) := dk_163 0 7 (dk_at dksX0_isIn_0 7 rfl rfl)
theorem dX0_isIn_10 : decode cX0_isIn 10 = .ok (.iconst 1, 1) := dk_4 (dk_at dksX0_isIn_0 10 rfl rfl)
theorem dX0_isIn_11 : decode cX0_isIn 11 = .ok (.goto 4, 3) := dk_167 0 4 (dk_at dksX0_isIn_0 11 rfl rfl)
theorem dX0_isIn_14 : decode cX0_isIn 14 = .ok (.iconst 0, 1) := dk_3 (dk_at dksX0_isIn_0 14 rfl rfl)
theorem dX0_isIn_15 : decode cX0_isIn 15 = .ok (.ireturn, 1) := dk_172 (dk_at dksX0_isIn_0 15 rfl rfl)
abbrev cX0_guest : ByteArray := prog_1_method_17_code
def yX0_guest : MethodName := ⟨RX0, "guest", "(II)I"⟩
def dkwX0_guest_6 : List UInt8 := [180, 0, 40, 27, 182, 0, 209, 172, 2, 172]
abbrev dktX0_guest_6 : List UInt8 := dkwX0_guest_6 ++ []
def dkwX0_guest_5 : List UInt8 := [167, 0, 4, 3, 172, 42, 180, 0, 51, 42, 180, 0, 40, 27, 182, 0, 206, 172, 42, 180, 0, 51, 42]
abbrev dktX0_guest_5 : List UInt8 := dkwX0_guest_5 ++ dktX0_guest_6
def dkwX0_guest_4 : List UInt8 := [172, 42, 180, 0, 51, 180, 0, 200, 27, 46, 172, 42, 180, 0, 51, 27, 182, 0, 203, 153, 0, 7, 4]
abbrev dktX0_guest_4 : List UInt8 := dkwX0_guest_4 ++ dktX0_guest_5
def dkwX0_guest_3 : List UInt8 := [45, 180, 0, 190, 172, 45, 180, 0, 193, 172, 45, 180, 0, 194, 172, 42, 180, 0, 51, 180, 0, 197, 27, 46]
abbrev dktX0_guest_3 : List UInt8 := dkwX0_guest_3 ++ dktX0_guest_4
def dkwX0_guest_2 : List UInt8 := [170, 0, 0, 0, 0, 124, 0, 0, 0, 0, 0, 0, 0, 7, 0, 0, 0, 46, 0, 0, 0, 51, 0, 0, 0, 56, 0, 0, 0, 61, 0, 0, 0, 71, 0, 0, 0, 81, 0, 0, 0, 98, 0, 0, 0, 111]
abbrev dktX0_guest_2 : List UInt8 := dkwX0_guest_2 ++ dktX0_guest_3
def dkwX0_guest_1 : List UInt8 := [78, 28]
abbrev dktX0_guest_1 : List UInt8 := dkwX0_guest_1 ++ dktX0_guest_2
def dkwX0_guest_0 : List UInt8 := [42, 27, 182, 0, 185, 154, 0, 5, 2, 172, 42, 180, 0, 40, 180, 0, 142, 27, 182, 0, 160, 192, 0, 188]
abbrev dktX0_guest_0 : List UInt8 := dkwX0_guest_0 ++ dktX0_guest_1
theorem dksX0_guest_0 : cX0_guest.data.toList.drop 0 = dktX0_guest_0 := by decide +kernel
theorem dksX0_guest_1 : cX0_guest.data.toList.drop 24 = dktX0_guest_1 := dk_seg dksX0_guest_0 24 rfl rfl
theorem dksX0_guest_2 : cX0_guest.data.toList.drop 26 = dktX0_guest_2 := dk_seg dksX0_guest_1 2 rfl rfl
theorem dksX0_guest_3 : cX0_guest.data.toList.drop 72 = dktX0_guest_3 := dk_seg dksX0_guest_2 46 rfl rfl
theorem dksX0_guest_4 : cX0_guest.data.toList.drop 96 = dktX0_guest_4 := dk_seg dksX0_guest_3 24 rfl rfl
theorem dksX0_guest_5 : cX0_guest.data.toList.drop 119 = dktX0_guest_5 := dk_seg dksX0_guest_4 23 rfl rfl
theorem dksX0_guest_6 : cX0_guest.data.toList.drop 142 = dktX0_guest_6 := dk_seg dksX0_guest_5 23 rfl rfl
theorem dX0_guest_0 : decode cX0_guest 0 = .ok (.aload_n 0, 1) := dk_42 (dk_at dksX0_guest_0 0 rfl rfl)
theorem dX0_guest_1 : decode cX0_guest 1 = .ok (.iload_n 1, 1) := dk_27 (dk_at dksX0_guest_0 1 rfl rfl)
theorem dX0_guest_2 : decode cX0_guest 2 = .ok (.invokevirtual 185, 3) := dk_182 0 185 (dk_at dksX0_guest_0 2 rfl rfl)
theorem dX0_guest_5 : decode cX0_guest 5 = .ok (.ifCond .ne 5, 3) := dk_154 0 5 (dk_at dksX0_guest_0 5 rfl rfl)
theorem dX0_guest_8 : decode cX0_guest 8 = .ok (.iconst (-1), 1) := dk_2 (dk_at dksX0_guest_0 8 rfl rfl)
theorem dX0_guest_9 : decode cX0_guest 9 = .ok (.ireturn, 1) := dk_172 (dk_at dksX0_guest_0 9 rfl rfl)
theorem dX0_guest_10 : decode cX0_guest 10 = .ok (.aload_n 0, 1) := dk_42 (dk_at dksX0_guest_0 10 rfl rfl)
theorem dX0_guest_11 : decode cX0_guest 11 = .ok (.getfield 40, 3) := dk_180 0 40 (dk_at dksX0_guest_0 11 rfl rfl)
theorem dX0_guest_14 : decode cX0_guest 14 = .ok (.getfield 142, 3) := dk_180 0 142 (dk_at dksX0_guest_0 14 rfl rfl)
theorem dX0_guest_17 : decode cX0_guest 17 = .ok (.iload_n 1, 1) := dk_27 (dk_at dksX0_guest_0 17 rfl rfl)
theorem dX0_guest_18 : decode cX0_guest 18 = .ok (.invokevirtual 160, 3) := dk_182 0 160 (dk_at dksX0_guest_0 18 rfl rfl)
theorem dX0_guest_21 : decode cX0_guest 21 = .ok (.checkcast 188, 3) := dk_192 0 188 (dk_at dksX0_guest_0 21 rfl rfl)
theorem dX0_guest_24 : decode cX0_guest 24 = .ok (.astore_n 3, 1) := dk_78 (dk_at dksX0_guest_1 0 rfl rfl)
theorem dX0_guest_25 : decode cX0_guest 25 = .ok (.iload_n 2, 1) := dk_28 (dk_at dksX0_guest_1 1 rfl rfl)
theorem dX0_guest_26 : decode cX0_guest 26 = .ok (.tableswitch 124 0 7 #[46, 51, 56, 61, 71, 81, 98, 111], 46) := by decide +kernel
theorem dX0_guest_72 : decode cX0_guest 72 = .ok (.aload_n 3, 1) := dk_45 (dk_at dksX0_guest_3 0 rfl rfl)
theorem dX0_guest_73 : decode cX0_guest 73 = .ok (.getfield 190, 3) := dk_180 0 190 (dk_at dksX0_guest_3 1 rfl rfl)
theorem dX0_guest_76 : decode cX0_guest 76 = .ok (.ireturn, 1) := dk_172 (dk_at dksX0_guest_3 4 rfl rfl)
theorem dX0_guest_77 : decode cX0_guest 77 = .ok (.aload_n 3, 1) := dk_45 (dk_at dksX0_guest_3 5 rfl rfl)
theorem dX0_guest_78 : decode cX0_guest 78 = .ok (.getfield 193, 3) := dk_180 0 193 (dk_at dksX0_guest_3 6 rfl rfl)
theorem dX0_guest_81 : decode cX0_guest 81 = .ok (.ireturn, 1) := dk_172 (dk_at dksX0_guest_3 9 rfl rfl)
theorem dX0_guest_82 : decode cX0_guest 82 = .ok (.aload_n 3, 1) := dk_45 (dk_at dksX0_guest_3 10 rfl rfl)
theorem dX0_guest_83 : decode cX0_guest 83 = .ok (.getfield 194, 3) := dk_180 0 194 (dk_at dksX0_guest_3 11 rfl rfl)
theorem dX0_guest_86 : decode cX0_guest 86 = .ok (.ireturn, 1) := dk_172 (dk_at dksX0_guest_3 14 rfl rfl)
theorem dX0_guest_87 : decode cX0_guest 87 = .ok (.aload_n 0, 1) := dk_42 (dk_at dksX0_guest_3 15 rfl rfl)
theorem dX0_guest_88 : decode cX0_guest 88 = .ok (.getfield 51, 3) := dk_180 0 51 (dk_at dksX0_guest_3 16 rfl rfl)
theorem dX0_guest_91 : decode cX0_guest 91 = .ok (.getfield 197, 3) := dk_180 0 197 (dk_at dksX0_guest_3 19 rfl rfl)
theorem dX0_guest_94 : decode cX0_guest 94 = .ok (.iload_n 1, 1) := dk_27 (dk_at dksX0_guest_3 22 rfl rfl)
theorem dX0_guest_95 : decode cX0_guest 95 = .ok (.iaload, 1) := dk_46 (dk_at dksX0_guest_3 23 rfl rfl)
theorem dX0_guest_96 : decode cX0_guest 96 = .ok (.ireturn, 1) := dk_172 (dk_at dksX0_guest_4 0 rfl rfl)
theorem dX0_guest_97 : decode cX0_guest 97 = .ok (.aload_n 0, 1) := dk_42 (dk_at dksX0_guest_4 1 rfl rfl)
theorem dX0_guest_98 : decode cX0_guest 98 = .ok (.getfield 51, 3) := dk_180 0 51 (dk_at dksX0_guest_4 2 rfl rfl)
theorem dX0_guest_101 : decode cX0_guest 101 = .ok (.getfield 200, 3) := dk_180 0 200 (dk_at dksX0_guest_4 5 rfl rfl)
theorem dX0_guest_104 : decode cX0_guest 104 = .ok (.iload_n 1, 1) := dk_27 (dk_at dksX0_guest_4 8 rfl rfl)
theorem dX0_guest_105 : decode cX0_guest 105 = .ok (.iaload, 1) := dk_46 (dk_at dksX0_guest_4 9 rfl rfl)
theorem dX0_guest_106 : decode cX0_guest 106 = .ok (.ireturn, 1) := dk_172 (dk_at dksX0_guest_4 10 rfl rfl)
theorem dX0_guest_107 : decode cX0_guest 107 = .ok (.aload_n 0, 1) := dk_42 (dk_at dksX0_guest_4 11 rfl rfl)
theorem dX0_guest_108 : decode cX0_guest 108 = .ok (.getfield 51, 3) := dk_180 0 51 (dk_at dksX0_guest_4 12 rfl rfl)
theorem dX0_guest_111 : decode cX0_guest 111 = .ok (.iload_n 1, 1) := dk_27 (dk_at dksX0_guest_4 15 rfl rfl)
theorem dX0_guest_112 : decode cX0_guest 112 = .ok (.invokevirtual 203, 3) := dk_182 0 203 (dk_at dksX0_guest_4 16 rfl rfl)
theorem dX0_guest_115 : decode cX0_guest 115 = .ok (.ifCond .eq 7, 3) := dk_153 0 7 (dk_at dksX0_guest_4 19 rfl rfl)
theorem dX0_guest_118 : decode cX0_guest 118 = .ok (.iconst 1, 1) := dk_4 (dk_at dksX0_guest_4 22 rfl rfl)
theorem dX0_guest_119 : decode cX0_guest 119 = .ok (.goto 4, 3) := dk_167 0 4 (dk_at dksX0_guest_5 0 rfl rfl)
theorem dX0_guest_122 : decode cX0_guest 122 = .ok (.iconst 0, 1) := dk_3 (dk_at dksX0_guest_5 3 rfl rfl)
theorem dX0_guest_123 : decode cX0_guest 123 = .ok (.ireturn, 1) := dk_172 (dk_at dksX0_guest_5 4 rfl rfl)
theorem dX0_guest_124 : decode cX0_guest 124 = .ok (.aload_n 0, 1) := dk_42 (dk_at dksX0_guest_5 5 rfl rfl)
theorem dX0_guest_125 : decode cX0_guest 125 = .ok (.getfield 51, 3) := dk_180 0 51 (dk_at dksX0_guest_5 6 rfl rfl)
theorem dX0_guest_128 : decode cX0_guest 128 = .ok (.aload_n 0, 1) := dk_42 (dk_at dksX0_guest_5 9 rfl rfl)
theorem dX0_guest_129 : decode cX0_guest 129 = .ok (.getfield 40, 3) := dk_180 0 40 (dk_at dksX0_guest_5 10 rfl rfl)
theorem dX0_guest_132 : decode cX0_guest 132 = .ok (.iload_n 1, 1) := dk_27 (dk_at dksX0_guest_5 13 rfl rfl)
theorem dX0_guest_133 : decode cX0_guest 133 = .ok (.invokevirtual 206, 3) := dk_182 0 206 (dk_at dksX0_guest_5 14 rfl rfl)
theorem dX0_guest_136 : decode cX0_guest 136 = .ok (.ireturn, 1) := dk_172 (dk_at dksX0_guest_5 17 rfl rfl)
theorem dX0_guest_137 : decode cX0_guest 137 = .ok (.aload_n 0, 1) := dk_42 (dk_at dksX0_guest_5 18 rfl rfl)
theorem dX0_guest_138 : decode cX0_guest 138 = .ok (.getfield 51, 3) := dk_180 0 51 (dk_at dksX0_guest_5 19 rfl rfl)
theorem dX0_guest_141 : decode cX0_guest 141 = .ok (.aload_n 0, 1) := dk_42 (dk_at dksX0_guest_5 22 rfl rfl)
theorem dX0_guest_142 : decode cX0_guest 142 = .ok (.getfield 40, 3) := dk_180 0 40 (dk_at dksX0_guest_6 0 rfl rfl)
theorem dX0_guest_145 : decode cX0_guest 145 = .ok (.iload_n 1, 1) := dk_27 (dk_at dksX0_guest_6 3 rfl rfl)
theorem dX0_guest_146 : decode cX0_guest 146 = .ok (.invokevirtual 209, 3) := dk_182 0 209 (dk_at dksX0_guest_6 4 rfl rfl)
theorem dX0_guest_149 : decode cX0_guest 149 = .ok (.ireturn, 1) := dk_172 (dk_at dksX0_guest_6 7 rfl rfl)
theorem dX0_guest_150 : decode cX0_guest 150 = .ok (.iconst (-1), 1) := dk_2 (dk_at dksX0_guest_6 8 rfl rfl)
theorem dX0_guest_151 : decode cX0_guest 151 = .ok (.ireturn, 1) := dk_172 (dk_at dksX0_guest_6 9 rfl rfl)
abbrev cX0_isGuest : ByteArray := prog_1_method_13_code
def yX0_isGuest : MethodName := ⟨RX0, "isGuest", "(I)Z"⟩
def dkwX0_isGuest_0 : List UInt8 := [27, 3, 42, 182, 0, 151, 4, 100, 184, 0, 147, 172]
abbrev dktX0_isGuest_0 : List UInt8 := dkwX0_isGuest_0 ++ []
theorem dksX0_isGuest_0 : cX0_isGuest.data.toList.drop 0 = dktX0_isGuest_0 := by decide +kernel
theorem dX0_isGuest_0 : decode cX0_isGuest 0 = .ok (.iload_n 1, 1) := dk_27 (dk_at dksX0_isGuest_0 0 rfl rfl)
theorem dX0_isGuest_1 : decode cX0_isGuest 1 = .ok (.iconst 0, 1) := dk_3 (dk_at dksX0_isGuest_0 1 rfl rfl)
theorem dX0_isGuest_2 : decode cX0_isGuest 2 = .ok (.aload_n 0, 1) := dk_42 (dk_at dksX0_isGuest_0 2 rfl rfl)
theorem dX0_isGuest_3 : decode cX0_isGuest 3 = .ok (.invokevirtual 151, 3) := dk_182 0 151 (dk_at dksX0_isGuest_0 3 rfl rfl)
theorem dX0_isGuest_6 : decode cX0_isGuest 6 = .ok (.iconst 1, 1) := dk_4 (dk_at dksX0_isGuest_0 6 rfl rfl)
theorem dX0_isGuest_7 : decode cX0_isGuest 7 = .ok (.isub, 1) := dk_100 (dk_at dksX0_isGuest_0 7 rfl rfl)
theorem dX0_isGuest_8 : decode cX0_isGuest 8 = .ok (.invokestatic 147, 3) := dk_184 0 147 (dk_at dksX0_isGuest_0 8 rfl rfl)
theorem dX0_isGuest_11 : decode cX0_isGuest 11 = .ok (.ireturn, 1) := dk_172 (dk_at dksX0_isGuest_0 11 rfl rfl)
abbrev cX0_guests : ByteArray := prog_1_method_11_code
def yX0_guests : MethodName := ⟨RX0, "guests", "()I"⟩
def dkwX0_guests_0 : List UInt8 := [42, 180, 0, 40, 180, 0, 142, 182, 0, 136, 172]
abbrev dktX0_guests_0 : List UInt8 := dkwX0_guests_0 ++ []
theorem dksX0_guests_0 : cX0_guests.data.toList.drop 0 = dktX0_guests_0 := by decide +kernel
theorem dX0_guests_0 : decode cX0_guests 0 = .ok (.aload_n 0, 1) := dk_42 (dk_at dksX0_guests_0 0 rfl rfl)
theorem dX0_guests_1 : decode cX0_guests 1 = .ok (.getfield 40, 3) := dk_180 0 40 (dk_at dksX0_guests_0 1 rfl rfl)
theorem dX0_guests_4 : decode cX0_guests 4 = .ok (.getfield 142, 3) := dk_180 0 142 (dk_at dksX0_guests_0 4 rfl rfl)
theorem dX0_guests_7 : decode cX0_guests 7 = .ok (.invokevirtual 136, 3) := dk_182 0 136 (dk_at dksX0_guests_0 7 rfl rfl)
theorem dX0_guests_10 : decode cX0_guests 10 = .ok (.ireturn, 1) := dk_172 (dk_at dksX0_guests_0 10 rfl rfl)
abbrev cX0_at : ByteArray := prog_1_method_19_code
def yX0_at : MethodName := ⟨RX0, "at", "(II)I"⟩
def dkwX0_at_1 : List UInt8 := [180, 0, 166, 4, 100, 184, 0, 147, 153, 0, 12, 42, 27, 28, 182, 0, 215, 167, 0, 4, 2, 172]
abbrev dktX0_at_1 : List UInt8 := dkwX0_at_1 ++ []
def dkwX0_at_0 : List UInt8 := [42, 27, 182, 0, 153, 153, 0, 39, 28, 3, 42, 180, 0, 40, 180, 0, 132, 27, 182, 0, 160, 192, 0, 164]
abbrev dktX0_at_0 : List UInt8 := dkwX0_at_0 ++ dktX0_at_1
theorem dksX0_at_0 : cX0_at.data.toList.drop 0 = dktX0_at_0 := by decide +kernel
theorem dksX0_at_1 : cX0_at.data.toList.drop 24 = dktX0_at_1 := dk_seg dksX0_at_0 24 rfl rfl
theorem dX0_at_0 : decode cX0_at 0 = .ok (.aload_n 0, 1) := dk_42 (dk_at dksX0_at_0 0 rfl rfl)
theorem dX0_at_1 : decode cX0_at 1 = .ok (.iload_n 1, 1) := dk_27 (dk_at dksX0_at_0 1 rfl rfl)
theorem dX0_at_2 : decode cX0_at 2 = .ok (.invokevirtual 153, 3) := dk_182 0 153 (dk_at dksX0_at_0 2 rfl rfl)
theorem dX0_at_5 : decode cX0_at 5 = .ok (.ifCond .eq 39, 3) := dk_153 0 39 (dk_at dksX0_at_0 5 rfl rfl)
theorem dX0_at_8 : decode cX0_at 8 = .ok (.iload_n 2, 1) := dk_28 (dk_at dksX0_at_0 8 rfl rfl)
theorem dX0_at_9 : decode cX0_at 9 = .ok (.iconst 0, 1) := dk_3 (dk_at dksX0_at_0 9 rfl rfl)
theorem dX0_at_10 : decode cX0_at 10 = .ok (.aload_n 0, 1) := dk_42 (dk_at dksX0_at_0 10 rfl rfl)
theorem dX0_at_11 : decode cX0_at 11 = .ok (.getfield 40, 3) := dk_180 0 40 (dk_at dksX0_at_0 11 rfl rfl)
theorem dX0_at_14 : decode cX0_at 14 = .ok (.getfield 132, 3) := dk_180 0 132 (dk_at dksX0_at_0 14 rfl rfl)
theorem dX0_at_17 : decode cX0_at 17 = .ok (.iload_n 1, 1) := dk_27 (dk_at dksX0_at_0 17 rfl rfl)
theorem dX0_at_18 : decode cX0_at 18 = .ok (.invokevirtual 160, 3) := dk_182 0 160 (dk_at dksX0_at_0 18 rfl rfl)
theorem dX0_at_21 : decode cX0_at 21 = .ok (.checkcast 164, 3) := dk_192 0 164 (dk_at dksX0_at_0 21 rfl rfl)
theorem dX0_at_24 : decode cX0_at 24 = .ok (.getfield 166, 3) := dk_180 0 166 (dk_at dksX0_at_1 0 rfl rfl)
theorem dX0_at_27 : decode cX0_at 27 = .ok (.iconst 1, 1) := dk_4 (dk_at dksX0_at_1 3 rfl rfl)
theorem dX0_at_28 : decode cX0_at 28 = .ok (.isub, 1) := dk_100 (dk_at dksX0_at_1 4 rfl rfl)
theorem dX0_at_29 : decode cX0_at 29 = .ok (.invokestatic 147, 3) := dk_184 0 147 (dk_at dksX0_at_1 5 rfl rfl)
theorem dX0_at_32 : decode cX0_at 32 = .ok (.ifCond .eq 12, 3) := dk_153 0 12 (dk_at dksX0_at_1 8 rfl rfl)
theorem dX0_at_35 : decode cX0_at 35 = .ok (.aload_n 0, 1) := dk_42 (dk_at dksX0_at_1 11 rfl rfl)
theorem dX0_at_36 : decode cX0_at 36 = .ok (.iload_n 1, 1) := dk_27 (dk_at dksX0_at_1 12 rfl rfl)
theorem dX0_at_37 : decode cX0_at 37 = .ok (.iload_n 2, 1) := dk_28 (dk_at dksX0_at_1 13 rfl rfl)
theorem dX0_at_38 : decode cX0_at 38 = .ok (.invokevirtual 215, 3) := dk_182 0 215 (dk_at dksX0_at_1 14 rfl rfl)
theorem dX0_at_41 : decode cX0_at 41 = .ok (.goto 4, 3) := dk_167 0 4 (dk_at dksX0_at_1 17 rfl rfl)
theorem dX0_at_44 : decode cX0_at 44 = .ok (.iconst (-1), 1) := dk_2 (dk_at dksX0_at_1 20 rfl rfl)
theorem dX0_at_45 : decode cX0_at 45 = .ok (.ireturn, 1) := dk_172 (dk_at dksX0_at_1 21 rfl rfl)
abbrev cX0_whoAt : ByteArray := prog_1_method_18_code
def yX0_whoAt : MethodName := ⟨RX0, "whoAt", "(II)I"⟩
def dkwX0_whoAt_2 : List UInt8 := [132, 3, 1, 167, 255, 209, 16, 254, 172]
abbrev dktX0_whoAt_2 : List UInt8 := dkwX0_whoAt_2 ++ []
def dkwX0_whoAt_1 : List UInt8 := [180, 0, 40, 180, 0, 142, 29, 182, 0, 160, 192, 0, 188, 28, 182, 0, 212, 153, 0, 5, 29, 172]
abbrev dktX0_whoAt_1 : List UInt8 := dkwX0_whoAt_1 ++ dktX0_whoAt_2
def dkwX0_whoAt_0 : List UInt8 := [3, 62, 29, 42, 182, 0, 151, 162, 0, 45, 42, 180, 0, 51, 180, 0, 197, 29, 46, 27, 160, 0, 26, 42]
abbrev dktX0_whoAt_0 : List UInt8 := dkwX0_whoAt_0 ++ dktX0_whoAt_1
theorem dksX0_whoAt_0 : cX0_whoAt.data.toList.drop 0 = dktX0_whoAt_0 := by decide +kernel
theorem dksX0_whoAt_1 : cX0_whoAt.data.toList.drop 24 = dktX0_whoAt_1 := dk_seg dksX0_whoAt_0 24 rfl rfl
theorem dksX0_whoAt_2 : cX0_whoAt.data.toList.drop 46 = dktX0_whoAt_2 := dk_seg dksX0_whoAt_1 22 rfl rfl
theorem dX0_whoAt_0 : decode cX0_whoAt 0 = .ok (.iconst 0, 1) := dk_3 (dk_at dksX0_whoAt_0 0 rfl rfl)
theorem dX0_whoAt_1 : decode cX0_whoAt 1 = .ok (.istore_n 3, 1) := dk_62 (dk_at dksX0_whoAt_0 1 rfl rfl)
theorem dX0_whoAt_2 : decode cX0_whoAt 2 = .ok (.iload_n 3, 1) := dk_29 (dk_at dksX0_whoAt_0 2 rfl rfl)
theorem dX0_whoAt_3 : decode cX0_whoAt 3 = .ok (.aload_n 0, 1) := dk_42 (dk_at dksX0_whoAt_0 3 rfl rfl)
theorem dX0_whoAt_4 : decode cX0_whoAt 4 = .ok (.invokevirtual 151, 3) := dk_182 0 151 (dk_at dksX0_whoAt_0 4 rfl rfl)
theorem dX0_whoAt_7 : decode cX0_whoAt 7 = .ok (.if_icmp .ge 45, 3) := dk_162 0 45 (dk_at dksX0_whoAt_0 7 rfl rfl)
theorem dX0_whoAt_10 : decode cX0_whoAt 10 = .ok (.aload_n 0, 1) := dk_42 (dk_at dksX0_whoAt_0 10 rfl rfl)
theorem dX0_whoAt_11 : decode cX0_whoAt 11 = .ok (.getfield 51, 3) := dk_180 0 51 (dk_at dksX0_whoAt_0 11 rfl rfl)
theorem dX0_whoAt_14 : decode cX0_whoAt 14 = .ok (.getfield 197, 3) := dk_180 0 197 (dk_at dksX0_whoAt_0 14 rfl rfl)
theorem dX0_whoAt_17 : decode cX0_whoAt 17 = .ok (.iload_n 3, 1) := dk_29 (dk_at dksX0_whoAt_0 17 rfl rfl)
theorem dX0_whoAt_18 : decode cX0_whoAt 18 = .ok (.iaload, 1) := dk_46 (dk_at dksX0_whoAt_0 18 rfl rfl)
theorem dX0_whoAt_19 : decode cX0_whoAt 19 = .ok (.iload_n 1, 1) := dk_27 (dk_at dksX0_whoAt_0 19 rfl rfl)
theorem dX0_whoAt_20 : decode cX0_whoAt 20 = .ok (.if_icmp .ne 26, 3) := dk_160 0 26 (dk_at dksX0_whoAt_0 20 rfl rfl)
theorem dX0_whoAt_23 : decode cX0_whoAt 23 = .ok (.aload_n 0, 1) := dk_42 (dk_at dksX0_whoAt_0 23 rfl rfl)
theorem dX0_whoAt_24 : decode cX0_whoAt 24 = .ok (.getfield 40, 3) := dk_180 0 40 (dk_at dksX0_whoAt_1 0 rfl rfl)
theorem dX0_whoAt_27 : decode cX0_whoAt 27 = .ok (.getfield 142, 3) := dk_180 0 142 (dk_at dksX0_whoAt_1 3 rfl rfl)
theorem dX0_whoAt_30 : decode cX0_whoAt 30 = .ok (.iload_n 3, 1) := dk_29 (dk_at dksX0_whoAt_1 6 rfl rfl)
theorem dX0_whoAt_31 : decode cX0_whoAt 31 = .ok (.invokevirtual 160, 3) := dk_182 0 160 (dk_at dksX0_whoAt_1 7 rfl rfl)
theorem dX0_whoAt_34 : decode cX0_whoAt 34 = .ok (.checkcast 188, 3) := dk_192 0 188 (dk_at dksX0_whoAt_1 10 rfl rfl)
theorem dX0_whoAt_37 : decode cX0_whoAt 37 = .ok (.iload_n 2, 1) := dk_28 (dk_at dksX0_whoAt_1 13 rfl rfl)
theorem dX0_whoAt_38 : decode cX0_whoAt 38 = .ok (.invokevirtual 212, 3) := dk_182 0 212 (dk_at dksX0_whoAt_1 14 rfl rfl)
theorem dX0_whoAt_41 : decode cX0_whoAt 41 = .ok (.ifCond .eq 5, 3) := dk_153 0 5 (dk_at dksX0_whoAt_1 17 rfl rfl)
theorem dX0_whoAt_44 : decode cX0_whoAt 44 = .ok (.iload_n 3, 1) := dk_29 (dk_at dksX0_whoAt_1 20 rfl rfl)
theorem dX0_whoAt_45 : decode cX0_whoAt 45 = .ok (.ireturn, 1) := dk_172 (dk_at dksX0_whoAt_1 21 rfl rfl)
theorem dX0_whoAt_46 : decode cX0_whoAt 46 = .ok (.iinc 3 1, 3) := dk_132 3 1 (dk_at dksX0_whoAt_2 0 rfl rfl)
theorem dX0_whoAt_49 : decode cX0_whoAt 49 = .ok (.goto (-47), 3) := dk_167 255 209 (dk_at dksX0_whoAt_2 3 rfl rfl)
theorem dX0_whoAt_52 : decode cX0_whoAt 52 = .ok (.bipush (-2), 2) := dk_16 254 (dk_at dksX0_whoAt_2 6 rfl rfl)
theorem dX0_whoAt_54 : decode cX0_whoAt 54 = .ok (.ireturn, 1) := dk_172 (dk_at dksX0_whoAt_2 8 rfl rfl)
abbrev cX0_letIn : ByteArray := prog_1_method_21_code
def yX0_letIn : MethodName := ⟨RX0, "letIn", "(II)Z"⟩
def dkwX0_letIn_2 : List UInt8 := [172, 42, 182, 0, 233, 42, 180, 0, 51, 180, 0, 197, 27, 28, 79, 4, 172]
abbrev dktX0_letIn_2 : List UInt8 := dkwX0_letIn_2 ++ []
def dkwX0_letIn_1 : List UInt8 := [46, 156, 0, 22, 42, 180, 0, 51, 42, 180, 0, 40, 27, 182, 0, 230, 28, 122, 4, 126, 154, 0, 5, 3]
abbrev dktX0_letIn_1 : List UInt8 := dkwX0_letIn_1 ++ dktX0_letIn_2
def dkwX0_letIn_0 : List UInt8 := [42, 27, 182, 0, 185, 153, 0, 42, 42, 28, 182, 0, 153, 153, 0, 34, 42, 180, 0, 51, 180, 0, 197, 27]
abbrev dktX0_letIn_0 : List UInt8 := dkwX0_letIn_0 ++ dktX0_letIn_1
theorem dksX0_letIn_0 : cX0_letIn.data.toList.drop 0 = dktX0_letIn_0 := by decide +kernel
theorem dksX0_letIn_1 : cX0_letIn.data.toList.drop 24 = dktX0_letIn_1 := dk_seg dksX0_letIn_0 24 rfl rfl
theorem dksX0_letIn_2 : cX0_letIn.data.toList.drop 48 = dktX0_letIn_2 := dk_seg dksX0_letIn_1 24 rfl rfl
theorem dX0_letIn_0 : decode cX0_letIn 0 = .ok (.aload_n 0, 1) := dk_42 (dk_at dksX0_letIn_0 0 rfl rfl)
theorem dX0_letIn_1 : decode cX0_letIn 1 = .ok (.iload_n 1, 1) := dk_27 (dk_at dksX0_letIn_0 1 rfl rfl)
theorem dX0_letIn_2 : decode cX0_letIn 2 = .ok (.invokevirtual 185, 3) := dk_182 0 185 (dk_at dksX0_letIn_0 2 rfl rfl)
theorem dX0_letIn_5 : decode cX0_letIn 5 = .ok (.ifCond .eq 42, 3) := dk_153 0 42 (dk_at dksX0_letIn_0 5 rfl rfl)
theorem dX0_letIn_8 : decode cX0_letIn 8 = .ok (.aload_n 0, 1) := dk_42 (dk_at dksX0_letIn_0 8 rfl rfl)
theorem dX0_letIn_9 : decode cX0_letIn 9 = .ok (.iload_n 2, 1) := dk_28 (dk_at dksX0_letIn_0 9 rfl rfl)
theorem dX0_letIn_10 : decode cX0_letIn 10 = .ok (.invokevirtual 153, 3) := dk_182 0 153 (dk_at dksX0_letIn_0 10 rfl rfl)
theorem dX0_letIn_13 : decode cX0_letIn 13 = .ok (.ifCond .eq 34, 3) := dk_153 0 34 (dk_at dksX0_letIn_0 13 rfl rfl)
theorem dX0_letIn_16 : decode cX0_letIn 16 = .ok (.aload_n 0, 1) := dk_42 (dk_at dksX0_letIn_0 16 rfl rfl)
theorem dX0_letIn_17 : decode cX0_letIn 17 = .ok (.getfield 51, 3) := dk_180 0 51 (dk_at dksX0_letIn_0 17 rfl rfl)
theorem dX0_letIn_20 : decode cX0_letIn 20 = .ok (.getfield 197, 3) := dk_180 0 197 (dk_at dksX0_letIn_0 20 rfl rfl)
theorem dX0_letIn_23 : decode cX0_letIn 23 = .ok (.iload_n 1, 1) := dk_27 (dk_at dksX0_letIn_0 23 rfl rfl)
theorem dX0_letIn_24 : decode cX0_letIn 24 = .ok (.iaload, 1) := dk_46 (dk_at dksX0_letIn_1 0 rfl rfl)
theorem dX0_letIn_25 : decode cX0_letIn 25 = .ok (.ifCond .ge 22, 3) := dk_156 0 22 (dk_at dksX0_letIn_1 1 rfl rfl)
theorem dX0_letIn_28 : decode cX0_letIn 28 = .ok (.aload_n 0, 1) := dk_42 (dk_at dksX0_letIn_1 4 rfl rfl)
theorem dX0_letIn_29 : decode cX0_letIn 29 = .ok (.getfield 51, 3) := dk_180 0 51 (dk_at dksX0_letIn_1 5 rfl rfl)
theorem dX0_letIn_32 : decode cX0_letIn 32 = .ok (.aload_n 0, 1) := dk_42 (dk_at dksX0_letIn_1 8 rfl rfl)
theorem dX0_letIn_33 : decode cX0_letIn 33 = .ok (.getfield 40, 3) := dk_180 0 40 (dk_at dksX0_letIn_1 9 rfl rfl)
theorem dX0_letIn_36 : decode cX0_letIn 36 = .ok (.iload_n 1, 1) := dk_27 (dk_at dksX0_letIn_1 12 rfl rfl)
theorem dX0_letIn_37 : decode cX0_letIn 37 = .ok (.invokevirtual 230, 3) := dk_182 0 230 (dk_at dksX0_letIn_1 13 rfl rfl)
theorem dX0_letIn_40 : decode cX0_letIn 40 = .ok (.iload_n 2, 1) := dk_28 (dk_at dksX0_letIn_1 16 rfl rfl)
theorem dX0_letIn_41 : decode cX0_letIn 41 = .ok (.ishr, 1) := dk_122 (dk_at dksX0_letIn_1 17 rfl rfl)
theorem dX0_letIn_42 : decode cX0_letIn 42 = .ok (.iconst 1, 1) := dk_4 (dk_at dksX0_letIn_1 18 rfl rfl)
theorem dX0_letIn_43 : decode cX0_letIn 43 = .ok (.iand, 1) := dk_126 (dk_at dksX0_letIn_1 19 rfl rfl)
theorem dX0_letIn_44 : decode cX0_letIn 44 = .ok (.ifCond .ne 5, 3) := dk_154 0 5 (dk_at dksX0_letIn_1 20 rfl rfl)
theorem dX0_letIn_47 : decode cX0_letIn 47 = .ok (.iconst 0, 1) := dk_3 (dk_at dksX0_letIn_1 23 rfl rfl)
theorem dX0_letIn_48 : decode cX0_letIn 48 = .ok (.ireturn, 1) := dk_172 (dk_at dksX0_letIn_2 0 rfl rfl)
theorem dX0_letIn_49 : decode cX0_letIn 49 = .ok (.aload_n 0, 1) := dk_42 (dk_at dksX0_letIn_2 1 rfl rfl)
theorem dX0_letIn_50 : decode cX0_letIn 50 = .ok (.invokevirtual 233, 3) := dk_182 0 233 (dk_at dksX0_letIn_2 2 rfl rfl)
theorem dX0_letIn_53 : decode cX0_letIn 53 = .ok (.aload_n 0, 1) := dk_42 (dk_at dksX0_letIn_2 5 rfl rfl)
theorem dX0_letIn_54 : decode cX0_letIn 54 = .ok (.getfield 51, 3) := dk_180 0 51 (dk_at dksX0_letIn_2 6 rfl rfl)
theorem dX0_letIn_57 : decode cX0_letIn 57 = .ok (.getfield 197, 3) := dk_180 0 197 (dk_at dksX0_letIn_2 9 rfl rfl)
theorem dX0_letIn_60 : decode cX0_letIn 60 = .ok (.iload_n 1, 1) := dk_27 (dk_at dksX0_letIn_2 12 rfl rfl)
theorem dX0_letIn_61 : decode cX0_letIn 61 = .ok (.iload_n 2, 1) := dk_28 (dk_at dksX0_letIn_2 13 rfl rfl)
theorem dX0_letIn_62 : decode cX0_letIn 62 = .ok (.iastore, 1) := dk_79 (dk_at dksX0_letIn_2 14 rfl rfl)
theorem dX0_letIn_63 : decode cX0_letIn 63 = .ok (.iconst 1, 1) := dk_4 (dk_at dksX0_letIn_2 15 rfl rfl)
theorem dX0_letIn_64 : decode cX0_letIn 64 = .ok (.ireturn, 1) := dk_172 (dk_at dksX0_letIn_2 16 rfl rfl)
abbrev cX0_keeps : ByteArray := prog_1_method_20_code
def yX0_keeps : MethodName := ⟨RX0, "keeps", "()V"⟩
def dkwX0_keeps_1 : List UInt8 := [16, 40, 112, 181, 0, 218, 42, 16, 40, 42, 180, 0, 122, 4, 96, 184, 0, 225, 181, 0, 122, 177]
abbrev dktX0_keeps_1 : List UInt8 := dkwX0_keeps_1 ++ []
def dkwX0_keeps_0 : List UInt8 := [42, 180, 0, 58, 42, 180, 0, 218, 50, 42, 180, 0, 51, 182, 0, 221, 42, 42, 180, 0, 218, 4, 96]
abbrev dktX0_keeps_0 : List UInt8 := dkwX0_keeps_0 ++ dktX0_keeps_1
theorem dksX0_keeps_0 : cX0_keeps.data.toList.drop 0 = dktX0_keeps_0 := by decide +kernel
theorem dksX0_keeps_1 : cX0_keeps.data.toList.drop 23 = dktX0_keeps_1 := dk_seg dksX0_keeps_0 23 rfl rfl
theorem dX0_keeps_0 : decode cX0_keeps 0 = .ok (.aload_n 0, 1) := dk_42 (dk_at dksX0_keeps_0 0 rfl rfl)
theorem dX0_keeps_1 : decode cX0_keeps 1 = .ok (.getfield 58, 3) := dk_180 0 58 (dk_at dksX0_keeps_0 1 rfl rfl)
theorem dX0_keeps_4 : decode cX0_keeps 4 = .ok (.aload_n 0, 1) := dk_42 (dk_at dksX0_keeps_0 4 rfl rfl)
theorem dX0_keeps_5 : decode cX0_keeps 5 = .ok (.getfield 218, 3) := dk_180 0 218 (dk_at dksX0_keeps_0 5 rfl rfl)
theorem dX0_keeps_8 : decode cX0_keeps 8 = .ok (.aaload, 1) := dk_50 (dk_at dksX0_keeps_0 8 rfl rfl)
theorem dX0_keeps_9 : decode cX0_keeps 9 = .ok (.aload_n 0, 1) := dk_42 (dk_at dksX0_keeps_0 9 rfl rfl)
theorem dX0_keeps_10 : decode cX0_keeps 10 = .ok (.getfield 51, 3) := dk_180 0 51 (dk_at dksX0_keeps_0 10 rfl rfl)
theorem dX0_keeps_13 : decode cX0_keeps 13 = .ok (.invokevirtual 221, 3) := dk_182 0 221 (dk_at dksX0_keeps_0 13 rfl rfl)
theorem dX0_keeps_16 : decode cX0_keeps 16 = .ok (.aload_n 0, 1) := dk_42 (dk_at dksX0_keeps_0 16 rfl rfl)
theorem dX0_keeps_17 : decode cX0_keeps 17 = .ok (.aload_n 0, 1) := dk_42 (dk_at dksX0_keeps_0 17 rfl rfl)
theorem dX0_keeps_18 : decode cX0_keeps 18 = .ok (.getfield 218, 3) := dk_180 0 218 (dk_at dksX0_keeps_0 18 rfl rfl)
theorem dX0_keeps_21 : decode cX0_keeps 21 = .ok (.iconst 1, 1) := dk_4 (dk_at dksX0_keeps_0 21 rfl rfl)
theorem dX0_keeps_22 : decode cX0_keeps 22 = .ok (.iadd, 1) := dk_96 (dk_at dksX0_keeps_0 22 rfl rfl)
theorem dX0_keeps_23 : decode cX0_keeps 23 = .ok (.bipush 40, 2) := dk_16 40 (dk_at dksX0_keeps_1 0 rfl rfl)
theorem dX0_keeps_25 : decode cX0_keeps 25 = .ok (.irem, 1) := dk_112 (dk_at dksX0_keeps_1 2 rfl rfl)
theorem dX0_keeps_26 : decode cX0_keeps 26 = .ok (.putfield 218, 3) := dk_181 0 218 (dk_at dksX0_keeps_1 3 rfl rfl)
theorem dX0_keeps_29 : decode cX0_keeps 29 = .ok (.aload_n 0, 1) := dk_42 (dk_at dksX0_keeps_1 6 rfl rfl)
theorem dX0_keeps_30 : decode cX0_keeps 30 = .ok (.bipush 40, 2) := dk_16 40 (dk_at dksX0_keeps_1 7 rfl rfl)
theorem dX0_keeps_32 : decode cX0_keeps 32 = .ok (.aload_n 0, 1) := dk_42 (dk_at dksX0_keeps_1 9 rfl rfl)
theorem dX0_keeps_33 : decode cX0_keeps 33 = .ok (.getfield 122, 3) := dk_180 0 122 (dk_at dksX0_keeps_1 10 rfl rfl)
theorem dX0_keeps_36 : decode cX0_keeps 36 = .ok (.iconst 1, 1) := dk_4 (dk_at dksX0_keeps_1 13 rfl rfl)
theorem dX0_keeps_37 : decode cX0_keeps 37 = .ok (.iadd, 1) := dk_96 (dk_at dksX0_keeps_1 14 rfl rfl)
theorem dX0_keeps_38 : decode cX0_keeps 38 = .ok (.invokestatic 225, 3) := dk_184 0 225 (dk_at dksX0_keeps_1 15 rfl rfl)
theorem dX0_keeps_41 : decode cX0_keeps 41 = .ok (.putfield 122, 3) := dk_181 0 122 (dk_at dksX0_keeps_1 18 rfl rfl)
theorem dX0_keeps_44 : decode cX0_keeps 44 = .ok (.return_, 1) := dk_177 (dk_at dksX0_keeps_1 21 rfl rfl)
abbrev cX0_putOut : ByteArray := prog_1_method_22_code
def yX0_putOut : MethodName := ⟨RX0, "putOut", "(I)Z"⟩
def dkwX0_putOut_1 : List UInt8 := [182, 0, 233, 42, 180, 0, 51, 180, 0, 197, 27, 16, 254, 79, 4, 172]
abbrev dktX0_putOut_1 : List UInt8 := dkwX0_putOut_1 ++ []
def dkwX0_putOut_0 : List UInt8 := [42, 27, 182, 0, 185, 153, 0, 15, 42, 180, 0, 51, 180, 0, 197, 27, 46, 156, 0, 5, 3, 172, 42]
abbrev dktX0_putOut_0 : List UInt8 := dkwX0_putOut_0 ++ dktX0_putOut_1
theorem dksX0_putOut_0 : cX0_putOut.data.toList.drop 0 = dktX0_putOut_0 := by decide +kernel
theorem dksX0_putOut_1 : cX0_putOut.data.toList.drop 23 = dktX0_putOut_1 := dk_seg dksX0_putOut_0 23 rfl rfl
theorem dX0_putOut_0 : decode cX0_putOut 0 = .ok (.aload_n 0, 1) := dk_42 (dk_at dksX0_putOut_0 0 rfl rfl)
theorem dX0_putOut_1 : decode cX0_putOut 1 = .ok (.iload_n 1, 1) := dk_27 (dk_at dksX0_putOut_0 1 rfl rfl)
theorem dX0_putOut_2 : decode cX0_putOut 2 = .ok (.invokevirtual 185, 3) := dk_182 0 185 (dk_at dksX0_putOut_0 2 rfl rfl)
theorem dX0_putOut_5 : decode cX0_putOut 5 = .ok (.ifCond .eq 15, 3) := dk_153 0 15 (dk_at dksX0_putOut_0 5 rfl rfl)
theorem dX0_putOut_8 : decode cX0_putOut 8 = .ok (.aload_n 0, 1) := dk_42 (dk_at dksX0_putOut_0 8 rfl rfl)
theorem dX0_putOut_9 : decode cX0_putOut 9 = .ok (.getfield 51, 3) := dk_180 0 51 (dk_at dksX0_putOut_0 9 rfl rfl)
theorem dX0_putOut_12 : decode cX0_putOut 12 = .ok (.getfield 197, 3) := dk_180 0 197 (dk_at dksX0_putOut_0 12 rfl rfl)
theorem dX0_putOut_15 : decode cX0_putOut 15 = .ok (.iload_n 1, 1) := dk_27 (dk_at dksX0_putOut_0 15 rfl rfl)
theorem dX0_putOut_16 : decode cX0_putOut 16 = .ok (.iaload, 1) := dk_46 (dk_at dksX0_putOut_0 16 rfl rfl)
theorem dX0_putOut_17 : decode cX0_putOut 17 = .ok (.ifCond .ge 5, 3) := dk_156 0 5 (dk_at dksX0_putOut_0 17 rfl rfl)
theorem dX0_putOut_20 : decode cX0_putOut 20 = .ok (.iconst 0, 1) := dk_3 (dk_at dksX0_putOut_0 20 rfl rfl)
theorem dX0_putOut_21 : decode cX0_putOut 21 = .ok (.ireturn, 1) := dk_172 (dk_at dksX0_putOut_0 21 rfl rfl)
theorem dX0_putOut_22 : decode cX0_putOut 22 = .ok (.aload_n 0, 1) := dk_42 (dk_at dksX0_putOut_0 22 rfl rfl)
theorem dX0_putOut_23 : decode cX0_putOut 23 = .ok (.invokevirtual 233, 3) := dk_182 0 233 (dk_at dksX0_putOut_1 0 rfl rfl)
theorem dX0_putOut_26 : decode cX0_putOut 26 = .ok (.aload_n 0, 1) := dk_42 (dk_at dksX0_putOut_1 3 rfl rfl)
theorem dX0_putOut_27 : decode cX0_putOut 27 = .ok (.getfield 51, 3) := dk_180 0 51 (dk_at dksX0_putOut_1 4 rfl rfl)
theorem dX0_putOut_30 : decode cX0_putOut 30 = .ok (.getfield 197, 3) := dk_180 0 197 (dk_at dksX0_putOut_1 7 rfl rfl)
theorem dX0_putOut_33 : decode cX0_putOut 33 = .ok (.iload_n 1, 1) := dk_27 (dk_at dksX0_putOut_1 10 rfl rfl)
theorem dX0_putOut_34 : decode cX0_putOut 34 = .ok (.bipush (-2), 2) := dk_16 254 (dk_at dksX0_putOut_1 11 rfl rfl)
theorem dX0_putOut_36 : decode cX0_putOut 36 = .ok (.iastore, 1) := dk_79 (dk_at dksX0_putOut_1 13 rfl rfl)
theorem dX0_putOut_37 : decode cX0_putOut 37 = .ok (.iconst 1, 1) := dk_4 (dk_at dksX0_putOut_1 14 rfl rfl)
theorem dX0_putOut_38 : decode cX0_putOut 38 = .ok (.ireturn, 1) := dk_172 (dk_at dksX0_putOut_1 15 rfl rfl)
abbrev cX0_sell : ByteArray := prog_1_method_23_code
def yX0_sell : MethodName := ⟨RX0, "sell", "(I)I"⟩
def dkwX0_sell_2 : List UInt8 := [28, 96, 181, 0, 239, 42, 180, 0, 51, 89, 180, 0, 242, 4, 27, 120, 128, 181, 0, 242, 28, 172]
abbrev dktX0_sell_2 : List UInt8 := dkwX0_sell_2 ++ []
def dkwX0_sell_1 : List UInt8 := [180, 0, 51, 42, 180, 0, 40, 27, 182, 0, 182, 61, 42, 182, 0, 233, 42, 180, 0, 51, 89, 180, 0, 239]
abbrev dktX0_sell_1 : List UInt8 := dkwX0_sell_1 ++ dktX0_sell_2
def dkwX0_sell_0 : List UInt8 := [42, 27, 182, 0, 236, 153, 0, 14, 42, 180, 0, 51, 27, 182, 0, 175, 153, 0, 5, 2, 172, 42]
abbrev dktX0_sell_0 : List UInt8 := dkwX0_sell_0 ++ dktX0_sell_1
theorem dksX0_sell_0 : cX0_sell.data.toList.drop 0 = dktX0_sell_0 := by decide +kernel
theorem dksX0_sell_1 : cX0_sell.data.toList.drop 22 = dktX0_sell_1 := dk_seg dksX0_sell_0 22 rfl rfl
theorem dksX0_sell_2 : cX0_sell.data.toList.drop 46 = dktX0_sell_2 := dk_seg dksX0_sell_1 24 rfl rfl
theorem dX0_sell_0 : decode cX0_sell 0 = .ok (.aload_n 0, 1) := dk_42 (dk_at dksX0_sell_0 0 rfl rfl)
theorem dX0_sell_1 : decode cX0_sell 1 = .ok (.iload_n 1, 1) := dk_27 (dk_at dksX0_sell_0 1 rfl rfl)
theorem dX0_sell_2 : decode cX0_sell 2 = .ok (.invokevirtual 236, 3) := dk_182 0 236 (dk_at dksX0_sell_0 2 rfl rfl)
theorem dX0_sell_5 : decode cX0_sell 5 = .ok (.ifCond .eq 14, 3) := dk_153 0 14 (dk_at dksX0_sell_0 5 rfl rfl)
theorem dX0_sell_8 : decode cX0_sell 8 = .ok (.aload_n 0, 1) := dk_42 (dk_at dksX0_sell_0 8 rfl rfl)
theorem dX0_sell_9 : decode cX0_sell 9 = .ok (.getfield 51, 3) := dk_180 0 51 (dk_at dksX0_sell_0 9 rfl rfl)
theorem dX0_sell_12 : decode cX0_sell 12 = .ok (.iload_n 1, 1) := dk_27 (dk_at dksX0_sell_0 12 rfl rfl)
theorem dX0_sell_13 : decode cX0_sell 13 = .ok (.invokevirtual 175, 3) := dk_182 0 175 (dk_at dksX0_sell_0 13 rfl rfl)
theorem dX0_sell_16 : decode cX0_sell 16 = .ok (.ifCond .eq 5, 3) := dk_153 0 5 (dk_at dksX0_sell_0 16 rfl rfl)
theorem dX0_sell_19 : decode cX0_sell 19 = .ok (.iconst (-1), 1) := dk_2 (dk_at dksX0_sell_0 19 rfl rfl)
theorem dX0_sell_20 : decode cX0_sell 20 = .ok (.ireturn, 1) := dk_172 (dk_at dksX0_sell_0 20 rfl rfl)
theorem dX0_sell_21 : decode cX0_sell 21 = .ok (.aload_n 0, 1) := dk_42 (dk_at dksX0_sell_0 21 rfl rfl)
theorem dX0_sell_22 : decode cX0_sell 22 = .ok (.getfield 51, 3) := dk_180 0 51 (dk_at dksX0_sell_1 0 rfl rfl)
theorem dX0_sell_25 : decode cX0_sell 25 = .ok (.aload_n 0, 1) := dk_42 (dk_at dksX0_sell_1 3 rfl rfl)
theorem dX0_sell_26 : decode cX0_sell 26 = .ok (.getfield 40, 3) := dk_180 0 40 (dk_at dksX0_sell_1 4 rfl rfl)
theorem dX0_sell_29 : decode cX0_sell 29 = .ok (.iload_n 1, 1) := dk_27 (dk_at dksX0_sell_1 7 rfl rfl)
theorem dX0_sell_30 : decode cX0_sell 30 = .ok (.invokevirtual 182, 3) := dk_182 0 182 (dk_at dksX0_sell_1 8 rfl rfl)
theorem dX0_sell_33 : decode cX0_sell 33 = .ok (.istore_n 2, 1) := dk_61 (dk_at dksX0_sell_1 11 rfl rfl)
theorem dX0_sell_34 : decode cX0_sell 34 = .ok (.aload_n 0, 1) := dk_42 (dk_at dksX0_sell_1 12 rfl rfl)
theorem dX0_sell_35 : decode cX0_sell 35 = .ok (.invokevirtual 233, 3) := dk_182 0 233 (dk_at dksX0_sell_1 13 rfl rfl)
theorem dX0_sell_38 : decode cX0_sell 38 = .ok (.aload_n 0, 1) := dk_42 (dk_at dksX0_sell_1 16 rfl rfl)
theorem dX0_sell_39 : decode cX0_sell 39 = .ok (.getfield 51, 3) := dk_180 0 51 (dk_at dksX0_sell_1 17 rfl rfl)
theorem dX0_sell_42 : decode cX0_sell 42 = .ok (.dup, 1) := dk_89 (dk_at dksX0_sell_1 20 rfl rfl)
theorem dX0_sell_43 : decode cX0_sell 43 = .ok (.getfield 239, 3) := dk_180 0 239 (dk_at dksX0_sell_1 21 rfl rfl)
theorem dX0_sell_46 : decode cX0_sell 46 = .ok (.iload_n 2, 1) := dk_28 (dk_at dksX0_sell_2 0 rfl rfl)
theorem dX0_sell_47 : decode cX0_sell 47 = .ok (.iadd, 1) := dk_96 (dk_at dksX0_sell_2 1 rfl rfl)
theorem dX0_sell_48 : decode cX0_sell 48 = .ok (.putfield 239, 3) := dk_181 0 239 (dk_at dksX0_sell_2 2 rfl rfl)
theorem dX0_sell_51 : decode cX0_sell 51 = .ok (.aload_n 0, 1) := dk_42 (dk_at dksX0_sell_2 5 rfl rfl)
theorem dX0_sell_52 : decode cX0_sell 52 = .ok (.getfield 51, 3) := dk_180 0 51 (dk_at dksX0_sell_2 6 rfl rfl)
theorem dX0_sell_55 : decode cX0_sell 55 = .ok (.dup, 1) := dk_89 (dk_at dksX0_sell_2 9 rfl rfl)
theorem dX0_sell_56 : decode cX0_sell 56 = .ok (.getfield 242, 3) := dk_180 0 242 (dk_at dksX0_sell_2 10 rfl rfl)
theorem dX0_sell_59 : decode cX0_sell 59 = .ok (.iconst 1, 1) := dk_4 (dk_at dksX0_sell_2 13 rfl rfl)
theorem dX0_sell_60 : decode cX0_sell 60 = .ok (.iload_n 1, 1) := dk_27 (dk_at dksX0_sell_2 14 rfl rfl)
theorem dX0_sell_61 : decode cX0_sell 61 = .ok (.ishl, 1) := dk_120 (dk_at dksX0_sell_2 15 rfl rfl)
theorem dX0_sell_62 : decode cX0_sell 62 = .ok (.ior, 1) := dk_128 (dk_at dksX0_sell_2 16 rfl rfl)
theorem dX0_sell_63 : decode cX0_sell 63 = .ok (.putfield 242, 3) := dk_181 0 242 (dk_at dksX0_sell_2 17 rfl rfl)
theorem dX0_sell_66 : decode cX0_sell 66 = .ok (.iload_n 2, 1) := dk_28 (dk_at dksX0_sell_2 20 rfl rfl)
theorem dX0_sell_67 : decode cX0_sell 67 = .ok (.ireturn, 1) := dk_172 (dk_at dksX0_sell_2 21 rfl rfl)
abbrev cX0_isKept : ByteArray := prog_1_method_14_code
def yX0_isKept : MethodName := ⟨RX0, "isKept", "(I)Z"⟩
def dkwX0_isKept_1 : List UInt8 := [172]
abbrev dktX0_isKept_1 : List UInt8 := dkwX0_isKept_1 ++ []
def dkwX0_isKept_0 : List UInt8 := [42, 27, 182, 0, 153, 153, 0, 18, 42, 180, 0, 51, 27, 182, 0, 157, 154, 0, 7, 4, 167, 0, 4, 3]
abbrev dktX0_isKept_0 : List UInt8 := dkwX0_isKept_0 ++ dktX0_isKept_1
theorem dksX0_isKept_0 : cX0_isKept.data.toList.drop 0 = dktX0_isKept_0 := by decide +kernel
theorem dksX0_isKept_1 : cX0_isKept.data.toList.drop 24 = dktX0_isKept_1 := dk_seg dksX0_isKept_0 24 rfl rfl
theorem dX0_isKept_0 : decode cX0_isKept 0 = .ok (.aload_n 0, 1) := dk_42 (dk_at dksX0_isKept_0 0 rfl rfl)
theorem dX0_isKept_1 : decode cX0_isKept 1 = .ok (.iload_n 1, 1) := dk_27 (dk_at dksX0_isKept_0 1 rfl rfl)
theorem dX0_isKept_2 : decode cX0_isKept 2 = .ok (.invokevirtual 153, 3) := dk_182 0 153 (dk_at dksX0_isKept_0 2 rfl rfl)
theorem dX0_isKept_5 : decode cX0_isKept 5 = .ok (.ifCond .eq 18, 3) := dk_153 0 18 (dk_at dksX0_isKept_0 5 rfl rfl)
theorem dX0_isKept_8 : decode cX0_isKept 8 = .ok (.aload_n 0, 1) := dk_42 (dk_at dksX0_isKept_0 8 rfl rfl)
theorem dX0_isKept_9 : decode cX0_isKept 9 = .ok (.getfield 51, 3) := dk_180 0 51 (dk_at dksX0_isKept_0 9 rfl rfl)
theorem dX0_isKept_12 : decode cX0_isKept 12 = .ok (.iload_n 1, 1) := dk_27 (dk_at dksX0_isKept_0 12 rfl rfl)
theorem dX0_isKept_13 : decode cX0_isKept 13 = .ok (.invokevirtual 157, 3) := dk_182 0 157 (dk_at dksX0_isKept_0 13 rfl rfl)
theorem dX0_isKept_16 : decode cX0_isKept 16 = .ok (.ifCond .ne 7, 3) := dk_154 0 7 (dk_at dksX0_isKept_0 16 rfl rfl)
theorem dX0_isKept_19 : decode cX0_isKept 19 = .ok (.iconst 1, 1) := dk_4 (dk_at dksX0_isKept_0 19 rfl rfl)
theorem dX0_isKept_20 : decode cX0_isKept 20 = .ok (.goto 4, 3) := dk_167 0 4 (dk_at dksX0_isKept_0 20 rfl rfl)
theorem dX0_isKept_23 : decode cX0_isKept 23 = .ok (.iconst 0, 1) := dk_3 (dk_at dksX0_isKept_0 23 rfl rfl)
theorem dX0_isKept_24 : decode cX0_isKept 24 = .ok (.ireturn, 1) := dk_172 (dk_at dksX0_isKept_1 0 rfl rfl)
abbrev cX0_air : ByteArray := prog_1_method_24_code
def yX0_air : MethodName := ⟨RX0, "air", "(I)Z"⟩
def dkwX0_air_2 : List UInt8 := [180, 0, 239, 4, 100, 184, 0, 245, 181, 0, 239, 42, 180, 0, 51, 180, 0, 172, 27, 3, 79, 4, 172]
abbrev dktX0_air_2 : List UInt8 := dkwX0_air_2 ++ []
def dkwX0_air_1 : List UInt8 := [180, 0, 172, 27, 46, 154, 0, 5, 3, 172, 42, 182, 0, 233, 42, 180, 0, 51, 3, 42, 180, 0, 51]
abbrev dktX0_air_1 : List UInt8 := dkwX0_air_1 ++ dktX0_air_2
def dkwX0_air_0 : List UInt8 := [42, 27, 182, 0, 236, 153, 0, 26, 42, 180, 0, 51, 27, 182, 0, 175, 154, 0, 15, 42, 180, 0, 51]
abbrev dktX0_air_0 : List UInt8 := dkwX0_air_0 ++ dktX0_air_1
theorem dksX0_air_0 : cX0_air.data.toList.drop 0 = dktX0_air_0 := by decide +kernel
theorem dksX0_air_1 : cX0_air.data.toList.drop 23 = dktX0_air_1 := dk_seg dksX0_air_0 23 rfl rfl
theorem dksX0_air_2 : cX0_air.data.toList.drop 46 = dktX0_air_2 := dk_seg dksX0_air_1 23 rfl rfl
theorem dX0_air_0 : decode cX0_air 0 = .ok (.aload_n 0, 1) := dk_42 (dk_at dksX0_air_0 0 rfl rfl)
theorem dX0_air_1 : decode cX0_air 1 = .ok (.iload_n 1, 1) := dk_27 (dk_at dksX0_air_0 1 rfl rfl)
theorem dX0_air_2 : decode cX0_air 2 = .ok (.invokevirtual 236, 3) := dk_182 0 236 (dk_at dksX0_air_0 2 rfl rfl)
theorem dX0_air_5 : decode cX0_air 5 = .ok (.ifCond .eq 26, 3) := dk_153 0 26 (dk_at dksX0_air_0 5 rfl rfl)
theorem dX0_air_8 : decode cX0_air 8 = .ok (.aload_n 0, 1) := dk_42 (dk_at dksX0_air_0 8 rfl rfl)
theorem dX0_air_9 : decode cX0_air 9 = .ok (.getfield 51, 3) := dk_180 0 51 (dk_at dksX0_air_0 9 rfl rfl)
theorem dX0_air_12 : decode cX0_air 12 = .ok (.iload_n 1, 1) := dk_27 (dk_at dksX0_air_0 12 rfl rfl)
theorem dX0_air_13 : decode cX0_air 13 = .ok (.invokevirtual 175, 3) := dk_182 0 175 (dk_at dksX0_air_0 13 rfl rfl)
theorem dX0_air_16 : decode cX0_air 16 = .ok (.ifCond .ne 15, 3) := dk_154 0 15 (dk_at dksX0_air_0 16 rfl rfl)
theorem dX0_air_19 : decode cX0_air 19 = .ok (.aload_n 0, 1) := dk_42 (dk_at dksX0_air_0 19 rfl rfl)
theorem dX0_air_20 : decode cX0_air 20 = .ok (.getfield 51, 3) := dk_180 0 51 (dk_at dksX0_air_0 20 rfl rfl)
theorem dX0_air_23 : decode cX0_air 23 = .ok (.getfield 172, 3) := dk_180 0 172 (dk_at dksX0_air_1 0 rfl rfl)
theorem dX0_air_26 : decode cX0_air 26 = .ok (.iload_n 1, 1) := dk_27 (dk_at dksX0_air_1 3 rfl rfl)
theorem dX0_air_27 : decode cX0_air 27 = .ok (.iaload, 1) := dk_46 (dk_at dksX0_air_1 4 rfl rfl)
theorem dX0_air_28 : decode cX0_air 28 = .ok (.ifCond .ne 5, 3) := dk_154 0 5 (dk_at dksX0_air_1 5 rfl rfl)
theorem dX0_air_31 : decode cX0_air 31 = .ok (.iconst 0, 1) := dk_3 (dk_at dksX0_air_1 8 rfl rfl)
theorem dX0_air_32 : decode cX0_air 32 = .ok (.ireturn, 1) := dk_172 (dk_at dksX0_air_1 9 rfl rfl)
theorem dX0_air_33 : decode cX0_air 33 = .ok (.aload_n 0, 1) := dk_42 (dk_at dksX0_air_1 10 rfl rfl)
theorem dX0_air_34 : decode cX0_air 34 = .ok (.invokevirtual 233, 3) := dk_182 0 233 (dk_at dksX0_air_1 11 rfl rfl)
theorem dX0_air_37 : decode cX0_air 37 = .ok (.aload_n 0, 1) := dk_42 (dk_at dksX0_air_1 14 rfl rfl)
theorem dX0_air_38 : decode cX0_air 38 = .ok (.getfield 51, 3) := dk_180 0 51 (dk_at dksX0_air_1 15 rfl rfl)
theorem dX0_air_41 : decode cX0_air 41 = .ok (.iconst 0, 1) := dk_3 (dk_at dksX0_air_1 18 rfl rfl)
theorem dX0_air_42 : decode cX0_air 42 = .ok (.aload_n 0, 1) := dk_42 (dk_at dksX0_air_1 19 rfl rfl)
theorem dX0_air_43 : decode cX0_air 43 = .ok (.getfield 51, 3) := dk_180 0 51 (dk_at dksX0_air_1 20 rfl rfl)
theorem dX0_air_46 : decode cX0_air 46 = .ok (.getfield 239, 3) := dk_180 0 239 (dk_at dksX0_air_2 0 rfl rfl)
theorem dX0_air_49 : decode cX0_air 49 = .ok (.iconst 1, 1) := dk_4 (dk_at dksX0_air_2 3 rfl rfl)
theorem dX0_air_50 : decode cX0_air 50 = .ok (.isub, 1) := dk_100 (dk_at dksX0_air_2 4 rfl rfl)
theorem dX0_air_51 : decode cX0_air 51 = .ok (.invokestatic 245, 3) := dk_184 0 245 (dk_at dksX0_air_2 5 rfl rfl)
theorem dX0_air_54 : decode cX0_air 54 = .ok (.putfield 239, 3) := dk_181 0 239 (dk_at dksX0_air_2 8 rfl rfl)
theorem dX0_air_57 : decode cX0_air 57 = .ok (.aload_n 0, 1) := dk_42 (dk_at dksX0_air_2 11 rfl rfl)
theorem dX0_air_58 : decode cX0_air 58 = .ok (.getfield 51, 3) := dk_180 0 51 (dk_at dksX0_air_2 12 rfl rfl)
theorem dX0_air_61 : decode cX0_air 61 = .ok (.getfield 172, 3) := dk_180 0 172 (dk_at dksX0_air_2 15 rfl rfl)
theorem dX0_air_64 : decode cX0_air 64 = .ok (.iload_n 1, 1) := dk_27 (dk_at dksX0_air_2 18 rfl rfl)
theorem dX0_air_65 : decode cX0_air 65 = .ok (.iconst 0, 1) := dk_3 (dk_at dksX0_air_2 19 rfl rfl)
theorem dX0_air_66 : decode cX0_air 66 = .ok (.iastore, 1) := dk_79 (dk_at dksX0_air_2 20 rfl rfl)
theorem dX0_air_67 : decode cX0_air 67 = .ok (.iconst 1, 1) := dk_4 (dk_at dksX0_air_2 21 rfl rfl)
theorem dX0_air_68 : decode cX0_air 68 = .ok (.ireturn, 1) := dk_172 (dk_at dksX0_air_2 22 rfl rfl)
abbrev cX0_weeks : ByteArray := prog_1_method_26_code
def yX0_weeks : MethodName := ⟨RX0, "weeks", "(I)I"⟩
def dkwX0_weeks_1 : List UInt8 := [180, 0, 68, 182, 0, 255, 42, 180, 0, 51, 180, 1, 3, 172]
abbrev dktX0_weeks_1 : List UInt8 := dkwX0_weeks_1 ++ []
def dkwX0_weeks_0 : List UInt8 := [27, 184, 0, 252, 154, 0, 5, 2, 172, 27, 158, 0, 7, 42, 182, 0, 233, 42, 42, 180, 0, 51, 27, 42]
abbrev dktX0_weeks_0 : List UInt8 := dkwX0_weeks_0 ++ dktX0_weeks_1
theorem dksX0_weeks_0 : cX0_weeks.data.toList.drop 0 = dktX0_weeks_0 := by decide +kernel
theorem dksX0_weeks_1 : cX0_weeks.data.toList.drop 24 = dktX0_weeks_1 := dk_seg dksX0_weeks_0 24 rfl rfl
theorem dX0_weeks_0 : decode cX0_weeks 0 = .ok (.iload_n 1, 1) := dk_27 (dk_at dksX0_weeks_0 0 rfl rfl)
theorem dX0_weeks_1 : decode cX0_weeks 1 = .ok (.invokestatic 252, 3) := dk_184 0 252 (dk_at dksX0_weeks_0 1 rfl rfl)
theorem dX0_weeks_4 : decode cX0_weeks 4 = .ok (.ifCond .ne 5, 3) := dk_154 0 5 (dk_at dksX0_weeks_0 4 rfl rfl)
theorem dX0_weeks_7 : decode cX0_weeks 7 = .ok (.iconst (-1), 1) := dk_2 (dk_at dksX0_weeks_0 7 rfl rfl)
theorem dX0_weeks_8 : decode cX0_weeks 8 = .ok (.ireturn, 1) := dk_172 (dk_at dksX0_weeks_0 8 rfl rfl)
theorem dX0_weeks_9 : decode cX0_weeks 9 = .ok (.iload_n 1, 1) := dk_27 (dk_at dksX0_weeks_0 9 rfl rfl)
theorem dX0_weeks_10 : decode cX0_weeks 10 = .ok (.ifCond .le 7, 3) := dk_158 0 7 (dk_at dksX0_weeks_0 10 rfl rfl)
theorem dX0_weeks_13 : decode cX0_weeks 13 = .ok (.aload_n 0, 1) := dk_42 (dk_at dksX0_weeks_0 13 rfl rfl)
theorem dX0_weeks_14 : decode cX0_weeks 14 = .ok (.invokevirtual 233, 3) := dk_182 0 233 (dk_at dksX0_weeks_0 14 rfl rfl)
theorem dX0_weeks_17 : decode cX0_weeks 17 = .ok (.aload_n 0, 1) := dk_42 (dk_at dksX0_weeks_0 17 rfl rfl)
theorem dX0_weeks_18 : decode cX0_weeks 18 = .ok (.aload_n 0, 1) := dk_42 (dk_at dksX0_weeks_0 18 rfl rfl)
theorem dX0_weeks_19 : decode cX0_weeks 19 = .ok (.getfield 51, 3) := dk_180 0 51 (dk_at dksX0_weeks_0 19 rfl rfl)
theorem dX0_weeks_22 : decode cX0_weeks 22 = .ok (.iload_n 1, 1) := dk_27 (dk_at dksX0_weeks_0 22 rfl rfl)
theorem dX0_weeks_23 : decode cX0_weeks 23 = .ok (.aload_n 0, 1) := dk_42 (dk_at dksX0_weeks_0 23 rfl rfl)
theorem dX0_weeks_24 : decode cX0_weeks 24 = .ok (.getfield 68, 3) := dk_180 0 68 (dk_at dksX0_weeks_1 0 rfl rfl)
theorem dX0_weeks_27 : decode cX0_weeks 27 = .ok (.invokevirtual 255, 3) := dk_182 0 255 (dk_at dksX0_weeks_1 3 rfl rfl)
theorem dX0_weeks_30 : decode cX0_weeks 30 = .ok (.aload_n 0, 1) := dk_42 (dk_at dksX0_weeks_1 6 rfl rfl)
theorem dX0_weeks_31 : decode cX0_weeks 31 = .ok (.getfield 51, 3) := dk_180 0 51 (dk_at dksX0_weeks_1 7 rfl rfl)
theorem dX0_weeks_34 : decode cX0_weeks 34 = .ok (.getfield 259, 3) := dk_180 1 3 (dk_at dksX0_weeks_1 10 rfl rfl)
theorem dX0_weeks_37 : decode cX0_weeks 37 = .ok (.ireturn, 1) := dk_172 (dk_at dksX0_weeks_1 13 rfl rfl)
abbrev cX0_isAhead : ByteArray := prog_1_method_15_code
def yX0_isAhead : MethodName := ⟨RX0, "isAhead", "(I)Z"⟩
def dkwX0_isAhead_0 : List UInt8 := [26, 3, 16, 40, 184, 0, 147, 172]
abbrev dktX0_isAhead_0 : List UInt8 := dkwX0_isAhead_0 ++ []
theorem dksX0_isAhead_0 : cX0_isAhead.data.toList.drop 0 = dktX0_isAhead_0 := by decide +kernel
theorem dX0_isAhead_0 : decode cX0_isAhead 0 = .ok (.iload_n 0, 1) := dk_26 (dk_at dksX0_isAhead_0 0 rfl rfl)
theorem dX0_isAhead_1 : decode cX0_isAhead 1 = .ok (.iconst 0, 1) := dk_3 (dk_at dksX0_isAhead_0 1 rfl rfl)
theorem dX0_isAhead_2 : decode cX0_isAhead 2 = .ok (.bipush 40, 2) := dk_16 40 (dk_at dksX0_isAhead_0 2 rfl rfl)
theorem dX0_isAhead_4 : decode cX0_isAhead 4 = .ok (.invokestatic 147, 3) := dk_184 0 147 (dk_at dksX0_isAhead_0 4 rfl rfl)
theorem dX0_isAhead_7 : decode cX0_isAhead 7 = .ok (.ireturn, 1) := dk_172 (dk_at dksX0_isAhead_0 7 rfl rfl)
abbrev cX0_runs : ByteArray := prog_1_method_25_code
def yX0_runs : MethodName := ⟨RX0, "runs", "(LLentSundays$House;ILLentSundays$Fate;)V"⟩
def dkwX0_runs_1 : List UInt8 := [177]
abbrev dktX0_runs_1 : List UInt8 := dkwX0_runs_1 ++ []
def dkwX0_runs_0 : List UInt8 := [3, 54, 4, 21, 4, 28, 162, 0, 18, 43, 42, 180, 0, 40, 45, 182, 0, 248, 132, 4, 1, 167, 255, 238]
abbrev dktX0_runs_0 : List UInt8 := dkwX0_runs_0 ++ dktX0_runs_1
theorem dksX0_runs_0 : cX0_runs.data.toList.drop 0 = dktX0_runs_0 := by decide +kernel
theorem dksX0_runs_1 : cX0_runs.data.toList.drop 24 = dktX0_runs_1 := dk_seg dksX0_runs_0 24 rfl rfl
theorem dX0_runs_0 : decode cX0_runs 0 = .ok (.iconst 0, 1) := dk_3 (dk_at dksX0_runs_0 0 rfl rfl)
theorem dX0_runs_1 : decode cX0_runs 1 = .ok (.istore 4, 2) := dk_54 4 (dk_at dksX0_runs_0 1 rfl rfl)
theorem dX0_runs_3 : decode cX0_runs 3 = .ok (.iload 4, 2) := dk_21 4 (dk_at dksX0_runs_0 3 rfl rfl)
theorem dX0_runs_5 : decode cX0_runs 5 = .ok (.iload_n 2, 1) := dk_28 (dk_at dksX0_runs_0 5 rfl rfl)
theorem dX0_runs_6 : decode cX0_runs 6 = .ok (.if_icmp .ge 18, 3) := dk_162 0 18 (dk_at dksX0_runs_0 6 rfl rfl)
theorem dX0_runs_9 : decode cX0_runs 9 = .ok (.aload_n 1, 1) := dk_43 (dk_at dksX0_runs_0 9 rfl rfl)
theorem dX0_runs_10 : decode cX0_runs 10 = .ok (.aload_n 0, 1) := dk_42 (dk_at dksX0_runs_0 10 rfl rfl)
theorem dX0_runs_11 : decode cX0_runs 11 = .ok (.getfield 40, 3) := dk_180 0 40 (dk_at dksX0_runs_0 11 rfl rfl)
theorem dX0_runs_14 : decode cX0_runs 14 = .ok (.aload_n 3, 1) := dk_45 (dk_at dksX0_runs_0 14 rfl rfl)
theorem dX0_runs_15 : decode cX0_runs 15 = .ok (.invokevirtual 248, 3) := dk_182 0 248 (dk_at dksX0_runs_0 15 rfl rfl)
theorem dX0_runs_18 : decode cX0_runs 18 = .ok (.iinc 4 1, 3) := dk_132 4 1 (dk_at dksX0_runs_0 18 rfl rfl)
theorem dX0_runs_21 : decode cX0_runs 21 = .ok (.goto (-18), 3) := dk_167 255 238 (dk_at dksX0_runs_0 21 rfl rfl)
theorem dX0_runs_24 : decode cX0_runs 24 = .ok (.return_, 1) := dk_177 (dk_at dksX0_runs_1 0 rfl rfl)
abbrev cX0_lot : ByteArray := prog_1_method_2_code
def yX0_lot : MethodName := ⟨RX0, "lot", "(III)I"⟩
def dkwX0_lot_0 : List UInt8 := [26, 17, 0, 165, 184, 0, 2, 27, 184, 0, 2, 4, 124, 28, 112, 172]
abbrev dktX0_lot_0 : List UInt8 := dkwX0_lot_0 ++ []
theorem dksX0_lot_0 : cX0_lot.data.toList.drop 0 = dktX0_lot_0 := by decide +kernel
theorem dX0_lot_0 : decode cX0_lot 0 = .ok (.iload_n 0, 1) := dk_26 (dk_at dksX0_lot_0 0 rfl rfl)
theorem dX0_lot_1 : decode cX0_lot 1 = .ok (.sipush 165, 3) := dk_17 0 165 (dk_at dksX0_lot_0 1 rfl rfl)
theorem dX0_lot_4 : decode cX0_lot 4 = .ok (.invokestatic 2, 3) := dk_184 0 2 (dk_at dksX0_lot_0 4 rfl rfl)
theorem dX0_lot_7 : decode cX0_lot 7 = .ok (.iload_n 1, 1) := dk_27 (dk_at dksX0_lot_0 7 rfl rfl)
theorem dX0_lot_8 : decode cX0_lot 8 = .ok (.invokestatic 2, 3) := dk_184 0 2 (dk_at dksX0_lot_0 8 rfl rfl)
theorem dX0_lot_11 : decode cX0_lot 11 = .ok (.iconst 1, 1) := dk_4 (dk_at dksX0_lot_0 11 rfl rfl)
theorem dX0_lot_12 : decode cX0_lot 12 = .ok (.iushr, 1) := dk_124 (dk_at dksX0_lot_0 12 rfl rfl)
theorem dX0_lot_13 : decode cX0_lot 13 = .ok (.iload_n 2, 1) := dk_28 (dk_at dksX0_lot_0 13 rfl rfl)
theorem dX0_lot_14 : decode cX0_lot 14 = .ok (.irem, 1) := dk_112 (dk_at dksX0_lot_0 14 rfl rfl)
theorem dX0_lot_15 : decode cX0_lot 15 = .ok (.ireturn, 1) := dk_172 (dk_at dksX0_lot_0 15 rfl rfl)
abbrev cX0_mixed : ByteArray := prog_1_method_1_code
def yX0_mixed : MethodName := ⟨RX0, "mixed", "(II)I"⟩
def dkwX0_mixed_0 : List UInt8 := [26, 27, 130, 18, 1, 104, 17, 48, 57, 96, 61, 28, 28, 16, 15, 124, 130, 172]
abbrev dktX0_mixed_0 : List UInt8 := dkwX0_mixed_0 ++ []
theorem dksX0_mixed_0 : cX0_mixed.data.toList.drop 0 = dktX0_mixed_0 := by decide +kernel
theorem dX0_mixed_0 : decode cX0_mixed 0 = .ok (.iload_n 0, 1) := dk_26 (dk_at dksX0_mixed_0 0 rfl rfl)
theorem dX0_mixed_1 : decode cX0_mixed 1 = .ok (.iload_n 1, 1) := dk_27 (dk_at dksX0_mixed_0 1 rfl rfl)
theorem dX0_mixed_2 : decode cX0_mixed 2 = .ok (.ixor, 1) := dk_130 (dk_at dksX0_mixed_0 2 rfl rfl)
theorem dX0_mixed_3 : decode cX0_mixed 3 = .ok (.ldc 1, 2) := dk_18 1 (dk_at dksX0_mixed_0 3 rfl rfl)
theorem dX0_mixed_5 : decode cX0_mixed 5 = .ok (.imul, 1) := dk_104 (dk_at dksX0_mixed_0 5 rfl rfl)
theorem dX0_mixed_6 : decode cX0_mixed 6 = .ok (.sipush 12345, 3) := dk_17 48 57 (dk_at dksX0_mixed_0 6 rfl rfl)
theorem dX0_mixed_9 : decode cX0_mixed 9 = .ok (.iadd, 1) := dk_96 (dk_at dksX0_mixed_0 9 rfl rfl)
theorem dX0_mixed_10 : decode cX0_mixed 10 = .ok (.istore_n 2, 1) := dk_61 (dk_at dksX0_mixed_0 10 rfl rfl)
theorem dX0_mixed_11 : decode cX0_mixed 11 = .ok (.iload_n 2, 1) := dk_28 (dk_at dksX0_mixed_0 11 rfl rfl)
theorem dX0_mixed_12 : decode cX0_mixed 12 = .ok (.iload_n 2, 1) := dk_28 (dk_at dksX0_mixed_0 12 rfl rfl)
theorem dX0_mixed_13 : decode cX0_mixed 13 = .ok (.bipush 15, 2) := dk_16 15 (dk_at dksX0_mixed_0 13 rfl rfl)
theorem dX0_mixed_15 : decode cX0_mixed 15 = .ok (.iushr, 1) := dk_124 (dk_at dksX0_mixed_0 15 rfl rfl)
theorem dX0_mixed_16 : decode cX0_mixed 16 = .ok (.ixor, 1) := dk_130 (dk_at dksX0_mixed_0 16 rfl rfl)
theorem dX0_mixed_17 : decode cX0_mixed 17 = .ok (.ireturn, 1) := dk_172 (dk_at dksX0_mixed_0 17 rfl rfl)
abbrev cX0_undo : ByteArray := prog_1_method_27_code
def yX0_undo : MethodName := ⟨RX0, "undo", "()Z"⟩
def dkwX0_undo_2 : List UInt8 := [182, 0, 221, 4, 172]
abbrev dktX0_undo_2 : List UInt8 := dkwX0_undo_2 ++ []
def dkwX0_undo_1 : List UInt8 := [16, 40, 96, 4, 100, 16, 40, 112, 181, 0, 218, 42, 180, 0, 51, 42, 180, 0, 58, 42, 180, 0, 218, 50]
abbrev dktX0_undo_1 : List UInt8 := dkwX0_undo_1 ++ dktX0_undo_2
def dkwX0_undo_0 : List UInt8 := [42, 180, 0, 122, 154, 0, 5, 3, 172, 42, 89, 180, 0, 122, 4, 100, 181, 0, 122, 42, 42, 180, 0, 218]
abbrev dktX0_undo_0 : List UInt8 := dkwX0_undo_0 ++ dktX0_undo_1
theorem dksX0_undo_0 : cX0_undo.data.toList.drop 0 = dktX0_undo_0 := by decide +kernel
theorem dksX0_undo_1 : cX0_undo.data.toList.drop 24 = dktX0_undo_1 := dk_seg dksX0_undo_0 24 rfl rfl
theorem dksX0_undo_2 : cX0_undo.data.toList.drop 48 = dktX0_undo_2 := dk_seg dksX0_undo_1 24 rfl rfl
theorem dX0_undo_0 : decode cX0_undo 0 = .ok (.aload_n 0, 1) := dk_42 (dk_at dksX0_undo_0 0 rfl rfl)
theorem dX0_undo_1 : decode cX0_undo 1 = .ok (.getfield 122, 3) := dk_180 0 122 (dk_at dksX0_undo_0 1 rfl rfl)
theorem dX0_undo_4 : decode cX0_undo 4 = .ok (.ifCond .ne 5, 3) := dk_154 0 5 (dk_at dksX0_undo_0 4 rfl rfl)
theorem dX0_undo_7 : decode cX0_undo 7 = .ok (.iconst 0, 1) := dk_3 (dk_at dksX0_undo_0 7 rfl rfl)
theorem dX0_undo_8 : decode cX0_undo 8 = .ok (.ireturn, 1) := dk_172 (dk_at dksX0_undo_0 8 rfl rfl)
theorem dX0_undo_9 : decode cX0_undo 9 = .ok (.aload_n 0, 1) := dk_42 (dk_at dksX0_undo_0 9 rfl rfl)
theorem dX0_undo_10 : decode cX0_undo 10 = .ok (.dup, 1) := dk_89 (dk_at dksX0_undo_0 10 rfl rfl)
theorem dX0_undo_11 : decode cX0_undo 11 = .ok (.getfield 122, 3) := dk_180 0 122 (dk_at dksX0_undo_0 11 rfl rfl)
theorem dX0_undo_14 : decode cX0_undo 14 = .ok (.iconst 1, 1) := dk_4 (dk_at dksX0_undo_0 14 rfl rfl)
theorem dX0_undo_15 : decode cX0_undo 15 = .ok (.isub, 1) := dk_100 (dk_at dksX0_undo_0 15 rfl rfl)
theorem dX0_undo_16 : decode cX0_undo 16 = .ok (.putfield 122, 3) := dk_181 0 122 (dk_at dksX0_undo_0 16 rfl rfl)
theorem dX0_undo_19 : decode cX0_undo 19 = .ok (.aload_n 0, 1) := dk_42 (dk_at dksX0_undo_0 19 rfl rfl)
theorem dX0_undo_20 : decode cX0_undo 20 = .ok (.aload_n 0, 1) := dk_42 (dk_at dksX0_undo_0 20 rfl rfl)
theorem dX0_undo_21 : decode cX0_undo 21 = .ok (.getfield 218, 3) := dk_180 0 218 (dk_at dksX0_undo_0 21 rfl rfl)
theorem dX0_undo_24 : decode cX0_undo 24 = .ok (.bipush 40, 2) := dk_16 40 (dk_at dksX0_undo_1 0 rfl rfl)
theorem dX0_undo_26 : decode cX0_undo 26 = .ok (.iadd, 1) := dk_96 (dk_at dksX0_undo_1 2 rfl rfl)
theorem dX0_undo_27 : decode cX0_undo 27 = .ok (.iconst 1, 1) := dk_4 (dk_at dksX0_undo_1 3 rfl rfl)
theorem dX0_undo_28 : decode cX0_undo 28 = .ok (.isub, 1) := dk_100 (dk_at dksX0_undo_1 4 rfl rfl)
theorem dX0_undo_29 : decode cX0_undo 29 = .ok (.bipush 40, 2) := dk_16 40 (dk_at dksX0_undo_1 5 rfl rfl)
theorem dX0_undo_31 : decode cX0_undo 31 = .ok (.irem, 1) := dk_112 (dk_at dksX0_undo_1 7 rfl rfl)
theorem dX0_undo_32 : decode cX0_undo 32 = .ok (.putfield 218, 3) := dk_181 0 218 (dk_at dksX0_undo_1 8 rfl rfl)
theorem dX0_undo_35 : decode cX0_undo 35 = .ok (.aload_n 0, 1) := dk_42 (dk_at dksX0_undo_1 11 rfl rfl)
theorem dX0_undo_36 : decode cX0_undo 36 = .ok (.getfield 51, 3) := dk_180 0 51 (dk_at dksX0_undo_1 12 rfl rfl)
theorem dX0_undo_39 : decode cX0_undo 39 = .ok (.aload_n 0, 1) := dk_42 (dk_at dksX0_undo_1 15 rfl rfl)
theorem dX0_undo_40 : decode cX0_undo 40 = .ok (.getfield 58, 3) := dk_180 0 58 (dk_at dksX0_undo_1 16 rfl rfl)
theorem dX0_undo_43 : decode cX0_undo 43 = .ok (.aload_n 0, 1) := dk_42 (dk_at dksX0_undo_1 19 rfl rfl)
theorem dX0_undo_44 : decode cX0_undo 44 = .ok (.getfield 218, 3) := dk_180 0 218 (dk_at dksX0_undo_1 20 rfl rfl)
theorem dX0_undo_47 : decode cX0_undo 47 = .ok (.aaload, 1) := dk_50 (dk_at dksX0_undo_1 23 rfl rfl)
theorem dX0_undo_48 : decode cX0_undo 48 = .ok (.invokevirtual 221, 3) := dk_182 0 221 (dk_at dksX0_undo_2 0 rfl rfl)
theorem dX0_undo_51 : decode cX0_undo 51 = .ok (.iconst 1, 1) := dk_4 (dk_at dksX0_undo_2 3 rfl rfl)
theorem dX0_undo_52 : decode cX0_undo 52 = .ok (.ireturn, 1) := dk_172 (dk_at dksX0_undo_2 4 rfl rfl)
abbrev cX0_alone : ByteArray := prog_1_method_32_code
def yX0_alone : MethodName := ⟨RX0, "alone", "(II)I"⟩
def dkwX0_alone_3 : List UInt8 := [42, 180, 0, 84, 27, 50, 29, 46, 167, 0, 4, 29, 172]
abbrev dktX0_alone_3 : List UInt8 := dkwX0_alone_3 ++ []
def dkwX0_alone_2 : List UInt8 := [42, 180, 0, 84, 27, 50, 29, 46, 164, 0, 6, 21, 4, 62, 132, 4, 1, 167, 255, 221, 28, 154, 0, 14]
abbrev dktX0_alone_2 : List UInt8 := dkwX0_alone_2 ++ dktX0_alone_3
def dkwX0_alone_1 : List UInt8 := [182, 1, 29, 4, 54, 4, 21, 4, 42, 182, 1, 23, 162, 0, 32, 42, 180, 0, 84, 27, 50, 21, 4, 46]
abbrev dktX0_alone_1 : List UInt8 := dkwX0_alone_1 ++ dktX0_alone_2
def dkwX0_alone_0 : List UInt8 := [42, 27, 182, 0, 153, 153, 0, 12, 28, 3, 4, 184, 0, 147, 154, 0, 5, 2, 172, 3, 62, 42]
abbrev dktX0_alone_0 : List UInt8 := dkwX0_alone_0 ++ dktX0_alone_1
theorem dksX0_alone_0 : cX0_alone.data.toList.drop 0 = dktX0_alone_0 := by decide +kernel
theorem dksX0_alone_1 : cX0_alone.data.toList.drop 22 = dktX0_alone_1 := dk_seg dksX0_alone_0 22 rfl rfl
theorem dksX0_alone_2 : cX0_alone.data.toList.drop 46 = dktX0_alone_2 := dk_seg dksX0_alone_1 24 rfl rfl
theorem dksX0_alone_3 : cX0_alone.data.toList.drop 70 = dktX0_alone_3 := dk_seg dksX0_alone_2 24 rfl rfl
theorem dX0_alone_0 : decode cX0_alone 0 = .ok (.aload_n 0, 1) := dk_42 (dk_at dksX0_alone_0 0 rfl rfl)
theorem dX0_alone_1 : decode cX0_alone 1 = .ok (.iload_n 1, 1) := dk_27 (dk_at dksX0_alone_0 1 rfl rfl)
theorem dX0_alone_2 : decode cX0_alone 2 = .ok (.invokevirtual 153, 3) := dk_182 0 153 (dk_at dksX0_alone_0 2 rfl rfl)
theorem dX0_alone_5 : decode cX0_alone 5 = .ok (.ifCond .eq 12, 3) := dk_153 0 12 (dk_at dksX0_alone_0 5 rfl rfl)
theorem dX0_alone_8 : decode cX0_alone 8 = .ok (.iload_n 2, 1) := dk_28 (dk_at dksX0_alone_0 8 rfl rfl)
theorem dX0_alone_9 : decode cX0_alone 9 = .ok (.iconst 0, 1) := dk_3 (dk_at dksX0_alone_0 9 rfl rfl)
theorem dX0_alone_10 : decode cX0_alone 10 = .ok (.iconst 1, 1) := dk_4 (dk_at dksX0_alone_0 10 rfl rfl)
theorem dX0_alone_11 : decode cX0_alone 11 = .ok (.invokestatic 147, 3) := dk_184 0 147 (dk_at dksX0_alone_0 11 rfl rfl)
theorem dX0_alone_14 : decode cX0_alone 14 = .ok (.ifCond .ne 5, 3) := dk_154 0 5 (dk_at dksX0_alone_0 14 rfl rfl)
theorem dX0_alone_17 : decode cX0_alone 17 = .ok (.iconst (-1), 1) := dk_2 (dk_at dksX0_alone_0 17 rfl rfl)
theorem dX0_alone_18 : decode cX0_alone 18 = .ok (.ireturn, 1) := dk_172 (dk_at dksX0_alone_0 18 rfl rfl)
theorem dX0_alone_19 : decode cX0_alone 19 = .ok (.iconst 0, 1) := dk_3 (dk_at dksX0_alone_0 19 rfl rfl)
theorem dX0_alone_20 : decode cX0_alone 20 = .ok (.istore_n 3, 1) := dk_62 (dk_at dksX0_alone_0 20 rfl rfl)
theorem dX0_alone_21 : decode cX0_alone 21 = .ok (.aload_n 0, 1) := dk_42 (dk_at dksX0_alone_0 21 rfl rfl)
theorem dX0_alone_22 : decode cX0_alone 22 = .ok (.invokevirtual 285, 3) := dk_182 1 29 (dk_at dksX0_alone_1 0 rfl rfl)
theorem dX0_alone_25 : decode cX0_alone 25 = .ok (.iconst 1, 1) := dk_4 (dk_at dksX0_alone_1 3 rfl rfl)
theorem dX0_alone_26 : decode cX0_alone 26 = .ok (.istore 4, 2) := dk_54 4 (dk_at dksX0_alone_1 4 rfl rfl)
theorem dX0_alone_28 : decode cX0_alone 28 = .ok (.iload 4, 2) := dk_21 4 (dk_at dksX0_alone_1 6 rfl rfl)
theorem dX0_alone_30 : decode cX0_alone 30 = .ok (.aload_n 0, 1) := dk_42 (dk_at dksX0_alone_1 8 rfl rfl)
theorem dX0_alone_31 : decode cX0_alone 31 = .ok (.invokevirtual 279, 3) := dk_182 1 23 (dk_at dksX0_alone_1 9 rfl rfl)
theorem dX0_alone_34 : decode cX0_alone 34 = .ok (.if_icmp .ge 32, 3) := dk_162 0 32 (dk_at dksX0_alone_1 12 rfl rfl)
theorem dX0_alone_37 : decode cX0_alone 37 = .ok (.aload_n 0, 1) := dk_42 (dk_at dksX0_alone_1 15 rfl rfl)
theorem dX0_alone_38 : decode cX0_alone 38 = .ok (.getfield 84, 3) := dk_180 0 84 (dk_at dksX0_alone_1 16 rfl rfl)
theorem dX0_alone_41 : decode cX0_alone 41 = .ok (.iload_n 1, 1) := dk_27 (dk_at dksX0_alone_1 19 rfl rfl)
theorem dX0_alone_42 : decode cX0_alone 42 = .ok (.aaload, 1) := dk_50 (dk_at dksX0_alone_1 20 rfl rfl)
theorem dX0_alone_43 : decode cX0_alone 43 = .ok (.iload 4, 2) := dk_21 4 (dk_at dksX0_alone_1 21 rfl rfl)
theorem dX0_alone_45 : decode cX0_alone 45 = .ok (.iaload, 1) := dk_46 (dk_at dksX0_alone_1 23 rfl rfl)
theorem dX0_alone_46 : decode cX0_alone 46 = .ok (.aload_n 0, 1) := dk_42 (dk_at dksX0_alone_2 0 rfl rfl)
theorem dX0_alone_47 : decode cX0_alone 47 = .ok (.getfield 84, 3) := dk_180 0 84 (dk_at dksX0_alone_2 1 rfl rfl)
theorem dX0_alone_50 : decode cX0_alone 50 = .ok (.iload_n 1, 1) := dk_27 (dk_at dksX0_alone_2 4 rfl rfl)
theorem dX0_alone_51 : decode cX0_alone 51 = .ok (.aaload, 1) := dk_50 (dk_at dksX0_alone_2 5 rfl rfl)
theorem dX0_alone_52 : decode cX0_alone 52 = .ok (.iload_n 3, 1) := dk_29 (dk_at dksX0_alone_2 6 rfl rfl)
theorem dX0_alone_53 : decode cX0_alone 53 = .ok (.iaload, 1) := dk_46 (dk_at dksX0_alone_2 7 rfl rfl)
theorem dX0_alone_54 : decode cX0_alone 54 = .ok (.if_icmp .le 6, 3) := dk_164 0 6 (dk_at dksX0_alone_2 8 rfl rfl)
theorem dX0_alone_57 : decode cX0_alone 57 = .ok (.iload 4, 2) := dk_21 4 (dk_at dksX0_alone_2 11 rfl rfl)
theorem dX0_alone_59 : decode cX0_alone 59 = .ok (.istore_n 3, 1) := dk_62 (dk_at dksX0_alone_2 13 rfl rfl)
theorem dX0_alone_60 : decode cX0_alone 60 = .ok (.iinc 4 1, 3) := dk_132 4 1 (dk_at dksX0_alone_2 14 rfl rfl)
theorem dX0_alone_63 : decode cX0_alone 63 = .ok (.goto (-35), 3) := dk_167 255 221 (dk_at dksX0_alone_2 17 rfl rfl)
theorem dX0_alone_66 : decode cX0_alone 66 = .ok (.iload_n 2, 1) := dk_28 (dk_at dksX0_alone_2 20 rfl rfl)
theorem dX0_alone_67 : decode cX0_alone 67 = .ok (.ifCond .ne 14, 3) := dk_154 0 14 (dk_at dksX0_alone_2 21 rfl rfl)
theorem dX0_alone_70 : decode cX0_alone 70 = .ok (.aload_n 0, 1) := dk_42 (dk_at dksX0_alone_3 0 rfl rfl)
theorem dX0_alone_71 : decode cX0_alone 71 = .ok (.getfield 84, 3) := dk_180 0 84 (dk_at dksX0_alone_3 1 rfl rfl)
theorem dX0_alone_74 : decode cX0_alone 74 = .ok (.iload_n 1, 1) := dk_27 (dk_at dksX0_alone_3 4 rfl rfl)
theorem dX0_alone_75 : decode cX0_alone 75 = .ok (.aaload, 1) := dk_50 (dk_at dksX0_alone_3 5 rfl rfl)
theorem dX0_alone_76 : decode cX0_alone 76 = .ok (.iload_n 3, 1) := dk_29 (dk_at dksX0_alone_3 6 rfl rfl)
theorem dX0_alone_77 : decode cX0_alone 77 = .ok (.iaload, 1) := dk_46 (dk_at dksX0_alone_3 7 rfl rfl)
theorem dX0_alone_78 : decode cX0_alone 78 = .ok (.goto 4, 3) := dk_167 0 4 (dk_at dksX0_alone_3 8 rfl rfl)
theorem dX0_alone_81 : decode cX0_alone 81 = .ok (.iload_n 3, 1) := dk_29 (dk_at dksX0_alone_3 11 rfl rfl)
theorem dX0_alone_82 : decode cX0_alone 82 = .ok (.ireturn, 1) := dk_172 (dk_at dksX0_alone_3 12 rfl rfl)
abbrev cX0_laysPay : ByteArray := prog_1_method_31_code
def yX0_laysPay : MethodName := ⟨RX0, "laysPay", "()V"⟩
def dkwX0_laysPay_2 : List UInt8 := [132, 1, 1, 167, 255, 207, 177]
abbrev dktX0_laysPay_2 : List UInt8 := dkwX0_laysPay_2 ++ []
def dkwX0_laysPay_1 : List UInt8 := [27, 50, 28, 28, 154, 0, 7, 3, 167, 0, 9, 42, 27, 28, 182, 1, 26, 79, 132, 2, 1, 167, 255, 223]
abbrev dktX0_laysPay_1 : List UInt8 := dkwX0_laysPay_1 ++ dktX0_laysPay_2
def dkwX0_laysPay_0 : List UInt8 := [3, 60, 27, 42, 182, 0, 145, 162, 0, 47, 3, 61, 28, 42, 182, 1, 23, 162, 0, 31, 42, 180, 0, 84]
abbrev dktX0_laysPay_0 : List UInt8 := dkwX0_laysPay_0 ++ dktX0_laysPay_1
theorem dksX0_laysPay_0 : cX0_laysPay.data.toList.drop 0 = dktX0_laysPay_0 := by decide +kernel
theorem dksX0_laysPay_1 : cX0_laysPay.data.toList.drop 24 = dktX0_laysPay_1 := dk_seg dksX0_laysPay_0 24 rfl rfl
theorem dksX0_laysPay_2 : cX0_laysPay.data.toList.drop 48 = dktX0_laysPay_2 := dk_seg dksX0_laysPay_1 24 rfl rfl
theorem dX0_laysPay_0 : decode cX0_laysPay 0 = .ok (.iconst 0, 1) := dk_3 (dk_at dksX0_laysPay_0 0 rfl rfl)
theorem dX0_laysPay_1 : decode cX0_laysPay 1 = .ok (.istore_n 1, 1) := dk_60 (dk_at dksX0_laysPay_0 1 rfl rfl)
theorem dX0_laysPay_2 : decode cX0_laysPay 2 = .ok (.iload_n 1, 1) := dk_27 (dk_at dksX0_laysPay_0 2 rfl rfl)
theorem dX0_laysPay_3 : decode cX0_laysPay 3 = .ok (.aload_n 0, 1) := dk_42 (dk_at dksX0_laysPay_0 3 rfl rfl)
theorem dX0_laysPay_4 : decode cX0_laysPay 4 = .ok (.invokevirtual 145, 3) := dk_182 0 145 (dk_at dksX0_laysPay_0 4 rfl rfl)
theorem dX0_laysPay_7 : decode cX0_laysPay 7 = .ok (.if_icmp .ge 47, 3) := dk_162 0 47 (dk_at dksX0_laysPay_0 7 rfl rfl)
theorem dX0_laysPay_10 : decode cX0_laysPay 10 = .ok (.iconst 0, 1) := dk_3 (dk_at dksX0_laysPay_0 10 rfl rfl)
theorem dX0_laysPay_11 : decode cX0_laysPay 11 = .ok (.istore_n 2, 1) := dk_61 (dk_at dksX0_laysPay_0 11 rfl rfl)
theorem dX0_laysPay_12 : decode cX0_laysPay 12 = .ok (.iload_n 2, 1) := dk_28 (dk_at dksX0_laysPay_0 12 rfl rfl)
theorem dX0_laysPay_13 : decode cX0_laysPay 13 = .ok (.aload_n 0, 1) := dk_42 (dk_at dksX0_laysPay_0 13 rfl rfl)
theorem dX0_laysPay_14 : decode cX0_laysPay 14 = .ok (.invokevirtual 279, 3) := dk_182 1 23 (dk_at dksX0_laysPay_0 14 rfl rfl)
theorem dX0_laysPay_17 : decode cX0_laysPay 17 = .ok (.if_icmp .ge 31, 3) := dk_162 0 31 (dk_at dksX0_laysPay_0 17 rfl rfl)
theorem dX0_laysPay_20 : decode cX0_laysPay 20 = .ok (.aload_n 0, 1) := dk_42 (dk_at dksX0_laysPay_0 20 rfl rfl)
theorem dX0_laysPay_21 : decode cX0_laysPay 21 = .ok (.getfield 84, 3) := dk_180 0 84 (dk_at dksX0_laysPay_0 21 rfl rfl)
theorem dX0_laysPay_24 : decode cX0_laysPay 24 = .ok (.iload_n 1, 1) := dk_27 (dk_at dksX0_laysPay_1 0 rfl rfl)
theorem dX0_laysPay_25 : decode cX0_laysPay 25 = .ok (.aaload, 1) := dk_50 (dk_at dksX0_laysPay_1 1 rfl rfl)
theorem dX0_laysPay_26 : decode cX0_laysPay 26 = .ok (.iload_n 2, 1) := dk_28 (dk_at dksX0_laysPay_1 2 rfl rfl)
theorem dX0_laysPay_27 : decode cX0_laysPay 27 = .ok (.iload_n 2, 1) := dk_28 (dk_at dksX0_laysPay_1 3 rfl rfl)
theorem dX0_laysPay_28 : decode cX0_laysPay 28 = .ok (.ifCond .ne 7, 3) := dk_154 0 7 (dk_at dksX0_laysPay_1 4 rfl rfl)
theorem dX0_laysPay_31 : decode cX0_laysPay 31 = .ok (.iconst 0, 1) := dk_3 (dk_at dksX0_laysPay_1 7 rfl rfl)
theorem dX0_laysPay_32 : decode cX0_laysPay 32 = .ok (.goto 9, 3) := dk_167 0 9 (dk_at dksX0_laysPay_1 8 rfl rfl)
theorem dX0_laysPay_35 : decode cX0_laysPay 35 = .ok (.aload_n 0, 1) := dk_42 (dk_at dksX0_laysPay_1 11 rfl rfl)
theorem dX0_laysPay_36 : decode cX0_laysPay 36 = .ok (.iload_n 1, 1) := dk_27 (dk_at dksX0_laysPay_1 12 rfl rfl)
theorem dX0_laysPay_37 : decode cX0_laysPay 37 = .ok (.iload_n 2, 1) := dk_28 (dk_at dksX0_laysPay_1 13 rfl rfl)
theorem dX0_laysPay_38 : decode cX0_laysPay 38 = .ok (.invokevirtual 282, 3) := dk_182 1 26 (dk_at dksX0_laysPay_1 14 rfl rfl)
theorem dX0_laysPay_41 : decode cX0_laysPay 41 = .ok (.iastore, 1) := dk_79 (dk_at dksX0_laysPay_1 17 rfl rfl)
theorem dX0_laysPay_42 : decode cX0_laysPay 42 = .ok (.iinc 2 1, 3) := dk_132 2 1 (dk_at dksX0_laysPay_1 18 rfl rfl)
theorem dX0_laysPay_45 : decode cX0_laysPay 45 = .ok (.goto (-33), 3) := dk_167 255 223 (dk_at dksX0_laysPay_1 21 rfl rfl)
theorem dX0_laysPay_48 : decode cX0_laysPay 48 = .ok (.iinc 1 1, 3) := dk_132 1 1 (dk_at dksX0_laysPay_2 0 rfl rfl)
theorem dX0_laysPay_51 : decode cX0_laysPay 51 = .ok (.goto (-49), 3) := dk_167 255 207 (dk_at dksX0_laysPay_2 3 rfl rfl)
theorem dX0_laysPay_54 : decode cX0_laysPay 54 = .ok (.return_, 1) := dk_177 (dk_at dksX0_laysPay_2 6 rfl rfl)
abbrev cX0_sets : ByteArray := prog_1_method_28_code
def yX0_sets : MethodName := ⟨RX0, "sets", "()I"⟩
def dkwX0_sets_0 : List UInt8 := [4, 42, 182, 0, 151, 120, 172]
abbrev dktX0_sets_0 : List UInt8 := dkwX0_sets_0 ++ []
theorem dksX0_sets_0 : cX0_sets.data.toList.drop 0 = dktX0_sets_0 := by decide +kernel
theorem dX0_sets_0 : decode cX0_sets 0 = .ok (.iconst 1, 1) := dk_4 (dk_at dksX0_sets_0 0 rfl rfl)
theorem dX0_sets_1 : decode cX0_sets 1 = .ok (.aload_n 0, 1) := dk_42 (dk_at dksX0_sets_0 1 rfl rfl)
theorem dX0_sets_2 : decode cX0_sets 2 = .ok (.invokevirtual 151, 3) := dk_182 0 151 (dk_at dksX0_sets_0 2 rfl rfl)
theorem dX0_sets_5 : decode cX0_sets 5 = .ok (.ishl, 1) := dk_120 (dk_at dksX0_sets_0 5 rfl rfl)
theorem dX0_sets_6 : decode cX0_sets 6 = .ok (.ireturn, 1) := dk_172 (dk_at dksX0_sets_0 6 rfl rfl)
abbrev cX0_payOf : ByteArray := prog_1_method_30_code
def yX0_payOf : MethodName := ⟨RX0, "payOf", "(II)I"⟩
def dkwX0_payOf_4 : List UInt8 := [167, 255, 199, 29, 172]
abbrev dktX0_payOf_4 : List UInt8 := dkwX0_payOf_4 ++ []
def dkwX0_payOf_3 : List UInt8 := [2, 172, 29, 42, 180, 0, 51, 42, 180, 0, 40, 21, 4, 27, 3, 182, 1, 19, 96, 62, 132, 4, 1]
abbrev dktX0_payOf_3 : List UInt8 := dkwX0_payOf_3 ++ dktX0_payOf_4
def dkwX0_payOf_2 : List UInt8 := [21, 4, 122, 4, 126, 154, 0, 6, 167, 0, 36, 42, 180, 0, 40, 21, 4, 27, 182, 1, 15, 154, 0, 5]
abbrev dktX0_payOf_2 : List UInt8 := dkwX0_payOf_2 ++ dktX0_payOf_3
def dkwX0_payOf_1 : List UInt8 := [28, 182, 1, 12, 154, 0, 5, 2, 172, 3, 62, 3, 54, 4, 21, 4, 42, 182, 0, 151, 162, 0, 54, 28]
abbrev dktX0_payOf_1 : List UInt8 := dkwX0_payOf_1 ++ dktX0_payOf_2
def dkwX0_payOf_0 : List UInt8 := [42, 180, 0, 51, 27, 182, 0, 157, 154, 0, 23, 28, 42, 180, 0, 51, 180, 1, 9, 126, 154, 0, 11, 42]
abbrev dktX0_payOf_0 : List UInt8 := dkwX0_payOf_0 ++ dktX0_payOf_1
theorem dksX0_payOf_0 : cX0_payOf.data.toList.drop 0 = dktX0_payOf_0 := by decide +kernel
theorem dksX0_payOf_1 : cX0_payOf.data.toList.drop 24 = dktX0_payOf_1 := dk_seg dksX0_payOf_0 24 rfl rfl
theorem dksX0_payOf_2 : cX0_payOf.data.toList.drop 48 = dktX0_payOf_2 := dk_seg dksX0_payOf_1 24 rfl rfl
theorem dksX0_payOf_3 : cX0_payOf.data.toList.drop 72 = dktX0_payOf_3 := dk_seg dksX0_payOf_2 24 rfl rfl
theorem dksX0_payOf_4 : cX0_payOf.data.toList.drop 95 = dktX0_payOf_4 := dk_seg dksX0_payOf_3 23 rfl rfl
theorem dX0_payOf_0 : decode cX0_payOf 0 = .ok (.aload_n 0, 1) := dk_42 (dk_at dksX0_payOf_0 0 rfl rfl)
theorem dX0_payOf_1 : decode cX0_payOf 1 = .ok (.getfield 51, 3) := dk_180 0 51 (dk_at dksX0_payOf_0 1 rfl rfl)
theorem dX0_payOf_4 : decode cX0_payOf 4 = .ok (.iload_n 1, 1) := dk_27 (dk_at dksX0_payOf_0 4 rfl rfl)
theorem dX0_payOf_5 : decode cX0_payOf 5 = .ok (.invokevirtual 157, 3) := dk_182 0 157 (dk_at dksX0_payOf_0 5 rfl rfl)
theorem dX0_payOf_8 : decode cX0_payOf 8 = .ok (.ifCond .ne 23, 3) := dk_154 0 23 (dk_at dksX0_payOf_0 8 rfl rfl)
theorem dX0_payOf_11 : decode cX0_payOf 11 = .ok (.iload_n 2, 1) := dk_28 (dk_at dksX0_payOf_0 11 rfl rfl)
theorem dX0_payOf_12 : decode cX0_payOf 12 = .ok (.aload_n 0, 1) := dk_42 (dk_at dksX0_payOf_0 12 rfl rfl)
theorem dX0_payOf_13 : decode cX0_payOf 13 = .ok (.getfield 51, 3) := dk_180 0 51 (dk_at dksX0_payOf_0 13 rfl rfl)
theorem dX0_payOf_16 : decode cX0_payOf 16 = .ok (.getfield 265, 3) := dk_180 1 9 (dk_at dksX0_payOf_0 16 rfl rfl)
theorem dX0_payOf_19 : decode cX0_payOf 19 = .ok (.iand, 1) := dk_126 (dk_at dksX0_payOf_0 19 rfl rfl)
theorem dX0_payOf_20 : decode cX0_payOf 20 = .ok (.ifCond .ne 11, 3) := dk_154 0 11 (dk_at dksX0_payOf_0 20 rfl rfl)
theorem dX0_payOf_23 : decode cX0_payOf 23 = .ok (.aload_n 0, 1) := dk_42 (dk_at dksX0_payOf_0 23 rfl rfl)
theorem dX0_payOf_24 : decode cX0_payOf 24 = .ok (.iload_n 2, 1) := dk_28 (dk_at dksX0_payOf_1 0 rfl rfl)
theorem dX0_payOf_25 : decode cX0_payOf 25 = .ok (.invokevirtual 268, 3) := dk_182 1 12 (dk_at dksX0_payOf_1 1 rfl rfl)
theorem dX0_payOf_28 : decode cX0_payOf 28 = .ok (.ifCond .ne 5, 3) := dk_154 0 5 (dk_at dksX0_payOf_1 4 rfl rfl)
theorem dX0_payOf_31 : decode cX0_payOf 31 = .ok (.iconst (-1), 1) := dk_2 (dk_at dksX0_payOf_1 7 rfl rfl)
theorem dX0_payOf_32 : decode cX0_payOf 32 = .ok (.ireturn, 1) := dk_172 (dk_at dksX0_payOf_1 8 rfl rfl)
theorem dX0_payOf_33 : decode cX0_payOf 33 = .ok (.iconst 0, 1) := dk_3 (dk_at dksX0_payOf_1 9 rfl rfl)
theorem dX0_payOf_34 : decode cX0_payOf 34 = .ok (.istore_n 3, 1) := dk_62 (dk_at dksX0_payOf_1 10 rfl rfl)
theorem dX0_payOf_35 : decode cX0_payOf 35 = .ok (.iconst 0, 1) := dk_3 (dk_at dksX0_payOf_1 11 rfl rfl)
theorem dX0_payOf_36 : decode cX0_payOf 36 = .ok (.istore 4, 2) := dk_54 4 (dk_at dksX0_payOf_1 12 rfl rfl)
theorem dX0_payOf_38 : decode cX0_payOf 38 = .ok (.iload 4, 2) := dk_21 4 (dk_at dksX0_payOf_1 14 rfl rfl)
theorem dX0_payOf_40 : decode cX0_payOf 40 = .ok (.aload_n 0, 1) := dk_42 (dk_at dksX0_payOf_1 16 rfl rfl)
theorem dX0_payOf_41 : decode cX0_payOf 41 = .ok (.invokevirtual 151, 3) := dk_182 0 151 (dk_at dksX0_payOf_1 17 rfl rfl)
theorem dX0_payOf_44 : decode cX0_payOf 44 = .ok (.if_icmp .ge 54, 3) := dk_162 0 54 (dk_at dksX0_payOf_1 20 rfl rfl)
theorem dX0_payOf_47 : decode cX0_payOf 47 = .ok (.iload_n 2, 1) := dk_28 (dk_at dksX0_payOf_1 23 rfl rfl)
theorem dX0_payOf_48 : decode cX0_payOf 48 = .ok (.iload 4, 2) := dk_21 4 (dk_at dksX0_payOf_2 0 rfl rfl)
theorem dX0_payOf_50 : decode cX0_payOf 50 = .ok (.ishr, 1) := dk_122 (dk_at dksX0_payOf_2 2 rfl rfl)
theorem dX0_payOf_51 : decode cX0_payOf 51 = .ok (.iconst 1, 1) := dk_4 (dk_at dksX0_payOf_2 3 rfl rfl)
theorem dX0_payOf_52 : decode cX0_payOf 52 = .ok (.iand, 1) := dk_126 (dk_at dksX0_payOf_2 4 rfl rfl)
theorem dX0_payOf_53 : decode cX0_payOf 53 = .ok (.ifCond .ne 6, 3) := dk_154 0 6 (dk_at dksX0_payOf_2 5 rfl rfl)
theorem dX0_payOf_56 : decode cX0_payOf 56 = .ok (.goto 36, 3) := dk_167 0 36 (dk_at dksX0_payOf_2 8 rfl rfl)
theorem dX0_payOf_59 : decode cX0_payOf 59 = .ok (.aload_n 0, 1) := dk_42 (dk_at dksX0_payOf_2 11 rfl rfl)
theorem dX0_payOf_60 : decode cX0_payOf 60 = .ok (.getfield 40, 3) := dk_180 0 40 (dk_at dksX0_payOf_2 12 rfl rfl)
theorem dX0_payOf_63 : decode cX0_payOf 63 = .ok (.iload 4, 2) := dk_21 4 (dk_at dksX0_payOf_2 15 rfl rfl)
theorem dX0_payOf_65 : decode cX0_payOf 65 = .ok (.iload_n 1, 1) := dk_27 (dk_at dksX0_payOf_2 17 rfl rfl)
theorem dX0_payOf_66 : decode cX0_payOf 66 = .ok (.invokevirtual 271, 3) := dk_182 1 15 (dk_at dksX0_payOf_2 18 rfl rfl)
theorem dX0_payOf_69 : decode cX0_payOf 69 = .ok (.ifCond .ne 5, 3) := dk_154 0 5 (dk_at dksX0_payOf_2 21 rfl rfl)
theorem dX0_payOf_72 : decode cX0_payOf 72 = .ok (.iconst (-1), 1) := dk_2 (dk_at dksX0_payOf_3 0 rfl rfl)
theorem dX0_payOf_73 : decode cX0_payOf 73 = .ok (.ireturn, 1) := dk_172 (dk_at dksX0_payOf_3 1 rfl rfl)
theorem dX0_payOf_74 : decode cX0_payOf 74 = .ok (.iload_n 3, 1) := dk_29 (dk_at dksX0_payOf_3 2 rfl rfl)
theorem dX0_payOf_75 : decode cX0_payOf 75 = .ok (.aload_n 0, 1) := dk_42 (dk_at dksX0_payOf_3 3 rfl rfl)
theorem dX0_payOf_76 : decode cX0_payOf 76 = .ok (.getfield 51, 3) := dk_180 0 51 (dk_at dksX0_payOf_3 4 rfl rfl)
theorem dX0_payOf_79 : decode cX0_payOf 79 = .ok (.aload_n 0, 1) := dk_42 (dk_at dksX0_payOf_3 7 rfl rfl)
theorem dX0_payOf_80 : decode cX0_payOf 80 = .ok (.getfield 40, 3) := dk_180 0 40 (dk_at dksX0_payOf_3 8 rfl rfl)
theorem dX0_payOf_83 : decode cX0_payOf 83 = .ok (.iload 4, 2) := dk_21 4 (dk_at dksX0_payOf_3 11 rfl rfl)
theorem dX0_payOf_85 : decode cX0_payOf 85 = .ok (.iload_n 1, 1) := dk_27 (dk_at dksX0_payOf_3 13 rfl rfl)
theorem dX0_payOf_86 : decode cX0_payOf 86 = .ok (.iconst 0, 1) := dk_3 (dk_at dksX0_payOf_3 14 rfl rfl)
theorem dX0_payOf_87 : decode cX0_payOf 87 = .ok (.invokevirtual 275, 3) := dk_182 1 19 (dk_at dksX0_payOf_3 15 rfl rfl)
theorem dX0_payOf_90 : decode cX0_payOf 90 = .ok (.iadd, 1) := dk_96 (dk_at dksX0_payOf_3 18 rfl rfl)
theorem dX0_payOf_91 : decode cX0_payOf 91 = .ok (.istore_n 3, 1) := dk_62 (dk_at dksX0_payOf_3 19 rfl rfl)
theorem dX0_payOf_92 : decode cX0_payOf 92 = .ok (.iinc 4 1, 3) := dk_132 4 1 (dk_at dksX0_payOf_3 20 rfl rfl)
theorem dX0_payOf_95 : decode cX0_payOf 95 = .ok (.goto (-57), 3) := dk_167 255 199 (dk_at dksX0_payOf_4 0 rfl rfl)
theorem dX0_payOf_98 : decode cX0_payOf 98 = .ok (.iload_n 3, 1) := dk_29 (dk_at dksX0_payOf_4 3 rfl rfl)
theorem dX0_payOf_99 : decode cX0_payOf 99 = .ok (.ireturn, 1) := dk_172 (dk_at dksX0_payOf_4 4 rfl rfl)
abbrev cX0_isCalm : ByteArray := prog_1_method_29_code
def yX0_isCalm : MethodName := ⟨RX0, "isCalm", "(I)Z"⟩
def dkwX0_isCalm_1 : List UInt8 := [28, 182, 1, 6, 126, 153, 0, 5, 3, 172, 132, 2, 1, 167, 255, 221, 4, 172]
abbrev dktX0_isCalm_1 : List UInt8 := dkwX0_isCalm_1 ++ []
def dkwX0_isCalm_0 : List UInt8 := [3, 61, 28, 42, 182, 0, 151, 162, 0, 33, 27, 28, 122, 4, 126, 4, 160, 0, 18, 27, 42, 180, 0, 40]
abbrev dktX0_isCalm_0 : List UInt8 := dkwX0_isCalm_0 ++ dktX0_isCalm_1
theorem dksX0_isCalm_0 : cX0_isCalm.data.toList.drop 0 = dktX0_isCalm_0 := by decide +kernel
theorem dksX0_isCalm_1 : cX0_isCalm.data.toList.drop 24 = dktX0_isCalm_1 := dk_seg dksX0_isCalm_0 24 rfl rfl
theorem dX0_isCalm_0 : decode cX0_isCalm 0 = .ok (.iconst 0, 1) := dk_3 (dk_at dksX0_isCalm_0 0 rfl rfl)
theorem dX0_isCalm_1 : decode cX0_isCalm 1 = .ok (.istore_n 2, 1) := dk_61 (dk_at dksX0_isCalm_0 1 rfl rfl)
theorem dX0_isCalm_2 : decode cX0_isCalm 2 = .ok (.iload_n 2, 1) := dk_28 (dk_at dksX0_isCalm_0 2 rfl rfl)
theorem dX0_isCalm_3 : decode cX0_isCalm 3 = .ok (.aload_n 0, 1) := dk_42 (dk_at dksX0_isCalm_0 3 rfl rfl)
theorem dX0_isCalm_4 : decode cX0_isCalm 4 = .ok (.invokevirtual 151, 3) := dk_182 0 151 (dk_at dksX0_isCalm_0 4 rfl rfl)
theorem dX0_isCalm_7 : decode cX0_isCalm 7 = .ok (.if_icmp .ge 33, 3) := dk_162 0 33 (dk_at dksX0_isCalm_0 7 rfl rfl)
theorem dX0_isCalm_10 : decode cX0_isCalm 10 = .ok (.iload_n 1, 1) := dk_27 (dk_at dksX0_isCalm_0 10 rfl rfl)
theorem dX0_isCalm_11 : decode cX0_isCalm 11 = .ok (.iload_n 2, 1) := dk_28 (dk_at dksX0_isCalm_0 11 rfl rfl)
theorem dX0_isCalm_12 : decode cX0_isCalm 12 = .ok (.ishr, 1) := dk_122 (dk_at dksX0_isCalm_0 12 rfl rfl)
theorem dX0_isCalm_13 : decode cX0_isCalm 13 = .ok (.iconst 1, 1) := dk_4 (dk_at dksX0_isCalm_0 13 rfl rfl)
theorem dX0_isCalm_14 : decode cX0_isCalm 14 = .ok (.iand, 1) := dk_126 (dk_at dksX0_isCalm_0 14 rfl rfl)
theorem dX0_isCalm_15 : decode cX0_isCalm 15 = .ok (.iconst 1, 1) := dk_4 (dk_at dksX0_isCalm_0 15 rfl rfl)
theorem dX0_isCalm_16 : decode cX0_isCalm 16 = .ok (.if_icmp .ne 18, 3) := dk_160 0 18 (dk_at dksX0_isCalm_0 16 rfl rfl)
theorem dX0_isCalm_19 : decode cX0_isCalm 19 = .ok (.iload_n 1, 1) := dk_27 (dk_at dksX0_isCalm_0 19 rfl rfl)
theorem dX0_isCalm_20 : decode cX0_isCalm 20 = .ok (.aload_n 0, 1) := dk_42 (dk_at dksX0_isCalm_0 20 rfl rfl)
theorem dX0_isCalm_21 : decode cX0_isCalm 21 = .ok (.getfield 40, 3) := dk_180 0 40 (dk_at dksX0_isCalm_0 21 rfl rfl)
theorem dX0_isCalm_24 : decode cX0_isCalm 24 = .ok (.iload_n 2, 1) := dk_28 (dk_at dksX0_isCalm_1 0 rfl rfl)
theorem dX0_isCalm_25 : decode cX0_isCalm 25 = .ok (.invokevirtual 262, 3) := dk_182 1 6 (dk_at dksX0_isCalm_1 1 rfl rfl)
theorem dX0_isCalm_28 : decode cX0_isCalm 28 = .ok (.iand, 1) := dk_126 (dk_at dksX0_isCalm_1 4 rfl rfl)
theorem dX0_isCalm_29 : decode cX0_isCalm 29 = .ok (.ifCond .eq 5, 3) := dk_153 0 5 (dk_at dksX0_isCalm_1 5 rfl rfl)
theorem dX0_isCalm_32 : decode cX0_isCalm 32 = .ok (.iconst 0, 1) := dk_3 (dk_at dksX0_isCalm_1 8 rfl rfl)
theorem dX0_isCalm_33 : decode cX0_isCalm 33 = .ok (.ireturn, 1) := dk_172 (dk_at dksX0_isCalm_1 9 rfl rfl)
theorem dX0_isCalm_34 : decode cX0_isCalm 34 = .ok (.iinc 2 1, 3) := dk_132 2 1 (dk_at dksX0_isCalm_1 10 rfl rfl)
theorem dX0_isCalm_37 : decode cX0_isCalm 37 = .ok (.goto (-35), 3) := dk_167 255 221 (dk_at dksX0_isCalm_1 13 rfl rfl)
theorem dX0_isCalm_40 : decode cX0_isCalm 40 = .ok (.iconst 1, 1) := dk_4 (dk_at dksX0_isCalm_1 16 rfl rfl)
theorem dX0_isCalm_41 : decode cX0_isCalm 41 = .ok (.ireturn, 1) := dk_172 (dk_at dksX0_isCalm_1 17 rfl rfl)
abbrev cX0_letting : ByteArray := prog_1_method_35_code
def yX0_letting : MethodName := ⟨RX0, "letting", "(I)I"⟩
def dkwX0_letting_3 : List UInt8 := [42, 27, 4, 96, 28, 182, 1, 35, 172]
abbrev dktX0_letting_3 : List UInt8 := dkwX0_letting_3 ++ []
def dkwX0_letting_2 : List UInt8 := [29, 27, 4, 96, 164, 0, 20, 28, 42, 29, 28, 182, 1, 35, 2, 130, 126, 61, 132, 3, 255, 167, 255, 235]
abbrev dktX0_letting_2 : List UInt8 := dkwX0_letting_2 ++ dktX0_letting_3
def dkwX0_letting_1 : List UInt8 := [100, 61, 27, 2, 160, 0, 15, 42, 180, 0, 87, 42, 182, 0, 145, 50, 28, 46, 172, 42, 182, 0, 145, 62]
abbrev dktX0_letting_1 : List UInt8 := dkwX0_letting_1 ++ dktX0_letting_2
def dkwX0_letting_0 : List UInt8 := [27, 2, 159, 0, 13, 42, 27, 182, 0, 153, 154, 0, 5, 2, 172, 42, 182, 1, 32, 42, 182, 1, 23, 4]
abbrev dktX0_letting_0 : List UInt8 := dkwX0_letting_0 ++ dktX0_letting_1
theorem dksX0_letting_0 : cX0_letting.data.toList.drop 0 = dktX0_letting_0 := by decide +kernel
theorem dksX0_letting_1 : cX0_letting.data.toList.drop 24 = dktX0_letting_1 := dk_seg dksX0_letting_0 24 rfl rfl
theorem dksX0_letting_2 : cX0_letting.data.toList.drop 48 = dktX0_letting_2 := dk_seg dksX0_letting_1 24 rfl rfl
theorem dksX0_letting_3 : cX0_letting.data.toList.drop 72 = dktX0_letting_3 := dk_seg dksX0_letting_2 24 rfl rfl
theorem dX0_letting_0 : decode cX0_letting 0 = .ok (.iload_n 1, 1) := dk_27 (dk_at dksX0_letting_0 0 rfl rfl)
theorem dX0_letting_1 : decode cX0_letting 1 = .ok (.iconst (-1), 1) := dk_2 (dk_at dksX0_letting_0 1 rfl rfl)
theorem dX0_letting_2 : decode cX0_letting 2 = .ok (.if_icmp .eq 13, 3) := dk_159 0 13 (dk_at dksX0_letting_0 2 rfl rfl)
theorem dX0_letting_5 : decode cX0_letting 5 = .ok (.aload_n 0, 1) := dk_42 (dk_at dksX0_letting_0 5 rfl rfl)
theorem dX0_letting_6 : decode cX0_letting 6 = .ok (.iload_n 1, 1) := dk_27 (dk_at dksX0_letting_0 6 rfl rfl)
theorem dX0_letting_7 : decode cX0_letting 7 = .ok (.invokevirtual 153, 3) := dk_182 0 153 (dk_at dksX0_letting_0 7 rfl rfl)
theorem dX0_letting_10 : decode cX0_letting 10 = .ok (.ifCond .ne 5, 3) := dk_154 0 5 (dk_at dksX0_letting_0 10 rfl rfl)
theorem dX0_letting_13 : decode cX0_letting 13 = .ok (.iconst (-1), 1) := dk_2 (dk_at dksX0_letting_0 13 rfl rfl)
theorem dX0_letting_14 : decode cX0_letting 14 = .ok (.ireturn, 1) := dk_172 (dk_at dksX0_letting_0 14 rfl rfl)
theorem dX0_letting_15 : decode cX0_letting 15 = .ok (.aload_n 0, 1) := dk_42 (dk_at dksX0_letting_0 15 rfl rfl)
theorem dX0_letting_16 : decode cX0_letting 16 = .ok (.invokevirtual 288, 3) := dk_182 1 32 (dk_at dksX0_letting_0 16 rfl rfl)
theorem dX0_letting_19 : decode cX0_letting 19 = .ok (.aload_n 0, 1) := dk_42 (dk_at dksX0_letting_0 19 rfl rfl)
theorem dX0_letting_20 : decode cX0_letting 20 = .ok (.invokevirtual 279, 3) := dk_182 1 23 (dk_at dksX0_letting_0 20 rfl rfl)
theorem dX0_letting_23 : decode cX0_letting 23 = .ok (.iconst 1, 1) := dk_4 (dk_at dksX0_letting_0 23 rfl rfl)
theorem dX0_letting_24 : decode cX0_letting 24 = .ok (.isub, 1) := dk_100 (dk_at dksX0_letting_1 0 rfl rfl)
theorem dX0_letting_25 : decode cX0_letting 25 = .ok (.istore_n 2, 1) := dk_61 (dk_at dksX0_letting_1 1 rfl rfl)
theorem dX0_letting_26 : decode cX0_letting 26 = .ok (.iload_n 1, 1) := dk_27 (dk_at dksX0_letting_1 2 rfl rfl)
theorem dX0_letting_27 : decode cX0_letting 27 = .ok (.iconst (-1), 1) := dk_2 (dk_at dksX0_letting_1 3 rfl rfl)
theorem dX0_letting_28 : decode cX0_letting 28 = .ok (.if_icmp .ne 15, 3) := dk_160 0 15 (dk_at dksX0_letting_1 4 rfl rfl)
theorem dX0_letting_31 : decode cX0_letting 31 = .ok (.aload_n 0, 1) := dk_42 (dk_at dksX0_letting_1 7 rfl rfl)
theorem dX0_letting_32 : decode cX0_letting 32 = .ok (.getfield 87, 3) := dk_180 0 87 (dk_at dksX0_letting_1 8 rfl rfl)
theorem dX0_letting_35 : decode cX0_letting 35 = .ok (.aload_n 0, 1) := dk_42 (dk_at dksX0_letting_1 11 rfl rfl)
theorem dX0_letting_36 : decode cX0_letting 36 = .ok (.invokevirtual 145, 3) := dk_182 0 145 (dk_at dksX0_letting_1 12 rfl rfl)
theorem dX0_letting_39 : decode cX0_letting 39 = .ok (.aaload, 1) := dk_50 (dk_at dksX0_letting_1 15 rfl rfl)
theorem dX0_letting_40 : decode cX0_letting 40 = .ok (.iload_n 2, 1) := dk_28 (dk_at dksX0_letting_1 16 rfl rfl)
theorem dX0_letting_41 : decode cX0_letting 41 = .ok (.iaload, 1) := dk_46 (dk_at dksX0_letting_1 17 rfl rfl)
theorem dX0_letting_42 : decode cX0_letting 42 = .ok (.ireturn, 1) := dk_172 (dk_at dksX0_letting_1 18 rfl rfl)
theorem dX0_letting_43 : decode cX0_letting 43 = .ok (.aload_n 0, 1) := dk_42 (dk_at dksX0_letting_1 19 rfl rfl)
theorem dX0_letting_44 : decode cX0_letting 44 = .ok (.invokevirtual 145, 3) := dk_182 0 145 (dk_at dksX0_letting_1 20 rfl rfl)
theorem dX0_letting_47 : decode cX0_letting 47 = .ok (.istore_n 3, 1) := dk_62 (dk_at dksX0_letting_1 23 rfl rfl)
theorem dX0_letting_48 : decode cX0_letting 48 = .ok (.iload_n 3, 1) := dk_29 (dk_at dksX0_letting_2 0 rfl rfl)
theorem dX0_letting_49 : decode cX0_letting 49 = .ok (.iload_n 1, 1) := dk_27 (dk_at dksX0_letting_2 1 rfl rfl)
theorem dX0_letting_50 : decode cX0_letting 50 = .ok (.iconst 1, 1) := dk_4 (dk_at dksX0_letting_2 2 rfl rfl)
theorem dX0_letting_51 : decode cX0_letting 51 = .ok (.iadd, 1) := dk_96 (dk_at dksX0_letting_2 3 rfl rfl)
theorem dX0_letting_52 : decode cX0_letting 52 = .ok (.if_icmp .le 20, 3) := dk_164 0 20 (dk_at dksX0_letting_2 4 rfl rfl)
theorem dX0_letting_55 : decode cX0_letting 55 = .ok (.iload_n 2, 1) := dk_28 (dk_at dksX0_letting_2 7 rfl rfl)
theorem dX0_letting_56 : decode cX0_letting 56 = .ok (.aload_n 0, 1) := dk_42 (dk_at dksX0_letting_2 8 rfl rfl)
theorem dX0_letting_57 : decode cX0_letting 57 = .ok (.iload_n 3, 1) := dk_29 (dk_at dksX0_letting_2 9 rfl rfl)
theorem dX0_letting_58 : decode cX0_letting 58 = .ok (.iload_n 2, 1) := dk_28 (dk_at dksX0_letting_2 10 rfl rfl)
theorem dX0_letting_59 : decode cX0_letting 59 = .ok (.invokevirtual 291, 3) := dk_182 1 35 (dk_at dksX0_letting_2 11 rfl rfl)
theorem dX0_letting_62 : decode cX0_letting 62 = .ok (.iconst (-1), 1) := dk_2 (dk_at dksX0_letting_2 14 rfl rfl)
theorem dX0_letting_63 : decode cX0_letting 63 = .ok (.ixor, 1) := dk_130 (dk_at dksX0_letting_2 15 rfl rfl)
theorem dX0_letting_64 : decode cX0_letting 64 = .ok (.iand, 1) := dk_126 (dk_at dksX0_letting_2 16 rfl rfl)
theorem dX0_letting_65 : decode cX0_letting 65 = .ok (.istore_n 2, 1) := dk_61 (dk_at dksX0_letting_2 17 rfl rfl)
theorem dX0_letting_66 : decode cX0_letting 66 = .ok (.iinc 3 (-1), 3) := dk_132 3 255 (dk_at dksX0_letting_2 18 rfl rfl)
theorem dX0_letting_69 : decode cX0_letting 69 = .ok (.goto (-21), 3) := dk_167 255 235 (dk_at dksX0_letting_2 21 rfl rfl)
theorem dX0_letting_72 : decode cX0_letting 72 = .ok (.aload_n 0, 1) := dk_42 (dk_at dksX0_letting_3 0 rfl rfl)
theorem dX0_letting_73 : decode cX0_letting 73 = .ok (.iload_n 1, 1) := dk_27 (dk_at dksX0_letting_3 1 rfl rfl)
theorem dX0_letting_74 : decode cX0_letting 74 = .ok (.iconst 1, 1) := dk_4 (dk_at dksX0_letting_3 2 rfl rfl)
theorem dX0_letting_75 : decode cX0_letting 75 = .ok (.iadd, 1) := dk_96 (dk_at dksX0_letting_3 3 rfl rfl)
theorem dX0_letting_76 : decode cX0_letting 76 = .ok (.iload_n 2, 1) := dk_28 (dk_at dksX0_letting_3 4 rfl rfl)
theorem dX0_letting_77 : decode cX0_letting 77 = .ok (.invokevirtual 291, 3) := dk_182 1 35 (dk_at dksX0_letting_3 5 rfl rfl)
theorem dX0_letting_80 : decode cX0_letting 80 = .ok (.ireturn, 1) := dk_172 (dk_at dksX0_letting_3 8 rfl rfl)
abbrev cX0_laysMost : ByteArray := prog_1_method_33_code
def yX0_laysMost : MethodName := ⟨RX0, "laysMost", "()V"⟩
def dkwX0_laysMost_6 : List UInt8 := [132, 1, 1, 167, 255, 143, 177]
abbrev dktX0_laysMost_6 : List UInt8 := dkwX0_laysMost_6 ++ []
def dkwX0_laysMost_5 : List UInt8 := [50, 28, 29, 2, 130, 126, 46, 96, 184, 0, 245, 79, 132, 3, 255, 167, 255, 184, 132, 2, 1, 167, 255, 159]
abbrev dktX0_laysMost_5 : List UInt8 := dkwX0_laysMost_5 ++ dktX0_laysMost_6
def dkwX0_laysMost_4 : List UInt8 := [180, 0, 87, 27, 50, 28, 46, 42, 180, 0, 84, 27, 4, 100, 50, 29, 46, 42, 180, 0, 87, 27, 4, 100]
abbrev dktX0_laysMost_4 : List UInt8 := dkwX0_laysMost_4 ++ dktX0_laysMost_5
def dkwX0_laysMost_3 : List UInt8 := [154, 0, 60, 42, 180, 0, 84, 27, 4, 100, 50, 29, 46, 155, 0, 47, 42, 180, 0, 87, 27, 50, 28, 42]
abbrev dktX0_laysMost_3 : List UInt8 := dkwX0_laysMost_3 ++ dktX0_laysMost_4
def dkwX0_laysMost_2 : List UInt8 := [162, 0, 95, 42, 180, 0, 87, 27, 50, 28, 3, 79, 28, 62, 29, 155, 0, 74, 29, 28, 2, 130, 126]
abbrev dktX0_laysMost_2 : List UInt8 := dkwX0_laysMost_2 ++ dktX0_laysMost_3
def dkwX0_laysMost_1 : List UInt8 := [132, 1, 1, 167, 255, 236, 4, 60, 27, 42, 182, 0, 145, 163, 0, 111, 3, 61, 28, 42, 182, 1, 23]
abbrev dktX0_laysMost_1 : List UInt8 := dkwX0_laysMost_1 ++ dktX0_laysMost_2
def dkwX0_laysMost_0 : List UInt8 := [42, 182, 1, 29, 3, 60, 27, 42, 182, 1, 23, 162, 0, 18, 42, 180, 0, 87, 3, 50, 27, 3, 79]
abbrev dktX0_laysMost_0 : List UInt8 := dkwX0_laysMost_0 ++ dktX0_laysMost_1
theorem dksX0_laysMost_0 : cX0_laysMost.data.toList.drop 0 = dktX0_laysMost_0 := by decide +kernel
theorem dksX0_laysMost_1 : cX0_laysMost.data.toList.drop 23 = dktX0_laysMost_1 := dk_seg dksX0_laysMost_0 23 rfl rfl
theorem dksX0_laysMost_2 : cX0_laysMost.data.toList.drop 46 = dktX0_laysMost_2 := dk_seg dksX0_laysMost_1 23 rfl rfl
theorem dksX0_laysMost_3 : cX0_laysMost.data.toList.drop 69 = dktX0_laysMost_3 := dk_seg dksX0_laysMost_2 23 rfl rfl
theorem dksX0_laysMost_4 : cX0_laysMost.data.toList.drop 93 = dktX0_laysMost_4 := dk_seg dksX0_laysMost_3 24 rfl rfl
theorem dksX0_laysMost_5 : cX0_laysMost.data.toList.drop 117 = dktX0_laysMost_5 := dk_seg dksX0_laysMost_4 24 rfl rfl
theorem dksX0_laysMost_6 : cX0_laysMost.data.toList.drop 141 = dktX0_laysMost_6 := dk_seg dksX0_laysMost_5 24 rfl rfl
theorem dX0_laysMost_0 : decode cX0_laysMost 0 = .ok (.aload_n 0, 1) := dk_42 (dk_at dksX0_laysMost_0 0 rfl rfl)
theorem dX0_laysMost_1 : decode cX0_laysMost 1 = .ok (.invokevirtual 285, 3) := dk_182 1 29 (dk_at dksX0_laysMost_0 1 rfl rfl)
theorem dX0_laysMost_4 : decode cX0_laysMost 4 = .ok (.iconst 0, 1) := dk_3 (dk_at dksX0_laysMost_0 4 rfl rfl)
theorem dX0_laysMost_5 : decode cX0_laysMost 5 = .ok (.istore_n 1, 1) := dk_60 (dk_at dksX0_laysMost_0 5 rfl rfl)
theorem dX0_laysMost_6 : decode cX0_laysMost 6 = .ok (.iload_n 1, 1) := dk_27 (dk_at dksX0_laysMost_0 6 rfl rfl)
theorem dX0_laysMost_7 : decode cX0_laysMost 7 = .ok (.aload_n 0, 1) := dk_42 (dk_at dksX0_laysMost_0 7 rfl rfl)
theorem dX0_laysMost_8 : decode cX0_laysMost 8 = .ok (.invokevirtual 279, 3) := dk_182 1 23 (dk_at dksX0_laysMost_0 8 rfl rfl)
theorem dX0_laysMost_11 : decode cX0_laysMost 11 = .ok (.if_icmp .ge 18, 3) := dk_162 0 18 (dk_at dksX0_laysMost_0 11 rfl rfl)
theorem dX0_laysMost_14 : decode cX0_laysMost 14 = .ok (.aload_n 0, 1) := dk_42 (dk_at dksX0_laysMost_0 14 rfl rfl)
theorem dX0_laysMost_15 : decode cX0_laysMost 15 = .ok (.getfield 87, 3) := dk_180 0 87 (dk_at dksX0_laysMost_0 15 rfl rfl)
theorem dX0_laysMost_18 : decode cX0_laysMost 18 = .ok (.iconst 0, 1) := dk_3 (dk_at dksX0_laysMost_0 18 rfl rfl)
theorem dX0_laysMost_19 : decode cX0_laysMost 19 = .ok (.aaload, 1) := dk_50 (dk_at dksX0_laysMost_0 19 rfl rfl)
theorem dX0_laysMost_20 : decode cX0_laysMost 20 = .ok (.iload_n 1, 1) := dk_27 (dk_at dksX0_laysMost_0 20 rfl rfl)
theorem dX0_laysMost_21 : decode cX0_laysMost 21 = .ok (.iconst 0, 1) := dk_3 (dk_at dksX0_laysMost_0 21 rfl rfl)
theorem dX0_laysMost_22 : decode cX0_laysMost 22 = .ok (.iastore, 1) := dk_79 (dk_at dksX0_laysMost_0 22 rfl rfl)
theorem dX0_laysMost_23 : decode cX0_laysMost 23 = .ok (.iinc 1 1, 3) := dk_132 1 1 (dk_at dksX0_laysMost_1 0 rfl rfl)
theorem dX0_laysMost_26 : decode cX0_laysMost 26 = .ok (.goto (-20), 3) := dk_167 255 236 (dk_at dksX0_laysMost_1 3 rfl rfl)
theorem dX0_laysMost_29 : decode cX0_laysMost 29 = .ok (.iconst 1, 1) := dk_4 (dk_at dksX0_laysMost_1 6 rfl rfl)
theorem dX0_laysMost_30 : decode cX0_laysMost 30 = .ok (.istore_n 1, 1) := dk_60 (dk_at dksX0_laysMost_1 7 rfl rfl)
theorem dX0_laysMost_31 : decode cX0_laysMost 31 = .ok (.iload_n 1, 1) := dk_27 (dk_at dksX0_laysMost_1 8 rfl rfl)
theorem dX0_laysMost_32 : decode cX0_laysMost 32 = .ok (.aload_n 0, 1) := dk_42 (dk_at dksX0_laysMost_1 9 rfl rfl)
theorem dX0_laysMost_33 : decode cX0_laysMost 33 = .ok (.invokevirtual 145, 3) := dk_182 0 145 (dk_at dksX0_laysMost_1 10 rfl rfl)
theorem dX0_laysMost_36 : decode cX0_laysMost 36 = .ok (.if_icmp .gt 111, 3) := dk_163 0 111 (dk_at dksX0_laysMost_1 13 rfl rfl)
theorem dX0_laysMost_39 : decode cX0_laysMost 39 = .ok (.iconst 0, 1) := dk_3 (dk_at dksX0_laysMost_1 16 rfl rfl)
theorem dX0_laysMost_40 : decode cX0_laysMost 40 = .ok (.istore_n 2, 1) := dk_61 (dk_at dksX0_laysMost_1 17 rfl rfl)
theorem dX0_laysMost_41 : decode cX0_laysMost 41 = .ok (.iload_n 2, 1) := dk_28 (dk_at dksX0_laysMost_1 18 rfl rfl)
theorem dX0_laysMost_42 : decode cX0_laysMost 42 = .ok (.aload_n 0, 1) := dk_42 (dk_at dksX0_laysMost_1 19 rfl rfl)
theorem dX0_laysMost_43 : decode cX0_laysMost 43 = .ok (.invokevirtual 279, 3) := dk_182 1 23 (dk_at dksX0_laysMost_1 20 rfl rfl)
theorem dX0_laysMost_46 : decode cX0_laysMost 46 = .ok (.if_icmp .ge 95, 3) := dk_162 0 95 (dk_at dksX0_laysMost_2 0 rfl rfl)
theorem dX0_laysMost_49 : decode cX0_laysMost 49 = .ok (.aload_n 0, 1) := dk_42 (dk_at dksX0_laysMost_2 3 rfl rfl)
theorem dX0_laysMost_50 : decode cX0_laysMost 50 = .ok (.getfield 87, 3) := dk_180 0 87 (dk_at dksX0_laysMost_2 4 rfl rfl)
theorem dX0_laysMost_53 : decode cX0_laysMost 53 = .ok (.iload_n 1, 1) := dk_27 (dk_at dksX0_laysMost_2 7 rfl rfl)
theorem dX0_laysMost_54 : decode cX0_laysMost 54 = .ok (.aaload, 1) := dk_50 (dk_at dksX0_laysMost_2 8 rfl rfl)
theorem dX0_laysMost_55 : decode cX0_laysMost 55 = .ok (.iload_n 2, 1) := dk_28 (dk_at dksX0_laysMost_2 9 rfl rfl)
theorem dX0_laysMost_56 : decode cX0_laysMost 56 = .ok (.iconst 0, 1) := dk_3 (dk_at dksX0_laysMost_2 10 rfl rfl)
theorem dX0_laysMost_57 : decode cX0_laysMost 57 = .ok (.iastore, 1) := dk_79 (dk_at dksX0_laysMost_2 11 rfl rfl)
theorem dX0_laysMost_58 : decode cX0_laysMost 58 = .ok (.iload_n 2, 1) := dk_28 (dk_at dksX0_laysMost_2 12 rfl rfl)
theorem dX0_laysMost_59 : decode cX0_laysMost 59 = .ok (.istore_n 3, 1) := dk_62 (dk_at dksX0_laysMost_2 13 rfl rfl)
theorem dX0_laysMost_60 : decode cX0_laysMost 60 = .ok (.iload_n 3, 1) := dk_29 (dk_at dksX0_laysMost_2 14 rfl rfl)
theorem dX0_laysMost_61 : decode cX0_laysMost 61 = .ok (.ifCond .lt 74, 3) := dk_155 0 74 (dk_at dksX0_laysMost_2 15 rfl rfl)
theorem dX0_laysMost_64 : decode cX0_laysMost 64 = .ok (.iload_n 3, 1) := dk_29 (dk_at dksX0_laysMost_2 18 rfl rfl)
theorem dX0_laysMost_65 : decode cX0_laysMost 65 = .ok (.iload_n 2, 1) := dk_28 (dk_at dksX0_laysMost_2 19 rfl rfl)
theorem dX0_laysMost_66 : decode cX0_laysMost 66 = .ok (.iconst (-1), 1) := dk_2 (dk_at dksX0_laysMost_2 20 rfl rfl)
theorem dX0_laysMost_67 : decode cX0_laysMost 67 = .ok (.ixor, 1) := dk_130 (dk_at dksX0_laysMost_2 21 rfl rfl)
theorem dX0_laysMost_68 : decode cX0_laysMost 68 = .ok (.iand, 1) := dk_126 (dk_at dksX0_laysMost_2 22 rfl rfl)
theorem dX0_laysMost_69 : decode cX0_laysMost 69 = .ok (.ifCond .ne 60, 3) := dk_154 0 60 (dk_at dksX0_laysMost_3 0 rfl rfl)
theorem dX0_laysMost_72 : decode cX0_laysMost 72 = .ok (.aload_n 0, 1) := dk_42 (dk_at dksX0_laysMost_3 3 rfl rfl)
theorem dX0_laysMost_73 : decode cX0_laysMost 73 = .ok (.getfield 84, 3) := dk_180 0 84 (dk_at dksX0_laysMost_3 4 rfl rfl)
theorem dX0_laysMost_76 : decode cX0_laysMost 76 = .ok (.iload_n 1, 1) := dk_27 (dk_at dksX0_laysMost_3 7 rfl rfl)
theorem dX0_laysMost_77 : decode cX0_laysMost 77 = .ok (.iconst 1, 1) := dk_4 (dk_at dksX0_laysMost_3 8 rfl rfl)
theorem dX0_laysMost_78 : decode cX0_laysMost 78 = .ok (.isub, 1) := dk_100 (dk_at dksX0_laysMost_3 9 rfl rfl)
theorem dX0_laysMost_79 : decode cX0_laysMost 79 = .ok (.aaload, 1) := dk_50 (dk_at dksX0_laysMost_3 10 rfl rfl)
theorem dX0_laysMost_80 : decode cX0_laysMost 80 = .ok (.iload_n 3, 1) := dk_29 (dk_at dksX0_laysMost_3 11 rfl rfl)
theorem dX0_laysMost_81 : decode cX0_laysMost 81 = .ok (.iaload, 1) := dk_46 (dk_at dksX0_laysMost_3 12 rfl rfl)
theorem dX0_laysMost_82 : decode cX0_laysMost 82 = .ok (.ifCond .lt 47, 3) := dk_155 0 47 (dk_at dksX0_laysMost_3 13 rfl rfl)
theorem dX0_laysMost_85 : decode cX0_laysMost 85 = .ok (.aload_n 0, 1) := dk_42 (dk_at dksX0_laysMost_3 16 rfl rfl)
theorem dX0_laysMost_86 : decode cX0_laysMost 86 = .ok (.getfield 87, 3) := dk_180 0 87 (dk_at dksX0_laysMost_3 17 rfl rfl)
theorem dX0_laysMost_89 : decode cX0_laysMost 89 = .ok (.iload_n 1, 1) := dk_27 (dk_at dksX0_laysMost_3 20 rfl rfl)
theorem dX0_laysMost_90 : decode cX0_laysMost 90 = .ok (.aaload, 1) := dk_50 (dk_at dksX0_laysMost_3 21 rfl rfl)
theorem dX0_laysMost_91 : decode cX0_laysMost 91 = .ok (.iload_n 2, 1) := dk_28 (dk_at dksX0_laysMost_3 22 rfl rfl)
theorem dX0_laysMost_92 : decode cX0_laysMost 92 = .ok (.aload_n 0, 1) := dk_42 (dk_at dksX0_laysMost_3 23 rfl rfl)
theorem dX0_laysMost_93 : decode cX0_laysMost 93 = .ok (.getfield 87, 3) := dk_180 0 87 (dk_at dksX0_laysMost_4 0 rfl rfl)
theorem dX0_laysMost_96 : decode cX0_laysMost 96 = .ok (.iload_n 1, 1) := dk_27 (dk_at dksX0_laysMost_4 3 rfl rfl)
theorem dX0_laysMost_97 : decode cX0_laysMost 97 = .ok (.aaload, 1) := dk_50 (dk_at dksX0_laysMost_4 4 rfl rfl)
theorem dX0_laysMost_98 : decode cX0_laysMost 98 = .ok (.iload_n 2, 1) := dk_28 (dk_at dksX0_laysMost_4 5 rfl rfl)
theorem dX0_laysMost_99 : decode cX0_laysMost 99 = .ok (.iaload, 1) := dk_46 (dk_at dksX0_laysMost_4 6 rfl rfl)
theorem dX0_laysMost_100 : decode cX0_laysMost 100 = .ok (.aload_n 0, 1) := dk_42 (dk_at dksX0_laysMost_4 7 rfl rfl)
theorem dX0_laysMost_101 : decode cX0_laysMost 101 = .ok (.getfield 84, 3) := dk_180 0 84 (dk_at dksX0_laysMost_4 8 rfl rfl)
theorem dX0_laysMost_104 : decode cX0_laysMost 104 = .ok (.iload_n 1, 1) := dk_27 (dk_at dksX0_laysMost_4 11 rfl rfl)
theorem dX0_laysMost_105 : decode cX0_laysMost 105 = .ok (.iconst 1, 1) := dk_4 (dk_at dksX0_laysMost_4 12 rfl rfl)
theorem dX0_laysMost_106 : decode cX0_laysMost 106 = .ok (.isub, 1) := dk_100 (dk_at dksX0_laysMost_4 13 rfl rfl)
theorem dX0_laysMost_107 : decode cX0_laysMost 107 = .ok (.aaload, 1) := dk_50 (dk_at dksX0_laysMost_4 14 rfl rfl)
theorem dX0_laysMost_108 : decode cX0_laysMost 108 = .ok (.iload_n 3, 1) := dk_29 (dk_at dksX0_laysMost_4 15 rfl rfl)
theorem dX0_laysMost_109 : decode cX0_laysMost 109 = .ok (.iaload, 1) := dk_46 (dk_at dksX0_laysMost_4 16 rfl rfl)
theorem dX0_laysMost_110 : decode cX0_laysMost 110 = .ok (.aload_n 0, 1) := dk_42 (dk_at dksX0_laysMost_4 17 rfl rfl)
theorem dX0_laysMost_111 : decode cX0_laysMost 111 = .ok (.getfield 87, 3) := dk_180 0 87 (dk_at dksX0_laysMost_4 18 rfl rfl)
theorem dX0_laysMost_114 : decode cX0_laysMost 114 = .ok (.iload_n 1, 1) := dk_27 (dk_at dksX0_laysMost_4 21 rfl rfl)
theorem dX0_laysMost_115 : decode cX0_laysMost 115 = .ok (.iconst 1, 1) := dk_4 (dk_at dksX0_laysMost_4 22 rfl rfl)
theorem dX0_laysMost_116 : decode cX0_laysMost 116 = .ok (.isub, 1) := dk_100 (dk_at dksX0_laysMost_4 23 rfl rfl)
theorem dX0_laysMost_117 : decode cX0_laysMost 117 = .ok (.aaload, 1) := dk_50 (dk_at dksX0_laysMost_5 0 rfl rfl)
theorem dX0_laysMost_118 : decode cX0_laysMost 118 = .ok (.iload_n 2, 1) := dk_28 (dk_at dksX0_laysMost_5 1 rfl rfl)
theorem dX0_laysMost_119 : decode cX0_laysMost 119 = .ok (.iload_n 3, 1) := dk_29 (dk_at dksX0_laysMost_5 2 rfl rfl)
theorem dX0_laysMost_120 : decode cX0_laysMost 120 = .ok (.iconst (-1), 1) := dk_2 (dk_at dksX0_laysMost_5 3 rfl rfl)
theorem dX0_laysMost_121 : decode cX0_laysMost 121 = .ok (.ixor, 1) := dk_130 (dk_at dksX0_laysMost_5 4 rfl rfl)
theorem dX0_laysMost_122 : decode cX0_laysMost 122 = .ok (.iand, 1) := dk_126 (dk_at dksX0_laysMost_5 5 rfl rfl)
theorem dX0_laysMost_123 : decode cX0_laysMost 123 = .ok (.iaload, 1) := dk_46 (dk_at dksX0_laysMost_5 6 rfl rfl)
theorem dX0_laysMost_124 : decode cX0_laysMost 124 = .ok (.iadd, 1) := dk_96 (dk_at dksX0_laysMost_5 7 rfl rfl)
theorem dX0_laysMost_125 : decode cX0_laysMost 125 = .ok (.invokestatic 245, 3) := dk_184 0 245 (dk_at dksX0_laysMost_5 8 rfl rfl)
theorem dX0_laysMost_128 : decode cX0_laysMost 128 = .ok (.iastore, 1) := dk_79 (dk_at dksX0_laysMost_5 11 rfl rfl)
theorem dX0_laysMost_129 : decode cX0_laysMost 129 = .ok (.iinc 3 (-1), 3) := dk_132 3 255 (dk_at dksX0_laysMost_5 12 rfl rfl)
theorem dX0_laysMost_132 : decode cX0_laysMost 132 = .ok (.goto (-72), 3) := dk_167 255 184 (dk_at dksX0_laysMost_5 15 rfl rfl)
theorem dX0_laysMost_135 : decode cX0_laysMost 135 = .ok (.iinc 2 1, 3) := dk_132 2 1 (dk_at dksX0_laysMost_5 18 rfl rfl)
theorem dX0_laysMost_138 : decode cX0_laysMost 138 = .ok (.goto (-97), 3) := dk_167 255 159 (dk_at dksX0_laysMost_5 21 rfl rfl)
theorem dX0_laysMost_141 : decode cX0_laysMost 141 = .ok (.iinc 1 1, 3) := dk_132 1 1 (dk_at dksX0_laysMost_6 0 rfl rfl)
theorem dX0_laysMost_144 : decode cX0_laysMost 144 = .ok (.goto (-113), 3) := dk_167 255 143 (dk_at dksX0_laysMost_6 3 rfl rfl)
theorem dX0_laysMost_147 : decode cX0_laysMost 147 = .ok (.return_, 1) := dk_177 (dk_at dksX0_laysMost_6 6 rfl rfl)
abbrev cX0_lastOf : ByteArray := prog_1_method_34_code
def yX0_lastOf : MethodName := ⟨RX0, "lastOf", "(II)I"⟩
def dkwX0_lastOf_2 : List UInt8 := [42, 180, 0, 87, 27, 50, 28, 46, 159, 0, 9, 132, 3, 1, 167, 255, 196, 29, 172]
abbrev dktX0_lastOf_2 : List UInt8 := dkwX0_lastOf_2 ++ []
def dkwX0_lastOf_1 : List UInt8 := [180, 0, 84, 27, 4, 100, 50, 29, 46, 42, 180, 0, 87, 27, 4, 100, 50, 28, 29, 2, 130, 126, 46, 96]
abbrev dktX0_lastOf_1 : List UInt8 := dkwX0_lastOf_1 ++ dktX0_lastOf_2
def dkwX0_lastOf_0 : List UInt8 := [3, 62, 29, 28, 2, 130, 126, 154, 0, 52, 42, 180, 0, 84, 27, 4, 100, 50, 29, 46, 155, 0, 39, 42]
abbrev dktX0_lastOf_0 : List UInt8 := dkwX0_lastOf_0 ++ dktX0_lastOf_1
theorem dksX0_lastOf_0 : cX0_lastOf.data.toList.drop 0 = dktX0_lastOf_0 := by decide +kernel
theorem dksX0_lastOf_1 : cX0_lastOf.data.toList.drop 24 = dktX0_lastOf_1 := dk_seg dksX0_lastOf_0 24 rfl rfl
theorem dksX0_lastOf_2 : cX0_lastOf.data.toList.drop 48 = dktX0_lastOf_2 := dk_seg dksX0_lastOf_1 24 rfl rfl
theorem dX0_lastOf_0 : decode cX0_lastOf 0 = .ok (.iconst 0, 1) := dk_3 (dk_at dksX0_lastOf_0 0 rfl rfl)
theorem dX0_lastOf_1 : decode cX0_lastOf 1 = .ok (.istore_n 3, 1) := dk_62 (dk_at dksX0_lastOf_0 1 rfl rfl)
theorem dX0_lastOf_2 : decode cX0_lastOf 2 = .ok (.iload_n 3, 1) := dk_29 (dk_at dksX0_lastOf_0 2 rfl rfl)
theorem dX0_lastOf_3 : decode cX0_lastOf 3 = .ok (.iload_n 2, 1) := dk_28 (dk_at dksX0_lastOf_0 3 rfl rfl)
theorem dX0_lastOf_4 : decode cX0_lastOf 4 = .ok (.iconst (-1), 1) := dk_2 (dk_at dksX0_lastOf_0 4 rfl rfl)
theorem dX0_lastOf_5 : decode cX0_lastOf 5 = .ok (.ixor, 1) := dk_130 (dk_at dksX0_lastOf_0 5 rfl rfl)
theorem dX0_lastOf_6 : decode cX0_lastOf 6 = .ok (.iand, 1) := dk_126 (dk_at dksX0_lastOf_0 6 rfl rfl)
theorem dX0_lastOf_7 : decode cX0_lastOf 7 = .ok (.ifCond .ne 52, 3) := dk_154 0 52 (dk_at dksX0_lastOf_0 7 rfl rfl)
theorem dX0_lastOf_10 : decode cX0_lastOf 10 = .ok (.aload_n 0, 1) := dk_42 (dk_at dksX0_lastOf_0 10 rfl rfl)
theorem dX0_lastOf_11 : decode cX0_lastOf 11 = .ok (.getfield 84, 3) := dk_180 0 84 (dk_at dksX0_lastOf_0 11 rfl rfl)
theorem dX0_lastOf_14 : decode cX0_lastOf 14 = .ok (.iload_n 1, 1) := dk_27 (dk_at dksX0_lastOf_0 14 rfl rfl)
theorem dX0_lastOf_15 : decode cX0_lastOf 15 = .ok (.iconst 1, 1) := dk_4 (dk_at dksX0_lastOf_0 15 rfl rfl)
theorem dX0_lastOf_16 : decode cX0_lastOf 16 = .ok (.isub, 1) := dk_100 (dk_at dksX0_lastOf_0 16 rfl rfl)
theorem dX0_lastOf_17 : decode cX0_lastOf 17 = .ok (.aaload, 1) := dk_50 (dk_at dksX0_lastOf_0 17 rfl rfl)
theorem dX0_lastOf_18 : decode cX0_lastOf 18 = .ok (.iload_n 3, 1) := dk_29 (dk_at dksX0_lastOf_0 18 rfl rfl)
theorem dX0_lastOf_19 : decode cX0_lastOf 19 = .ok (.iaload, 1) := dk_46 (dk_at dksX0_lastOf_0 19 rfl rfl)
theorem dX0_lastOf_20 : decode cX0_lastOf 20 = .ok (.ifCond .lt 39, 3) := dk_155 0 39 (dk_at dksX0_lastOf_0 20 rfl rfl)
theorem dX0_lastOf_23 : decode cX0_lastOf 23 = .ok (.aload_n 0, 1) := dk_42 (dk_at dksX0_lastOf_0 23 rfl rfl)
theorem dX0_lastOf_24 : decode cX0_lastOf 24 = .ok (.getfield 84, 3) := dk_180 0 84 (dk_at dksX0_lastOf_1 0 rfl rfl)
theorem dX0_lastOf_27 : decode cX0_lastOf 27 = .ok (.iload_n 1, 1) := dk_27 (dk_at dksX0_lastOf_1 3 rfl rfl)
theorem dX0_lastOf_28 : decode cX0_lastOf 28 = .ok (.iconst 1, 1) := dk_4 (dk_at dksX0_lastOf_1 4 rfl rfl)
theorem dX0_lastOf_29 : decode cX0_lastOf 29 = .ok (.isub, 1) := dk_100 (dk_at dksX0_lastOf_1 5 rfl rfl)
theorem dX0_lastOf_30 : decode cX0_lastOf 30 = .ok (.aaload, 1) := dk_50 (dk_at dksX0_lastOf_1 6 rfl rfl)
theorem dX0_lastOf_31 : decode cX0_lastOf 31 = .ok (.iload_n 3, 1) := dk_29 (dk_at dksX0_lastOf_1 7 rfl rfl)
theorem dX0_lastOf_32 : decode cX0_lastOf 32 = .ok (.iaload, 1) := dk_46 (dk_at dksX0_lastOf_1 8 rfl rfl)
theorem dX0_lastOf_33 : decode cX0_lastOf 33 = .ok (.aload_n 0, 1) := dk_42 (dk_at dksX0_lastOf_1 9 rfl rfl)
theorem dX0_lastOf_34 : decode cX0_lastOf 34 = .ok (.getfield 87, 3) := dk_180 0 87 (dk_at dksX0_lastOf_1 10 rfl rfl)
theorem dX0_lastOf_37 : decode cX0_lastOf 37 = .ok (.iload_n 1, 1) := dk_27 (dk_at dksX0_lastOf_1 13 rfl rfl)
theorem dX0_lastOf_38 : decode cX0_lastOf 38 = .ok (.iconst 1, 1) := dk_4 (dk_at dksX0_lastOf_1 14 rfl rfl)
theorem dX0_lastOf_39 : decode cX0_lastOf 39 = .ok (.isub, 1) := dk_100 (dk_at dksX0_lastOf_1 15 rfl rfl)
theorem dX0_lastOf_40 : decode cX0_lastOf 40 = .ok (.aaload, 1) := dk_50 (dk_at dksX0_lastOf_1 16 rfl rfl)
theorem dX0_lastOf_41 : decode cX0_lastOf 41 = .ok (.iload_n 2, 1) := dk_28 (dk_at dksX0_lastOf_1 17 rfl rfl)
theorem dX0_lastOf_42 : decode cX0_lastOf 42 = .ok (.iload_n 3, 1) := dk_29 (dk_at dksX0_lastOf_1 18 rfl rfl)
theorem dX0_lastOf_43 : decode cX0_lastOf 43 = .ok (.iconst (-1), 1) := dk_2 (dk_at dksX0_lastOf_1 19 rfl rfl)
theorem dX0_lastOf_44 : decode cX0_lastOf 44 = .ok (.ixor, 1) := dk_130 (dk_at dksX0_lastOf_1 20 rfl rfl)
theorem dX0_lastOf_45 : decode cX0_lastOf 45 = .ok (.iand, 1) := dk_126 (dk_at dksX0_lastOf_1 21 rfl rfl)
theorem dX0_lastOf_46 : decode cX0_lastOf 46 = .ok (.iaload, 1) := dk_46 (dk_at dksX0_lastOf_1 22 rfl rfl)
theorem dX0_lastOf_47 : decode cX0_lastOf 47 = .ok (.iadd, 1) := dk_96 (dk_at dksX0_lastOf_1 23 rfl rfl)
theorem dX0_lastOf_48 : decode cX0_lastOf 48 = .ok (.aload_n 0, 1) := dk_42 (dk_at dksX0_lastOf_2 0 rfl rfl)
theorem dX0_lastOf_49 : decode cX0_lastOf 49 = .ok (.getfield 87, 3) := dk_180 0 87 (dk_at dksX0_lastOf_2 1 rfl rfl)
theorem dX0_lastOf_52 : decode cX0_lastOf 52 = .ok (.iload_n 1, 1) := dk_27 (dk_at dksX0_lastOf_2 4 rfl rfl)
theorem dX0_lastOf_53 : decode cX0_lastOf 53 = .ok (.aaload, 1) := dk_50 (dk_at dksX0_lastOf_2 5 rfl rfl)
theorem dX0_lastOf_54 : decode cX0_lastOf 54 = .ok (.iload_n 2, 1) := dk_28 (dk_at dksX0_lastOf_2 6 rfl rfl)
theorem dX0_lastOf_55 : decode cX0_lastOf 55 = .ok (.iaload, 1) := dk_46 (dk_at dksX0_lastOf_2 7 rfl rfl)
theorem dX0_lastOf_56 : decode cX0_lastOf 56 = .ok (.if_icmp .eq 9, 3) := dk_159 0 9 (dk_at dksX0_lastOf_2 8 rfl rfl)
theorem dX0_lastOf_59 : decode cX0_lastOf 59 = .ok (.iinc 3 1, 3) := dk_132 3 1 (dk_at dksX0_lastOf_2 11 rfl rfl)
theorem dX0_lastOf_62 : decode cX0_lastOf 62 = .ok (.goto (-60), 3) := dk_167 255 196 (dk_at dksX0_lastOf_2 14 rfl rfl)
theorem dX0_lastOf_65 : decode cX0_lastOf 65 = .ok (.iload_n 3, 1) := dk_29 (dk_at dksX0_lastOf_2 17 rfl rfl)
theorem dX0_lastOf_66 : decode cX0_lastOf 66 = .ok (.ireturn, 1) := dk_172 (dk_at dksX0_lastOf_2 18 rfl rfl)
abbrev cX0_fewest : ByteArray := prog_1_method_38_code
def yX0_fewest : MethodName := ⟨RX0, "fewest", "(I)I"⟩
def dkwX0_fewest_3 : List UInt8 := [167, 0, 7, 28, 184, 1, 41, 172]
abbrev dktX0_fewest_3 : List UInt8 := dkwX0_fewest_3 ++ []
def dkwX0_fewest_2 : List UInt8 := [182, 1, 46, 153, 0, 5, 29, 61, 132, 3, 1, 167, 255, 218, 28, 155, 0, 8, 27, 4, 160, 0, 7, 28]
abbrev dktX0_fewest_2 : List UInt8 := dkwX0_fewest_2 ++ dktX0_fewest_3
def dkwX0_fewest_1 : List UInt8 := [182, 0, 145, 120, 162, 0, 34, 28, 155, 0, 14, 29, 184, 1, 41, 28, 184, 1, 41, 162, 0, 13, 42, 29]
abbrev dktX0_fewest_1 : List UInt8 := dkwX0_fewest_1 ++ dktX0_fewest_2
def dkwX0_fewest_0 : List UInt8 := [27, 3, 4, 184, 0, 147, 154, 0, 5, 2, 172, 16, 254, 61, 42, 182, 1, 29, 3, 62, 29, 4, 42]
abbrev dktX0_fewest_0 : List UInt8 := dkwX0_fewest_0 ++ dktX0_fewest_1
theorem dksX0_fewest_0 : cX0_fewest.data.toList.drop 0 = dktX0_fewest_0 := by decide +kernel
theorem dksX0_fewest_1 : cX0_fewest.data.toList.drop 23 = dktX0_fewest_1 := dk_seg dksX0_fewest_0 23 rfl rfl
theorem dksX0_fewest_2 : cX0_fewest.data.toList.drop 47 = dktX0_fewest_2 := dk_seg dksX0_fewest_1 24 rfl rfl
theorem dksX0_fewest_3 : cX0_fewest.data.toList.drop 71 = dktX0_fewest_3 := dk_seg dksX0_fewest_2 24 rfl rfl
theorem dX0_fewest_0 : decode cX0_fewest 0 = .ok (.iload_n 1, 1) := dk_27 (dk_at dksX0_fewest_0 0 rfl rfl)
theorem dX0_fewest_1 : decode cX0_fewest 1 = .ok (.iconst 0, 1) := dk_3 (dk_at dksX0_fewest_0 1 rfl rfl)
theorem dX0_fewest_2 : decode cX0_fewest 2 = .ok (.iconst 1, 1) := dk_4 (dk_at dksX0_fewest_0 2 rfl rfl)
theorem dX0_fewest_3 : decode cX0_fewest 3 = .ok (.invokestatic 147, 3) := dk_184 0 147 (dk_at dksX0_fewest_0 3 rfl rfl)
theorem dX0_fewest_6 : decode cX0_fewest 6 = .ok (.ifCond .ne 5, 3) := dk_154 0 5 (dk_at dksX0_fewest_0 6 rfl rfl)
theorem dX0_fewest_9 : decode cX0_fewest 9 = .ok (.iconst (-1), 1) := dk_2 (dk_at dksX0_fewest_0 9 rfl rfl)
theorem dX0_fewest_10 : decode cX0_fewest 10 = .ok (.ireturn, 1) := dk_172 (dk_at dksX0_fewest_0 10 rfl rfl)
theorem dX0_fewest_11 : decode cX0_fewest 11 = .ok (.bipush (-2), 2) := dk_16 254 (dk_at dksX0_fewest_0 11 rfl rfl)
theorem dX0_fewest_13 : decode cX0_fewest 13 = .ok (.istore_n 2, 1) := dk_61 (dk_at dksX0_fewest_0 13 rfl rfl)
theorem dX0_fewest_14 : decode cX0_fewest 14 = .ok (.aload_n 0, 1) := dk_42 (dk_at dksX0_fewest_0 14 rfl rfl)
theorem dX0_fewest_15 : decode cX0_fewest 15 = .ok (.invokevirtual 285, 3) := dk_182 1 29 (dk_at dksX0_fewest_0 15 rfl rfl)
theorem dX0_fewest_18 : decode cX0_fewest 18 = .ok (.iconst 0, 1) := dk_3 (dk_at dksX0_fewest_0 18 rfl rfl)
theorem dX0_fewest_19 : decode cX0_fewest 19 = .ok (.istore_n 3, 1) := dk_62 (dk_at dksX0_fewest_0 19 rfl rfl)
theorem dX0_fewest_20 : decode cX0_fewest 20 = .ok (.iload_n 3, 1) := dk_29 (dk_at dksX0_fewest_0 20 rfl rfl)
theorem dX0_fewest_21 : decode cX0_fewest 21 = .ok (.iconst 1, 1) := dk_4 (dk_at dksX0_fewest_0 21 rfl rfl)
theorem dX0_fewest_22 : decode cX0_fewest 22 = .ok (.aload_n 0, 1) := dk_42 (dk_at dksX0_fewest_0 22 rfl rfl)
theorem dX0_fewest_23 : decode cX0_fewest 23 = .ok (.invokevirtual 145, 3) := dk_182 0 145 (dk_at dksX0_fewest_1 0 rfl rfl)
theorem dX0_fewest_26 : decode cX0_fewest 26 = .ok (.ishl, 1) := dk_120 (dk_at dksX0_fewest_1 3 rfl rfl)
theorem dX0_fewest_27 : decode cX0_fewest 27 = .ok (.if_icmp .ge 34, 3) := dk_162 0 34 (dk_at dksX0_fewest_1 4 rfl rfl)
theorem dX0_fewest_30 : decode cX0_fewest 30 = .ok (.iload_n 2, 1) := dk_28 (dk_at dksX0_fewest_1 7 rfl rfl)
theorem dX0_fewest_31 : decode cX0_fewest 31 = .ok (.ifCond .lt 14, 3) := dk_155 0 14 (dk_at dksX0_fewest_1 8 rfl rfl)
theorem dX0_fewest_34 : decode cX0_fewest 34 = .ok (.iload_n 3, 1) := dk_29 (dk_at dksX0_fewest_1 11 rfl rfl)
theorem dX0_fewest_35 : decode cX0_fewest 35 = .ok (.invokestatic 297, 3) := dk_184 1 41 (dk_at dksX0_fewest_1 12 rfl rfl)
theorem dX0_fewest_38 : decode cX0_fewest 38 = .ok (.iload_n 2, 1) := dk_28 (dk_at dksX0_fewest_1 15 rfl rfl)
theorem dX0_fewest_39 : decode cX0_fewest 39 = .ok (.invokestatic 297, 3) := dk_184 1 41 (dk_at dksX0_fewest_1 16 rfl rfl)
theorem dX0_fewest_42 : decode cX0_fewest 42 = .ok (.if_icmp .ge 13, 3) := dk_162 0 13 (dk_at dksX0_fewest_1 19 rfl rfl)
theorem dX0_fewest_45 : decode cX0_fewest 45 = .ok (.aload_n 0, 1) := dk_42 (dk_at dksX0_fewest_1 22 rfl rfl)
theorem dX0_fewest_46 : decode cX0_fewest 46 = .ok (.iload_n 3, 1) := dk_29 (dk_at dksX0_fewest_1 23 rfl rfl)
theorem dX0_fewest_47 : decode cX0_fewest 47 = .ok (.invokevirtual 302, 3) := dk_182 1 46 (dk_at dksX0_fewest_2 0 rfl rfl)
theorem dX0_fewest_50 : decode cX0_fewest 50 = .ok (.ifCond .eq 5, 3) := dk_153 0 5 (dk_at dksX0_fewest_2 3 rfl rfl)
theorem dX0_fewest_53 : decode cX0_fewest 53 = .ok (.iload_n 3, 1) := dk_29 (dk_at dksX0_fewest_2 6 rfl rfl)
theorem dX0_fewest_54 : decode cX0_fewest 54 = .ok (.istore_n 2, 1) := dk_61 (dk_at dksX0_fewest_2 7 rfl rfl)
theorem dX0_fewest_55 : decode cX0_fewest 55 = .ok (.iinc 3 1, 3) := dk_132 3 1 (dk_at dksX0_fewest_2 8 rfl rfl)
theorem dX0_fewest_58 : decode cX0_fewest 58 = .ok (.goto (-38), 3) := dk_167 255 218 (dk_at dksX0_fewest_2 11 rfl rfl)
theorem dX0_fewest_61 : decode cX0_fewest 61 = .ok (.iload_n 2, 1) := dk_28 (dk_at dksX0_fewest_2 14 rfl rfl)
theorem dX0_fewest_62 : decode cX0_fewest 62 = .ok (.ifCond .lt 8, 3) := dk_155 0 8 (dk_at dksX0_fewest_2 15 rfl rfl)
theorem dX0_fewest_65 : decode cX0_fewest 65 = .ok (.iload_n 1, 1) := dk_27 (dk_at dksX0_fewest_2 18 rfl rfl)
theorem dX0_fewest_66 : decode cX0_fewest 66 = .ok (.iconst 1, 1) := dk_4 (dk_at dksX0_fewest_2 19 rfl rfl)
theorem dX0_fewest_67 : decode cX0_fewest 67 = .ok (.if_icmp .ne 7, 3) := dk_160 0 7 (dk_at dksX0_fewest_2 20 rfl rfl)
theorem dX0_fewest_70 : decode cX0_fewest 70 = .ok (.iload_n 2, 1) := dk_28 (dk_at dksX0_fewest_2 23 rfl rfl)
theorem dX0_fewest_71 : decode cX0_fewest 71 = .ok (.goto 7, 3) := dk_167 0 7 (dk_at dksX0_fewest_3 0 rfl rfl)
theorem dX0_fewest_74 : decode cX0_fewest 74 = .ok (.iload_n 2, 1) := dk_28 (dk_at dksX0_fewest_3 3 rfl rfl)
theorem dX0_fewest_75 : decode cX0_fewest 75 = .ok (.invokestatic 297, 3) := dk_184 1 41 (dk_at dksX0_fewest_3 4 rfl rfl)
theorem dX0_fewest_78 : decode cX0_fewest 78 = .ok (.ireturn, 1) := dk_172 (dk_at dksX0_fewest_3 7 rfl rfl)
abbrev cX0_isEnough : ByteArray := prog_1_method_36_code
def yX0_isEnough : MethodName := ⟨RX0, "isEnough", "(I)Z"⟩
def dkwX0_isEnough_5 : List UInt8 := [42, 180, 0, 90, 28, 51, 172]
abbrev dktX0_isEnough_5 : List UInt8 := dkwX0_isEnough_5 ++ []
def dkwX0_isEnough_4 : List UInt8 := [182, 1, 38, 153, 0, 7, 4, 167, 0, 4, 3, 84, 132, 4, 255, 167, 255, 216, 132, 3, 1, 167, 255, 190]
abbrev dktX0_isEnough_4 : List UInt8 := dkwX0_isEnough_4 ++ dktX0_isEnough_5
def dkwX0_isEnough_3 : List UInt8 := [158, 0, 41, 42, 180, 0, 90, 21, 4, 42, 180, 0, 90, 21, 4, 51, 154, 0, 13, 42, 29, 21, 4]
abbrev dktX0_isEnough_3 : List UInt8 := dkwX0_isEnough_3 ++ dktX0_isEnough_4
def dkwX0_isEnough_2 : List UInt8 := [3, 62, 29, 42, 182, 0, 145, 162, 0, 64, 27, 29, 122, 4, 126, 4, 160, 0, 49, 28, 54, 4, 21, 4]
abbrev dktX0_isEnough_2 : List UInt8 := dkwX0_isEnough_2 ++ dktX0_isEnough_3
def dkwX0_isEnough_1 : List UInt8 := [162, 0, 24, 42, 180, 0, 90, 29, 29, 154, 0, 7, 4, 167, 0, 4, 3, 84, 132, 3, 1, 167, 255, 230]
abbrev dktX0_isEnough_1 : List UInt8 := dkwX0_isEnough_1 ++ dktX0_isEnough_2
def dkwX0_isEnough_0 : List UInt8 := [42, 182, 1, 23, 4, 100, 42, 180, 0, 51, 180, 1, 9, 2, 130, 126, 61, 3, 62, 29, 42, 182, 1, 23]
abbrev dktX0_isEnough_0 : List UInt8 := dkwX0_isEnough_0 ++ dktX0_isEnough_1
theorem dksX0_isEnough_0 : cX0_isEnough.data.toList.drop 0 = dktX0_isEnough_0 := by decide +kernel
theorem dksX0_isEnough_1 : cX0_isEnough.data.toList.drop 24 = dktX0_isEnough_1 := dk_seg dksX0_isEnough_0 24 rfl rfl
theorem dksX0_isEnough_2 : cX0_isEnough.data.toList.drop 48 = dktX0_isEnough_2 := dk_seg dksX0_isEnough_1 24 rfl rfl
theorem dksX0_isEnough_3 : cX0_isEnough.data.toList.drop 72 = dktX0_isEnough_3 := dk_seg dksX0_isEnough_2 24 rfl rfl
theorem dksX0_isEnough_4 : cX0_isEnough.data.toList.drop 95 = dktX0_isEnough_4 := dk_seg dksX0_isEnough_3 23 rfl rfl
theorem dksX0_isEnough_5 : cX0_isEnough.data.toList.drop 119 = dktX0_isEnough_5 := dk_seg dksX0_isEnough_4 24 rfl rfl
theorem dX0_isEnough_0 : decode cX0_isEnough 0 = .ok (.aload_n 0, 1) := dk_42 (dk_at dksX0_isEnough_0 0 rfl rfl)
theorem dX0_isEnough_1 : decode cX0_isEnough 1 = .ok (.invokevirtual 279, 3) := dk_182 1 23 (dk_at dksX0_isEnough_0 1 rfl rfl)
theorem dX0_isEnough_4 : decode cX0_isEnough 4 = .ok (.iconst 1, 1) := dk_4 (dk_at dksX0_isEnough_0 4 rfl rfl)
theorem dX0_isEnough_5 : decode cX0_isEnough 5 = .ok (.isub, 1) := dk_100 (dk_at dksX0_isEnough_0 5 rfl rfl)
theorem dX0_isEnough_6 : decode cX0_isEnough 6 = .ok (.aload_n 0, 1) := dk_42 (dk_at dksX0_isEnough_0 6 rfl rfl)
theorem dX0_isEnough_7 : decode cX0_isEnough 7 = .ok (.getfield 51, 3) := dk_180 0 51 (dk_at dksX0_isEnough_0 7 rfl rfl)
theorem dX0_isEnough_10 : decode cX0_isEnough 10 = .ok (.getfield 265, 3) := dk_180 1 9 (dk_at dksX0_isEnough_0 10 rfl rfl)
theorem dX0_isEnough_13 : decode cX0_isEnough 13 = .ok (.iconst (-1), 1) := dk_2 (dk_at dksX0_isEnough_0 13 rfl rfl)
theorem dX0_isEnough_14 : decode cX0_isEnough 14 = .ok (.ixor, 1) := dk_130 (dk_at dksX0_isEnough_0 14 rfl rfl)
theorem dX0_isEnough_15 : decode cX0_isEnough 15 = .ok (.iand, 1) := dk_126 (dk_at dksX0_isEnough_0 15 rfl rfl)
theorem dX0_isEnough_16 : decode cX0_isEnough 16 = .ok (.istore_n 2, 1) := dk_61 (dk_at dksX0_isEnough_0 16 rfl rfl)
theorem dX0_isEnough_17 : decode cX0_isEnough 17 = .ok (.iconst 0, 1) := dk_3 (dk_at dksX0_isEnough_0 17 rfl rfl)
theorem dX0_isEnough_18 : decode cX0_isEnough 18 = .ok (.istore_n 3, 1) := dk_62 (dk_at dksX0_isEnough_0 18 rfl rfl)
theorem dX0_isEnough_19 : decode cX0_isEnough 19 = .ok (.iload_n 3, 1) := dk_29 (dk_at dksX0_isEnough_0 19 rfl rfl)
theorem dX0_isEnough_20 : decode cX0_isEnough 20 = .ok (.aload_n 0, 1) := dk_42 (dk_at dksX0_isEnough_0 20 rfl rfl)
theorem dX0_isEnough_21 : decode cX0_isEnough 21 = .ok (.invokevirtual 279, 3) := dk_182 1 23 (dk_at dksX0_isEnough_0 21 rfl rfl)
theorem dX0_isEnough_24 : decode cX0_isEnough 24 = .ok (.if_icmp .ge 24, 3) := dk_162 0 24 (dk_at dksX0_isEnough_1 0 rfl rfl)
theorem dX0_isEnough_27 : decode cX0_isEnough 27 = .ok (.aload_n 0, 1) := dk_42 (dk_at dksX0_isEnough_1 3 rfl rfl)
theorem dX0_isEnough_28 : decode cX0_isEnough 28 = .ok (.getfield 90, 3) := dk_180 0 90 (dk_at dksX0_isEnough_1 4 rfl rfl)
theorem dX0_isEnough_31 : decode cX0_isEnough 31 = .ok (.iload_n 3, 1) := dk_29 (dk_at dksX0_isEnough_1 7 rfl rfl)
theorem dX0_isEnough_32 : decode cX0_isEnough 32 = .ok (.iload_n 3, 1) := dk_29 (dk_at dksX0_isEnough_1 8 rfl rfl)
theorem dX0_isEnough_33 : decode cX0_isEnough 33 = .ok (.ifCond .ne 7, 3) := dk_154 0 7 (dk_at dksX0_isEnough_1 9 rfl rfl)
theorem dX0_isEnough_36 : decode cX0_isEnough 36 = .ok (.iconst 1, 1) := dk_4 (dk_at dksX0_isEnough_1 12 rfl rfl)
theorem dX0_isEnough_37 : decode cX0_isEnough 37 = .ok (.goto 4, 3) := dk_167 0 4 (dk_at dksX0_isEnough_1 13 rfl rfl)
theorem dX0_isEnough_40 : decode cX0_isEnough 40 = .ok (.iconst 0, 1) := dk_3 (dk_at dksX0_isEnough_1 16 rfl rfl)
theorem dX0_isEnough_41 : decode cX0_isEnough 41 = .ok (.bastore, 1) := dk_84 (dk_at dksX0_isEnough_1 17 rfl rfl)
theorem dX0_isEnough_42 : decode cX0_isEnough 42 = .ok (.iinc 3 1, 3) := dk_132 3 1 (dk_at dksX0_isEnough_1 18 rfl rfl)
theorem dX0_isEnough_45 : decode cX0_isEnough 45 = .ok (.goto (-26), 3) := dk_167 255 230 (dk_at dksX0_isEnough_1 21 rfl rfl)
theorem dX0_isEnough_48 : decode cX0_isEnough 48 = .ok (.iconst 0, 1) := dk_3 (dk_at dksX0_isEnough_2 0 rfl rfl)
theorem dX0_isEnough_49 : decode cX0_isEnough 49 = .ok (.istore_n 3, 1) := dk_62 (dk_at dksX0_isEnough_2 1 rfl rfl)
theorem dX0_isEnough_50 : decode cX0_isEnough 50 = .ok (.iload_n 3, 1) := dk_29 (dk_at dksX0_isEnough_2 2 rfl rfl)
theorem dX0_isEnough_51 : decode cX0_isEnough 51 = .ok (.aload_n 0, 1) := dk_42 (dk_at dksX0_isEnough_2 3 rfl rfl)
theorem dX0_isEnough_52 : decode cX0_isEnough 52 = .ok (.invokevirtual 145, 3) := dk_182 0 145 (dk_at dksX0_isEnough_2 4 rfl rfl)
theorem dX0_isEnough_55 : decode cX0_isEnough 55 = .ok (.if_icmp .ge 64, 3) := dk_162 0 64 (dk_at dksX0_isEnough_2 7 rfl rfl)
theorem dX0_isEnough_58 : decode cX0_isEnough 58 = .ok (.iload_n 1, 1) := dk_27 (dk_at dksX0_isEnough_2 10 rfl rfl)
theorem dX0_isEnough_59 : decode cX0_isEnough 59 = .ok (.iload_n 3, 1) := dk_29 (dk_at dksX0_isEnough_2 11 rfl rfl)
theorem dX0_isEnough_60 : decode cX0_isEnough 60 = .ok (.ishr, 1) := dk_122 (dk_at dksX0_isEnough_2 12 rfl rfl)
theorem dX0_isEnough_61 : decode cX0_isEnough 61 = .ok (.iconst 1, 1) := dk_4 (dk_at dksX0_isEnough_2 13 rfl rfl)
theorem dX0_isEnough_62 : decode cX0_isEnough 62 = .ok (.iand, 1) := dk_126 (dk_at dksX0_isEnough_2 14 rfl rfl)
theorem dX0_isEnough_63 : decode cX0_isEnough 63 = .ok (.iconst 1, 1) := dk_4 (dk_at dksX0_isEnough_2 15 rfl rfl)
theorem dX0_isEnough_64 : decode cX0_isEnough 64 = .ok (.if_icmp .ne 49, 3) := dk_160 0 49 (dk_at dksX0_isEnough_2 16 rfl rfl)
theorem dX0_isEnough_67 : decode cX0_isEnough 67 = .ok (.iload_n 2, 1) := dk_28 (dk_at dksX0_isEnough_2 19 rfl rfl)
theorem dX0_isEnough_68 : decode cX0_isEnough 68 = .ok (.istore 4, 2) := dk_54 4 (dk_at dksX0_isEnough_2 20 rfl rfl)
theorem dX0_isEnough_70 : decode cX0_isEnough 70 = .ok (.iload 4, 2) := dk_21 4 (dk_at dksX0_isEnough_2 22 rfl rfl)
theorem dX0_isEnough_72 : decode cX0_isEnough 72 = .ok (.ifCond .le 41, 3) := dk_158 0 41 (dk_at dksX0_isEnough_3 0 rfl rfl)
theorem dX0_isEnough_75 : decode cX0_isEnough 75 = .ok (.aload_n 0, 1) := dk_42 (dk_at dksX0_isEnough_3 3 rfl rfl)
theorem dX0_isEnough_76 : decode cX0_isEnough 76 = .ok (.getfield 90, 3) := dk_180 0 90 (dk_at dksX0_isEnough_3 4 rfl rfl)
theorem dX0_isEnough_79 : decode cX0_isEnough 79 = .ok (.iload 4, 2) := dk_21 4 (dk_at dksX0_isEnough_3 7 rfl rfl)
theorem dX0_isEnough_81 : decode cX0_isEnough 81 = .ok (.aload_n 0, 1) := dk_42 (dk_at dksX0_isEnough_3 9 rfl rfl)
theorem dX0_isEnough_82 : decode cX0_isEnough 82 = .ok (.getfield 90, 3) := dk_180 0 90 (dk_at dksX0_isEnough_3 10 rfl rfl)
theorem dX0_isEnough_85 : decode cX0_isEnough 85 = .ok (.iload 4, 2) := dk_21 4 (dk_at dksX0_isEnough_3 13 rfl rfl)
theorem dX0_isEnough_87 : decode cX0_isEnough 87 = .ok (.baload, 1) := dk_51 (dk_at dksX0_isEnough_3 15 rfl rfl)
theorem dX0_isEnough_88 : decode cX0_isEnough 88 = .ok (.ifCond .ne 13, 3) := dk_154 0 13 (dk_at dksX0_isEnough_3 16 rfl rfl)
theorem dX0_isEnough_91 : decode cX0_isEnough 91 = .ok (.aload_n 0, 1) := dk_42 (dk_at dksX0_isEnough_3 19 rfl rfl)
theorem dX0_isEnough_92 : decode cX0_isEnough 92 = .ok (.iload_n 3, 1) := dk_29 (dk_at dksX0_isEnough_3 20 rfl rfl)
theorem dX0_isEnough_93 : decode cX0_isEnough 93 = .ok (.iload 4, 2) := dk_21 4 (dk_at dksX0_isEnough_3 21 rfl rfl)
theorem dX0_isEnough_95 : decode cX0_isEnough 95 = .ok (.invokevirtual 294, 3) := dk_182 1 38 (dk_at dksX0_isEnough_4 0 rfl rfl)
theorem dX0_isEnough_98 : decode cX0_isEnough 98 = .ok (.ifCond .eq 7, 3) := dk_153 0 7 (dk_at dksX0_isEnough_4 3 rfl rfl)
theorem dX0_isEnough_101 : decode cX0_isEnough 101 = .ok (.iconst 1, 1) := dk_4 (dk_at dksX0_isEnough_4 6 rfl rfl)
theorem dX0_isEnough_102 : decode cX0_isEnough 102 = .ok (.goto 4, 3) := dk_167 0 4 (dk_at dksX0_isEnough_4 7 rfl rfl)
theorem dX0_isEnough_105 : decode cX0_isEnough 105 = .ok (.iconst 0, 1) := dk_3 (dk_at dksX0_isEnough_4 10 rfl rfl)
theorem dX0_isEnough_106 : decode cX0_isEnough 106 = .ok (.bastore, 1) := dk_84 (dk_at dksX0_isEnough_4 11 rfl rfl)
theorem dX0_isEnough_107 : decode cX0_isEnough 107 = .ok (.iinc 4 (-1), 3) := dk_132 4 255 (dk_at dksX0_isEnough_4 12 rfl rfl)
theorem dX0_isEnough_110 : decode cX0_isEnough 110 = .ok (.goto (-40), 3) := dk_167 255 216 (dk_at dksX0_isEnough_4 15 rfl rfl)
theorem dX0_isEnough_113 : decode cX0_isEnough 113 = .ok (.iinc 3 1, 3) := dk_132 3 1 (dk_at dksX0_isEnough_4 18 rfl rfl)
theorem dX0_isEnough_116 : decode cX0_isEnough 116 = .ok (.goto (-66), 3) := dk_167 255 190 (dk_at dksX0_isEnough_4 21 rfl rfl)
theorem dX0_isEnough_119 : decode cX0_isEnough 119 = .ok (.aload_n 0, 1) := dk_42 (dk_at dksX0_isEnough_5 0 rfl rfl)
theorem dX0_isEnough_120 : decode cX0_isEnough 120 = .ok (.getfield 90, 3) := dk_180 0 90 (dk_at dksX0_isEnough_5 1 rfl rfl)
theorem dX0_isEnough_123 : decode cX0_isEnough 123 = .ok (.iload_n 2, 1) := dk_28 (dk_at dksX0_isEnough_5 4 rfl rfl)
theorem dX0_isEnough_124 : decode cX0_isEnough 124 = .ok (.baload, 1) := dk_51 (dk_at dksX0_isEnough_5 5 rfl rfl)
theorem dX0_isEnough_125 : decode cX0_isEnough 125 = .ok (.ireturn, 1) := dk_172 (dk_at dksX0_isEnough_5 6 rfl rfl)
abbrev cX0_isPlacedBy : ByteArray := prog_1_method_37_code
def yX0_isPlacedBy : MethodName := ⟨RX0, "isPlacedBy", "(II)Z"⟩
def dkwX0_isPlacedBy_2 : List UInt8 := [3, 172]
abbrev dktX0_isPlacedBy_2 : List UInt8 := dkwX0_isPlacedBy_2 ++ []
def dkwX0_isPlacedBy_1 : List UInt8 := [155, 0, 18, 42, 180, 0, 90, 28, 29, 2, 130, 126, 51, 153, 0, 5, 4, 172, 132, 3, 1, 167, 255, 214]
abbrev dktX0_isPlacedBy_1 : List UInt8 := dkwX0_isPlacedBy_1 ++ dktX0_isPlacedBy_2
def dkwX0_isPlacedBy_0 : List UInt8 := [4, 62, 29, 28, 163, 0, 43, 29, 28, 2, 130, 126, 154, 0, 29, 42, 180, 0, 84, 27, 50, 29, 46]
abbrev dktX0_isPlacedBy_0 : List UInt8 := dkwX0_isPlacedBy_0 ++ dktX0_isPlacedBy_1
theorem dksX0_isPlacedBy_0 : cX0_isPlacedBy.data.toList.drop 0 = dktX0_isPlacedBy_0 := by decide +kernel
theorem dksX0_isPlacedBy_1 : cX0_isPlacedBy.data.toList.drop 23 = dktX0_isPlacedBy_1 := dk_seg dksX0_isPlacedBy_0 23 rfl rfl
theorem dksX0_isPlacedBy_2 : cX0_isPlacedBy.data.toList.drop 47 = dktX0_isPlacedBy_2 := dk_seg dksX0_isPlacedBy_1 24 rfl rfl
theorem dX0_isPlacedBy_0 : decode cX0_isPlacedBy 0 = .ok (.iconst 1, 1) := dk_4 (dk_at dksX0_isPlacedBy_0 0 rfl rfl)
theorem dX0_isPlacedBy_1 : decode cX0_isPlacedBy 1 = .ok (.istore_n 3, 1) := dk_62 (dk_at dksX0_isPlacedBy_0 1 rfl rfl)
theorem dX0_isPlacedBy_2 : decode cX0_isPlacedBy 2 = .ok (.iload_n 3, 1) := dk_29 (dk_at dksX0_isPlacedBy_0 2 rfl rfl)
theorem dX0_isPlacedBy_3 : decode cX0_isPlacedBy 3 = .ok (.iload_n 2, 1) := dk_28 (dk_at dksX0_isPlacedBy_0 3 rfl rfl)
theorem dX0_isPlacedBy_4 : decode cX0_isPlacedBy 4 = .ok (.if_icmp .gt 43, 3) := dk_163 0 43 (dk_at dksX0_isPlacedBy_0 4 rfl rfl)
theorem dX0_isPlacedBy_7 : decode cX0_isPlacedBy 7 = .ok (.iload_n 3, 1) := dk_29 (dk_at dksX0_isPlacedBy_0 7 rfl rfl)
theorem dX0_isPlacedBy_8 : decode cX0_isPlacedBy 8 = .ok (.iload_n 2, 1) := dk_28 (dk_at dksX0_isPlacedBy_0 8 rfl rfl)
theorem dX0_isPlacedBy_9 : decode cX0_isPlacedBy 9 = .ok (.iconst (-1), 1) := dk_2 (dk_at dksX0_isPlacedBy_0 9 rfl rfl)
theorem dX0_isPlacedBy_10 : decode cX0_isPlacedBy 10 = .ok (.ixor, 1) := dk_130 (dk_at dksX0_isPlacedBy_0 10 rfl rfl)
theorem dX0_isPlacedBy_11 : decode cX0_isPlacedBy 11 = .ok (.iand, 1) := dk_126 (dk_at dksX0_isPlacedBy_0 11 rfl rfl)
theorem dX0_isPlacedBy_12 : decode cX0_isPlacedBy 12 = .ok (.ifCond .ne 29, 3) := dk_154 0 29 (dk_at dksX0_isPlacedBy_0 12 rfl rfl)
theorem dX0_isPlacedBy_15 : decode cX0_isPlacedBy 15 = .ok (.aload_n 0, 1) := dk_42 (dk_at dksX0_isPlacedBy_0 15 rfl rfl)
theorem dX0_isPlacedBy_16 : decode cX0_isPlacedBy 16 = .ok (.getfield 84, 3) := dk_180 0 84 (dk_at dksX0_isPlacedBy_0 16 rfl rfl)
theorem dX0_isPlacedBy_19 : decode cX0_isPlacedBy 19 = .ok (.iload_n 1, 1) := dk_27 (dk_at dksX0_isPlacedBy_0 19 rfl rfl)
theorem dX0_isPlacedBy_20 : decode cX0_isPlacedBy 20 = .ok (.aaload, 1) := dk_50 (dk_at dksX0_isPlacedBy_0 20 rfl rfl)
theorem dX0_isPlacedBy_21 : decode cX0_isPlacedBy 21 = .ok (.iload_n 3, 1) := dk_29 (dk_at dksX0_isPlacedBy_0 21 rfl rfl)
theorem dX0_isPlacedBy_22 : decode cX0_isPlacedBy 22 = .ok (.iaload, 1) := dk_46 (dk_at dksX0_isPlacedBy_0 22 rfl rfl)
theorem dX0_isPlacedBy_23 : decode cX0_isPlacedBy 23 = .ok (.ifCond .lt 18, 3) := dk_155 0 18 (dk_at dksX0_isPlacedBy_1 0 rfl rfl)
theorem dX0_isPlacedBy_26 : decode cX0_isPlacedBy 26 = .ok (.aload_n 0, 1) := dk_42 (dk_at dksX0_isPlacedBy_1 3 rfl rfl)
theorem dX0_isPlacedBy_27 : decode cX0_isPlacedBy 27 = .ok (.getfield 90, 3) := dk_180 0 90 (dk_at dksX0_isPlacedBy_1 4 rfl rfl)
theorem dX0_isPlacedBy_30 : decode cX0_isPlacedBy 30 = .ok (.iload_n 2, 1) := dk_28 (dk_at dksX0_isPlacedBy_1 7 rfl rfl)
theorem dX0_isPlacedBy_31 : decode cX0_isPlacedBy 31 = .ok (.iload_n 3, 1) := dk_29 (dk_at dksX0_isPlacedBy_1 8 rfl rfl)
theorem dX0_isPlacedBy_32 : decode cX0_isPlacedBy 32 = .ok (.iconst (-1), 1) := dk_2 (dk_at dksX0_isPlacedBy_1 9 rfl rfl)
theorem dX0_isPlacedBy_33 : decode cX0_isPlacedBy 33 = .ok (.ixor, 1) := dk_130 (dk_at dksX0_isPlacedBy_1 10 rfl rfl)
theorem dX0_isPlacedBy_34 : decode cX0_isPlacedBy 34 = .ok (.iand, 1) := dk_126 (dk_at dksX0_isPlacedBy_1 11 rfl rfl)
theorem dX0_isPlacedBy_35 : decode cX0_isPlacedBy 35 = .ok (.baload, 1) := dk_51 (dk_at dksX0_isPlacedBy_1 12 rfl rfl)
theorem dX0_isPlacedBy_36 : decode cX0_isPlacedBy 36 = .ok (.ifCond .eq 5, 3) := dk_153 0 5 (dk_at dksX0_isPlacedBy_1 13 rfl rfl)
theorem dX0_isPlacedBy_39 : decode cX0_isPlacedBy 39 = .ok (.iconst 1, 1) := dk_4 (dk_at dksX0_isPlacedBy_1 16 rfl rfl)
theorem dX0_isPlacedBy_40 : decode cX0_isPlacedBy 40 = .ok (.ireturn, 1) := dk_172 (dk_at dksX0_isPlacedBy_1 17 rfl rfl)
theorem dX0_isPlacedBy_41 : decode cX0_isPlacedBy 41 = .ok (.iinc 3 1, 3) := dk_132 3 1 (dk_at dksX0_isPlacedBy_1 18 rfl rfl)
theorem dX0_isPlacedBy_44 : decode cX0_isPlacedBy 44 = .ok (.goto (-42), 3) := dk_167 255 214 (dk_at dksX0_isPlacedBy_1 21 rfl rfl)
theorem dX0_isPlacedBy_47 : decode cX0_isPlacedBy 47 = .ok (.iconst 0, 1) := dk_3 (dk_at dksX0_isPlacedBy_2 0 rfl rfl)
theorem dX0_isPlacedBy_48 : decode cX0_isPlacedBy 48 = .ok (.ireturn, 1) := dk_172 (dk_at dksX0_isPlacedBy_2 1 rfl rfl)
abbrev cX0_colours : ByteArray := prog_1_method_39_code
def yX0_colours : MethodName := ⟨RX0, "colours", "()I"⟩
def dkwX0_colours_4 : List UInt8 := [182, 1, 23, 4, 100, 42, 180, 0, 51, 180, 1, 9, 2, 130, 126, 46, 172]
abbrev dktX0_colours_4 : List UInt8 := dkwX0_colours_4 ++ []
def dkwX0_colours_3 : List UInt8 := [46, 96, 184, 0, 225, 79, 132, 2, 1, 167, 255, 205, 132, 1, 1, 167, 255, 180, 42, 180, 0, 93, 42]
abbrev dktX0_colours_3 : List UInt8 := dkwX0_colours_3 ++ dktX0_colours_4
def dkwX0_colours_2 : List UInt8 := [153, 0, 30, 42, 180, 0, 93, 27, 42, 180, 0, 93, 27, 46, 4, 42, 180, 0, 93, 27, 28, 2, 130, 126]
abbrev dktX0_colours_2 : List UInt8 := dkwX0_colours_2 ++ dktX0_colours_3
def dkwX0_colours_1 : List UInt8 := [19, 1, 49, 79, 4, 61, 28, 27, 163, 0, 52, 28, 27, 2, 130, 126, 154, 0, 38, 42, 28, 182, 1, 12]
abbrev dktX0_colours_1 : List UInt8 := dkwX0_colours_1 ++ dktX0_colours_2
def dkwX0_colours_0 : List UInt8 := [42, 180, 0, 93, 3, 3, 79, 4, 60, 27, 42, 182, 1, 23, 162, 0, 74, 42, 180, 0, 93, 27]
abbrev dktX0_colours_0 : List UInt8 := dkwX0_colours_0 ++ dktX0_colours_1
theorem dksX0_colours_0 : cX0_colours.data.toList.drop 0 = dktX0_colours_0 := by decide +kernel
theorem dksX0_colours_1 : cX0_colours.data.toList.drop 22 = dktX0_colours_1 := dk_seg dksX0_colours_0 22 rfl rfl
theorem dksX0_colours_2 : cX0_colours.data.toList.drop 46 = dktX0_colours_2 := dk_seg dksX0_colours_1 24 rfl rfl
theorem dksX0_colours_3 : cX0_colours.data.toList.drop 70 = dktX0_colours_3 := dk_seg dksX0_colours_2 24 rfl rfl
theorem dksX0_colours_4 : cX0_colours.data.toList.drop 93 = dktX0_colours_4 := dk_seg dksX0_colours_3 23 rfl rfl
theorem dX0_colours_0 : decode cX0_colours 0 = .ok (.aload_n 0, 1) := dk_42 (dk_at dksX0_colours_0 0 rfl rfl)
theorem dX0_colours_1 : decode cX0_colours 1 = .ok (.getfield 93, 3) := dk_180 0 93 (dk_at dksX0_colours_0 1 rfl rfl)
theorem dX0_colours_4 : decode cX0_colours 4 = .ok (.iconst 0, 1) := dk_3 (dk_at dksX0_colours_0 4 rfl rfl)
theorem dX0_colours_5 : decode cX0_colours 5 = .ok (.iconst 0, 1) := dk_3 (dk_at dksX0_colours_0 5 rfl rfl)
theorem dX0_colours_6 : decode cX0_colours 6 = .ok (.iastore, 1) := dk_79 (dk_at dksX0_colours_0 6 rfl rfl)
theorem dX0_colours_7 : decode cX0_colours 7 = .ok (.iconst 1, 1) := dk_4 (dk_at dksX0_colours_0 7 rfl rfl)
theorem dX0_colours_8 : decode cX0_colours 8 = .ok (.istore_n 1, 1) := dk_60 (dk_at dksX0_colours_0 8 rfl rfl)
theorem dX0_colours_9 : decode cX0_colours 9 = .ok (.iload_n 1, 1) := dk_27 (dk_at dksX0_colours_0 9 rfl rfl)
theorem dX0_colours_10 : decode cX0_colours 10 = .ok (.aload_n 0, 1) := dk_42 (dk_at dksX0_colours_0 10 rfl rfl)
theorem dX0_colours_11 : decode cX0_colours 11 = .ok (.invokevirtual 279, 3) := dk_182 1 23 (dk_at dksX0_colours_0 11 rfl rfl)
theorem dX0_colours_14 : decode cX0_colours 14 = .ok (.if_icmp .ge 74, 3) := dk_162 0 74 (dk_at dksX0_colours_0 14 rfl rfl)
theorem dX0_colours_17 : decode cX0_colours 17 = .ok (.aload_n 0, 1) := dk_42 (dk_at dksX0_colours_0 17 rfl rfl)
theorem dX0_colours_18 : decode cX0_colours 18 = .ok (.getfield 93, 3) := dk_180 0 93 (dk_at dksX0_colours_0 18 rfl rfl)
theorem dX0_colours_21 : decode cX0_colours 21 = .ok (.iload_n 1, 1) := dk_27 (dk_at dksX0_colours_0 21 rfl rfl)
theorem dX0_colours_22 : decode cX0_colours 22 = .ok (.ldc_w 305, 3) := dk_19 1 49 (dk_at dksX0_colours_1 0 rfl rfl)
theorem dX0_colours_25 : decode cX0_colours 25 = .ok (.iastore, 1) := dk_79 (dk_at dksX0_colours_1 3 rfl rfl)
theorem dX0_colours_26 : decode cX0_colours 26 = .ok (.iconst 1, 1) := dk_4 (dk_at dksX0_colours_1 4 rfl rfl)
theorem dX0_colours_27 : decode cX0_colours 27 = .ok (.istore_n 2, 1) := dk_61 (dk_at dksX0_colours_1 5 rfl rfl)
theorem dX0_colours_28 : decode cX0_colours 28 = .ok (.iload_n 2, 1) := dk_28 (dk_at dksX0_colours_1 6 rfl rfl)
theorem dX0_colours_29 : decode cX0_colours 29 = .ok (.iload_n 1, 1) := dk_27 (dk_at dksX0_colours_1 7 rfl rfl)
theorem dX0_colours_30 : decode cX0_colours 30 = .ok (.if_icmp .gt 52, 3) := dk_163 0 52 (dk_at dksX0_colours_1 8 rfl rfl)
theorem dX0_colours_33 : decode cX0_colours 33 = .ok (.iload_n 2, 1) := dk_28 (dk_at dksX0_colours_1 11 rfl rfl)
theorem dX0_colours_34 : decode cX0_colours 34 = .ok (.iload_n 1, 1) := dk_27 (dk_at dksX0_colours_1 12 rfl rfl)
theorem dX0_colours_35 : decode cX0_colours 35 = .ok (.iconst (-1), 1) := dk_2 (dk_at dksX0_colours_1 13 rfl rfl)
theorem dX0_colours_36 : decode cX0_colours 36 = .ok (.ixor, 1) := dk_130 (dk_at dksX0_colours_1 14 rfl rfl)
theorem dX0_colours_37 : decode cX0_colours 37 = .ok (.iand, 1) := dk_126 (dk_at dksX0_colours_1 15 rfl rfl)
theorem dX0_colours_38 : decode cX0_colours 38 = .ok (.ifCond .ne 38, 3) := dk_154 0 38 (dk_at dksX0_colours_1 16 rfl rfl)
theorem dX0_colours_41 : decode cX0_colours 41 = .ok (.aload_n 0, 1) := dk_42 (dk_at dksX0_colours_1 19 rfl rfl)
theorem dX0_colours_42 : decode cX0_colours 42 = .ok (.iload_n 2, 1) := dk_28 (dk_at dksX0_colours_1 20 rfl rfl)
theorem dX0_colours_43 : decode cX0_colours 43 = .ok (.invokevirtual 268, 3) := dk_182 1 12 (dk_at dksX0_colours_1 21 rfl rfl)
theorem dX0_colours_46 : decode cX0_colours 46 = .ok (.ifCond .eq 30, 3) := dk_153 0 30 (dk_at dksX0_colours_2 0 rfl rfl)
theorem dX0_colours_49 : decode cX0_colours 49 = .ok (.aload_n 0, 1) := dk_42 (dk_at dksX0_colours_2 3 rfl rfl)
theorem dX0_colours_50 : decode cX0_colours 50 = .ok (.getfield 93, 3) := dk_180 0 93 (dk_at dksX0_colours_2 4 rfl rfl)
theorem dX0_colours_53 : decode cX0_colours 53 = .ok (.iload_n 1, 1) := dk_27 (dk_at dksX0_colours_2 7 rfl rfl)
theorem dX0_colours_54 : decode cX0_colours 54 = .ok (.aload_n 0, 1) := dk_42 (dk_at dksX0_colours_2 8 rfl rfl)
theorem dX0_colours_55 : decode cX0_colours 55 = .ok (.getfield 93, 3) := dk_180 0 93 (dk_at dksX0_colours_2 9 rfl rfl)
theorem dX0_colours_58 : decode cX0_colours 58 = .ok (.iload_n 1, 1) := dk_27 (dk_at dksX0_colours_2 12 rfl rfl)
theorem dX0_colours_59 : decode cX0_colours 59 = .ok (.iaload, 1) := dk_46 (dk_at dksX0_colours_2 13 rfl rfl)
theorem dX0_colours_60 : decode cX0_colours 60 = .ok (.iconst 1, 1) := dk_4 (dk_at dksX0_colours_2 14 rfl rfl)
theorem dX0_colours_61 : decode cX0_colours 61 = .ok (.aload_n 0, 1) := dk_42 (dk_at dksX0_colours_2 15 rfl rfl)
theorem dX0_colours_62 : decode cX0_colours 62 = .ok (.getfield 93, 3) := dk_180 0 93 (dk_at dksX0_colours_2 16 rfl rfl)
theorem dX0_colours_65 : decode cX0_colours 65 = .ok (.iload_n 1, 1) := dk_27 (dk_at dksX0_colours_2 19 rfl rfl)
theorem dX0_colours_66 : decode cX0_colours 66 = .ok (.iload_n 2, 1) := dk_28 (dk_at dksX0_colours_2 20 rfl rfl)
theorem dX0_colours_67 : decode cX0_colours 67 = .ok (.iconst (-1), 1) := dk_2 (dk_at dksX0_colours_2 21 rfl rfl)
theorem dX0_colours_68 : decode cX0_colours 68 = .ok (.ixor, 1) := dk_130 (dk_at dksX0_colours_2 22 rfl rfl)
theorem dX0_colours_69 : decode cX0_colours 69 = .ok (.iand, 1) := dk_126 (dk_at dksX0_colours_2 23 rfl rfl)
theorem dX0_colours_70 : decode cX0_colours 70 = .ok (.iaload, 1) := dk_46 (dk_at dksX0_colours_3 0 rfl rfl)
theorem dX0_colours_71 : decode cX0_colours 71 = .ok (.iadd, 1) := dk_96 (dk_at dksX0_colours_3 1 rfl rfl)
theorem dX0_colours_72 : decode cX0_colours 72 = .ok (.invokestatic 225, 3) := dk_184 0 225 (dk_at dksX0_colours_3 2 rfl rfl)
theorem dX0_colours_75 : decode cX0_colours 75 = .ok (.iastore, 1) := dk_79 (dk_at dksX0_colours_3 5 rfl rfl)
theorem dX0_colours_76 : decode cX0_colours 76 = .ok (.iinc 2 1, 3) := dk_132 2 1 (dk_at dksX0_colours_3 6 rfl rfl)
theorem dX0_colours_79 : decode cX0_colours 79 = .ok (.goto (-51), 3) := dk_167 255 205 (dk_at dksX0_colours_3 9 rfl rfl)
theorem dX0_colours_82 : decode cX0_colours 82 = .ok (.iinc 1 1, 3) := dk_132 1 1 (dk_at dksX0_colours_3 12 rfl rfl)
theorem dX0_colours_85 : decode cX0_colours 85 = .ok (.goto (-76), 3) := dk_167 255 180 (dk_at dksX0_colours_3 15 rfl rfl)
theorem dX0_colours_88 : decode cX0_colours 88 = .ok (.aload_n 0, 1) := dk_42 (dk_at dksX0_colours_3 18 rfl rfl)
theorem dX0_colours_89 : decode cX0_colours 89 = .ok (.getfield 93, 3) := dk_180 0 93 (dk_at dksX0_colours_3 19 rfl rfl)
theorem dX0_colours_92 : decode cX0_colours 92 = .ok (.aload_n 0, 1) := dk_42 (dk_at dksX0_colours_3 22 rfl rfl)
theorem dX0_colours_93 : decode cX0_colours 93 = .ok (.invokevirtual 279, 3) := dk_182 1 23 (dk_at dksX0_colours_4 0 rfl rfl)
theorem dX0_colours_96 : decode cX0_colours 96 = .ok (.iconst 1, 1) := dk_4 (dk_at dksX0_colours_4 3 rfl rfl)
theorem dX0_colours_97 : decode cX0_colours 97 = .ok (.isub, 1) := dk_100 (dk_at dksX0_colours_4 4 rfl rfl)
theorem dX0_colours_98 : decode cX0_colours 98 = .ok (.aload_n 0, 1) := dk_42 (dk_at dksX0_colours_4 5 rfl rfl)
theorem dX0_colours_99 : decode cX0_colours 99 = .ok (.getfield 51, 3) := dk_180 0 51 (dk_at dksX0_colours_4 6 rfl rfl)
theorem dX0_colours_102 : decode cX0_colours 102 = .ok (.getfield 265, 3) := dk_180 1 9 (dk_at dksX0_colours_4 9 rfl rfl)
theorem dX0_colours_105 : decode cX0_colours 105 = .ok (.iconst (-1), 1) := dk_2 (dk_at dksX0_colours_4 12 rfl rfl)
theorem dX0_colours_106 : decode cX0_colours 106 = .ok (.ixor, 1) := dk_130 (dk_at dksX0_colours_4 13 rfl rfl)
theorem dX0_colours_107 : decode cX0_colours 107 = .ok (.iand, 1) := dk_126 (dk_at dksX0_colours_4 14 rfl rfl)
theorem dX0_colours_108 : decode cX0_colours 108 = .ok (.iaload, 1) := dk_46 (dk_at dksX0_colours_4 15 rfl rfl)
theorem dX0_colours_109 : decode cX0_colours 109 = .ok (.ireturn, 1) := dk_172 (dk_at dksX0_colours_4 16 rfl rfl)
abbrev cX0_tangle : ByteArray := prog_1_method_41_code
def yX0_tangle : MethodName := ⟨RX0, "tangle", "(I)I"⟩
def dkwX0_tangle_2 : List UInt8 := [167, 255, 224, 27, 154, 0, 10, 28, 184, 1, 41, 167, 0, 4, 28, 172]
abbrev dktX0_tangle_2 : List UInt8 := dkwX0_tangle_2 ++ []
def dkwX0_tangle_1 : List UInt8 := [184, 1, 41, 28, 184, 1, 41, 164, 0, 13, 42, 29, 182, 1, 50, 153, 0, 5, 29, 61, 132, 3, 1]
abbrev dktX0_tangle_1 : List UInt8 := dkwX0_tangle_1 ++ dktX0_tangle_2
def dkwX0_tangle_0 : List UInt8 := [27, 3, 4, 184, 0, 147, 154, 0, 5, 2, 172, 3, 61, 4, 62, 29, 42, 182, 1, 23, 162, 0, 30, 29]
abbrev dktX0_tangle_0 : List UInt8 := dkwX0_tangle_0 ++ dktX0_tangle_1
theorem dksX0_tangle_0 : cX0_tangle.data.toList.drop 0 = dktX0_tangle_0 := by decide +kernel
theorem dksX0_tangle_1 : cX0_tangle.data.toList.drop 24 = dktX0_tangle_1 := dk_seg dksX0_tangle_0 24 rfl rfl
theorem dksX0_tangle_2 : cX0_tangle.data.toList.drop 47 = dktX0_tangle_2 := dk_seg dksX0_tangle_1 23 rfl rfl
theorem dX0_tangle_0 : decode cX0_tangle 0 = .ok (.iload_n 1, 1) := dk_27 (dk_at dksX0_tangle_0 0 rfl rfl)
theorem dX0_tangle_1 : decode cX0_tangle 1 = .ok (.iconst 0, 1) := dk_3 (dk_at dksX0_tangle_0 1 rfl rfl)
theorem dX0_tangle_2 : decode cX0_tangle 2 = .ok (.iconst 1, 1) := dk_4 (dk_at dksX0_tangle_0 2 rfl rfl)
theorem dX0_tangle_3 : decode cX0_tangle 3 = .ok (.invokestatic 147, 3) := dk_184 0 147 (dk_at dksX0_tangle_0 3 rfl rfl)
theorem dX0_tangle_6 : decode cX0_tangle 6 = .ok (.ifCond .ne 5, 3) := dk_154 0 5 (dk_at dksX0_tangle_0 6 rfl rfl)
theorem dX0_tangle_9 : decode cX0_tangle 9 = .ok (.iconst (-1), 1) := dk_2 (dk_at dksX0_tangle_0 9 rfl rfl)
theorem dX0_tangle_10 : decode cX0_tangle 10 = .ok (.ireturn, 1) := dk_172 (dk_at dksX0_tangle_0 10 rfl rfl)
theorem dX0_tangle_11 : decode cX0_tangle 11 = .ok (.iconst 0, 1) := dk_3 (dk_at dksX0_tangle_0 11 rfl rfl)
theorem dX0_tangle_12 : decode cX0_tangle 12 = .ok (.istore_n 2, 1) := dk_61 (dk_at dksX0_tangle_0 12 rfl rfl)
theorem dX0_tangle_13 : decode cX0_tangle 13 = .ok (.iconst 1, 1) := dk_4 (dk_at dksX0_tangle_0 13 rfl rfl)
theorem dX0_tangle_14 : decode cX0_tangle 14 = .ok (.istore_n 3, 1) := dk_62 (dk_at dksX0_tangle_0 14 rfl rfl)
theorem dX0_tangle_15 : decode cX0_tangle 15 = .ok (.iload_n 3, 1) := dk_29 (dk_at dksX0_tangle_0 15 rfl rfl)
theorem dX0_tangle_16 : decode cX0_tangle 16 = .ok (.aload_n 0, 1) := dk_42 (dk_at dksX0_tangle_0 16 rfl rfl)
theorem dX0_tangle_17 : decode cX0_tangle 17 = .ok (.invokevirtual 279, 3) := dk_182 1 23 (dk_at dksX0_tangle_0 17 rfl rfl)
theorem dX0_tangle_20 : decode cX0_tangle 20 = .ok (.if_icmp .ge 30, 3) := dk_162 0 30 (dk_at dksX0_tangle_0 20 rfl rfl)
theorem dX0_tangle_23 : decode cX0_tangle 23 = .ok (.iload_n 3, 1) := dk_29 (dk_at dksX0_tangle_0 23 rfl rfl)
theorem dX0_tangle_24 : decode cX0_tangle 24 = .ok (.invokestatic 297, 3) := dk_184 1 41 (dk_at dksX0_tangle_1 0 rfl rfl)
theorem dX0_tangle_27 : decode cX0_tangle 27 = .ok (.iload_n 2, 1) := dk_28 (dk_at dksX0_tangle_1 3 rfl rfl)
theorem dX0_tangle_28 : decode cX0_tangle 28 = .ok (.invokestatic 297, 3) := dk_184 1 41 (dk_at dksX0_tangle_1 4 rfl rfl)
theorem dX0_tangle_31 : decode cX0_tangle 31 = .ok (.if_icmp .le 13, 3) := dk_164 0 13 (dk_at dksX0_tangle_1 7 rfl rfl)
theorem dX0_tangle_34 : decode cX0_tangle 34 = .ok (.aload_n 0, 1) := dk_42 (dk_at dksX0_tangle_1 10 rfl rfl)
theorem dX0_tangle_35 : decode cX0_tangle 35 = .ok (.iload_n 3, 1) := dk_29 (dk_at dksX0_tangle_1 11 rfl rfl)
theorem dX0_tangle_36 : decode cX0_tangle 36 = .ok (.invokevirtual 306, 3) := dk_182 1 50 (dk_at dksX0_tangle_1 12 rfl rfl)
theorem dX0_tangle_39 : decode cX0_tangle 39 = .ok (.ifCond .eq 5, 3) := dk_153 0 5 (dk_at dksX0_tangle_1 15 rfl rfl)
theorem dX0_tangle_42 : decode cX0_tangle 42 = .ok (.iload_n 3, 1) := dk_29 (dk_at dksX0_tangle_1 18 rfl rfl)
theorem dX0_tangle_43 : decode cX0_tangle 43 = .ok (.istore_n 2, 1) := dk_61 (dk_at dksX0_tangle_1 19 rfl rfl)
theorem dX0_tangle_44 : decode cX0_tangle 44 = .ok (.iinc 3 1, 3) := dk_132 3 1 (dk_at dksX0_tangle_1 20 rfl rfl)
theorem dX0_tangle_47 : decode cX0_tangle 47 = .ok (.goto (-32), 3) := dk_167 255 224 (dk_at dksX0_tangle_2 0 rfl rfl)
theorem dX0_tangle_50 : decode cX0_tangle 50 = .ok (.iload_n 1, 1) := dk_27 (dk_at dksX0_tangle_2 3 rfl rfl)
theorem dX0_tangle_51 : decode cX0_tangle 51 = .ok (.ifCond .ne 10, 3) := dk_154 0 10 (dk_at dksX0_tangle_2 4 rfl rfl)
theorem dX0_tangle_54 : decode cX0_tangle 54 = .ok (.iload_n 2, 1) := dk_28 (dk_at dksX0_tangle_2 7 rfl rfl)
theorem dX0_tangle_55 : decode cX0_tangle 55 = .ok (.invokestatic 297, 3) := dk_184 1 41 (dk_at dksX0_tangle_2 8 rfl rfl)
theorem dX0_tangle_58 : decode cX0_tangle 58 = .ok (.goto 4, 3) := dk_167 0 4 (dk_at dksX0_tangle_2 11 rfl rfl)
theorem dX0_tangle_61 : decode cX0_tangle 61 = .ok (.iload_n 2, 1) := dk_28 (dk_at dksX0_tangle_2 14 rfl rfl)
theorem dX0_tangle_62 : decode cX0_tangle 62 = .ok (.ireturn, 1) := dk_172 (dk_at dksX0_tangle_2 15 rfl rfl)
abbrev cX0_isTangle : ByteArray := prog_1_method_40_code
def yX0_isTangle : MethodName := ⟨RX0, "isTangle", "(I)Z"⟩
def dkwX0_isTangle_2 : List UInt8 := [27, 42, 180, 0, 51, 180, 1, 9, 126, 154, 0, 7, 4, 167, 0, 4, 3, 172]
abbrev dktX0_isTangle_2 : List UInt8 := dkwX0_isTangle_2 ++ []
def dkwX0_isTangle_1 : List UInt8 := [130, 126, 42, 180, 0, 40, 28, 182, 1, 6, 2, 130, 126, 153, 0, 5, 3, 172, 132, 2, 1, 167, 255, 213]
abbrev dktX0_isTangle_1 : List UInt8 := dkwX0_isTangle_1 ++ dktX0_isTangle_2
def dkwX0_isTangle_0 : List UInt8 := [3, 61, 28, 42, 182, 0, 151, 162, 0, 41, 27, 28, 122, 4, 126, 4, 160, 0, 26, 27, 4, 28, 120, 2]
abbrev dktX0_isTangle_0 : List UInt8 := dkwX0_isTangle_0 ++ dktX0_isTangle_1
theorem dksX0_isTangle_0 : cX0_isTangle.data.toList.drop 0 = dktX0_isTangle_0 := by decide +kernel
theorem dksX0_isTangle_1 : cX0_isTangle.data.toList.drop 24 = dktX0_isTangle_1 := dk_seg dksX0_isTangle_0 24 rfl rfl
theorem dksX0_isTangle_2 : cX0_isTangle.data.toList.drop 48 = dktX0_isTangle_2 := dk_seg dksX0_isTangle_1 24 rfl rfl
theorem dX0_isTangle_0 : decode cX0_isTangle 0 = .ok (.iconst 0, 1) := dk_3 (dk_at dksX0_isTangle_0 0 rfl rfl)
theorem dX0_isTangle_1 : decode cX0_isTangle 1 = .ok (.istore_n 2, 1) := dk_61 (dk_at dksX0_isTangle_0 1 rfl rfl)
theorem dX0_isTangle_2 : decode cX0_isTangle 2 = .ok (.iload_n 2, 1) := dk_28 (dk_at dksX0_isTangle_0 2 rfl rfl)
theorem dX0_isTangle_3 : decode cX0_isTangle 3 = .ok (.aload_n 0, 1) := dk_42 (dk_at dksX0_isTangle_0 3 rfl rfl)
theorem dX0_isTangle_4 : decode cX0_isTangle 4 = .ok (.invokevirtual 151, 3) := dk_182 0 151 (dk_at dksX0_isTangle_0 4 rfl rfl)
theorem dX0_isTangle_7 : decode cX0_isTangle 7 = .ok (.if_icmp .ge 41, 3) := dk_162 0 41 (dk_at dksX0_isTangle_0 7 rfl rfl)
theorem dX0_isTangle_10 : decode cX0_isTangle 10 = .ok (.iload_n 1, 1) := dk_27 (dk_at dksX0_isTangle_0 10 rfl rfl)
theorem dX0_isTangle_11 : decode cX0_isTangle 11 = .ok (.iload_n 2, 1) := dk_28 (dk_at dksX0_isTangle_0 11 rfl rfl)
theorem dX0_isTangle_12 : decode cX0_isTangle 12 = .ok (.ishr, 1) := dk_122 (dk_at dksX0_isTangle_0 12 rfl rfl)
theorem dX0_isTangle_13 : decode cX0_isTangle 13 = .ok (.iconst 1, 1) := dk_4 (dk_at dksX0_isTangle_0 13 rfl rfl)
theorem dX0_isTangle_14 : decode cX0_isTangle 14 = .ok (.iand, 1) := dk_126 (dk_at dksX0_isTangle_0 14 rfl rfl)
theorem dX0_isTangle_15 : decode cX0_isTangle 15 = .ok (.iconst 1, 1) := dk_4 (dk_at dksX0_isTangle_0 15 rfl rfl)
theorem dX0_isTangle_16 : decode cX0_isTangle 16 = .ok (.if_icmp .ne 26, 3) := dk_160 0 26 (dk_at dksX0_isTangle_0 16 rfl rfl)
theorem dX0_isTangle_19 : decode cX0_isTangle 19 = .ok (.iload_n 1, 1) := dk_27 (dk_at dksX0_isTangle_0 19 rfl rfl)
theorem dX0_isTangle_20 : decode cX0_isTangle 20 = .ok (.iconst 1, 1) := dk_4 (dk_at dksX0_isTangle_0 20 rfl rfl)
theorem dX0_isTangle_21 : decode cX0_isTangle 21 = .ok (.iload_n 2, 1) := dk_28 (dk_at dksX0_isTangle_0 21 rfl rfl)
theorem dX0_isTangle_22 : decode cX0_isTangle 22 = .ok (.ishl, 1) := dk_120 (dk_at dksX0_isTangle_0 22 rfl rfl)
theorem dX0_isTangle_23 : decode cX0_isTangle 23 = .ok (.iconst (-1), 1) := dk_2 (dk_at dksX0_isTangle_0 23 rfl rfl)
theorem dX0_isTangle_24 : decode cX0_isTangle 24 = .ok (.ixor, 1) := dk_130 (dk_at dksX0_isTangle_1 0 rfl rfl)
theorem dX0_isTangle_25 : decode cX0_isTangle 25 = .ok (.iand, 1) := dk_126 (dk_at dksX0_isTangle_1 1 rfl rfl)
theorem dX0_isTangle_26 : decode cX0_isTangle 26 = .ok (.aload_n 0, 1) := dk_42 (dk_at dksX0_isTangle_1 2 rfl rfl)
theorem dX0_isTangle_27 : decode cX0_isTangle 27 = .ok (.getfield 40, 3) := dk_180 0 40 (dk_at dksX0_isTangle_1 3 rfl rfl)
theorem dX0_isTangle_30 : decode cX0_isTangle 30 = .ok (.iload_n 2, 1) := dk_28 (dk_at dksX0_isTangle_1 6 rfl rfl)
theorem dX0_isTangle_31 : decode cX0_isTangle 31 = .ok (.invokevirtual 262, 3) := dk_182 1 6 (dk_at dksX0_isTangle_1 7 rfl rfl)
theorem dX0_isTangle_34 : decode cX0_isTangle 34 = .ok (.iconst (-1), 1) := dk_2 (dk_at dksX0_isTangle_1 10 rfl rfl)
theorem dX0_isTangle_35 : decode cX0_isTangle 35 = .ok (.ixor, 1) := dk_130 (dk_at dksX0_isTangle_1 11 rfl rfl)
theorem dX0_isTangle_36 : decode cX0_isTangle 36 = .ok (.iand, 1) := dk_126 (dk_at dksX0_isTangle_1 12 rfl rfl)
theorem dX0_isTangle_37 : decode cX0_isTangle 37 = .ok (.ifCond .eq 5, 3) := dk_153 0 5 (dk_at dksX0_isTangle_1 13 rfl rfl)
theorem dX0_isTangle_40 : decode cX0_isTangle 40 = .ok (.iconst 0, 1) := dk_3 (dk_at dksX0_isTangle_1 16 rfl rfl)
theorem dX0_isTangle_41 : decode cX0_isTangle 41 = .ok (.ireturn, 1) := dk_172 (dk_at dksX0_isTangle_1 17 rfl rfl)
theorem dX0_isTangle_42 : decode cX0_isTangle 42 = .ok (.iinc 2 1, 3) := dk_132 2 1 (dk_at dksX0_isTangle_1 18 rfl rfl)
theorem dX0_isTangle_45 : decode cX0_isTangle 45 = .ok (.goto (-43), 3) := dk_167 255 213 (dk_at dksX0_isTangle_1 21 rfl rfl)
theorem dX0_isTangle_48 : decode cX0_isTangle 48 = .ok (.iload_n 1, 1) := dk_27 (dk_at dksX0_isTangle_2 0 rfl rfl)
theorem dX0_isTangle_49 : decode cX0_isTangle 49 = .ok (.aload_n 0, 1) := dk_42 (dk_at dksX0_isTangle_2 1 rfl rfl)
theorem dX0_isTangle_50 : decode cX0_isTangle 50 = .ok (.getfield 51, 3) := dk_180 0 51 (dk_at dksX0_isTangle_2 2 rfl rfl)
theorem dX0_isTangle_53 : decode cX0_isTangle 53 = .ok (.getfield 265, 3) := dk_180 1 9 (dk_at dksX0_isTangle_2 5 rfl rfl)
theorem dX0_isTangle_56 : decode cX0_isTangle 56 = .ok (.iand, 1) := dk_126 (dk_at dksX0_isTangle_2 8 rfl rfl)
theorem dX0_isTangle_57 : decode cX0_isTangle 57 = .ok (.ifCond .ne 7, 3) := dk_154 0 7 (dk_at dksX0_isTangle_2 9 rfl rfl)
theorem dX0_isTangle_60 : decode cX0_isTangle 60 = .ok (.iconst 1, 1) := dk_4 (dk_at dksX0_isTangle_2 12 rfl rfl)
theorem dX0_isTangle_61 : decode cX0_isTangle 61 = .ok (.goto 4, 3) := dk_167 0 4 (dk_at dksX0_isTangle_2 13 rfl rfl)
theorem dX0_isTangle_64 : decode cX0_isTangle 64 = .ok (.iconst 0, 1) := dk_3 (dk_at dksX0_isTangle_2 16 rfl rfl)
theorem dX0_isTangle_65 : decode cX0_isTangle 65 = .ok (.ireturn, 1) := dk_172 (dk_at dksX0_isTangle_2 17 rfl rfl)
abbrev cX0_fitting : ByteArray := prog_1_method_42_code
def yX0_fitting : MethodName := ⟨RX0, "fitting", "(I)I"⟩
def dkwX0_fitting_2 : List UInt8 := [120, 167, 0, 4, 3, 128, 61, 132, 3, 1, 167, 255, 212, 28, 172]
abbrev dktX0_fitting_2 : List UInt8 := dkwX0_fitting_2 ++ []
def dkwX0_fitting_1 : List UInt8 := [180, 0, 51, 29, 182, 0, 157, 154, 0, 21, 42, 180, 0, 40, 27, 29, 182, 1, 15, 153, 0, 9, 4, 29]
abbrev dktX0_fitting_1 : List UInt8 := dkwX0_fitting_1 ++ dktX0_fitting_2
def dkwX0_fitting_0 : List UInt8 := [42, 27, 182, 0, 185, 154, 0, 5, 2, 172, 3, 61, 3, 62, 29, 42, 182, 0, 145, 162, 0, 42, 28, 42]
abbrev dktX0_fitting_0 : List UInt8 := dkwX0_fitting_0 ++ dktX0_fitting_1
theorem dksX0_fitting_0 : cX0_fitting.data.toList.drop 0 = dktX0_fitting_0 := by decide +kernel
theorem dksX0_fitting_1 : cX0_fitting.data.toList.drop 24 = dktX0_fitting_1 := dk_seg dksX0_fitting_0 24 rfl rfl
theorem dksX0_fitting_2 : cX0_fitting.data.toList.drop 48 = dktX0_fitting_2 := dk_seg dksX0_fitting_1 24 rfl rfl
theorem dX0_fitting_0 : decode cX0_fitting 0 = .ok (.aload_n 0, 1) := dk_42 (dk_at dksX0_fitting_0 0 rfl rfl)
theorem dX0_fitting_1 : decode cX0_fitting 1 = .ok (.iload_n 1, 1) := dk_27 (dk_at dksX0_fitting_0 1 rfl rfl)
theorem dX0_fitting_2 : decode cX0_fitting 2 = .ok (.invokevirtual 185, 3) := dk_182 0 185 (dk_at dksX0_fitting_0 2 rfl rfl)
theorem dX0_fitting_5 : decode cX0_fitting 5 = .ok (.ifCond .ne 5, 3) := dk_154 0 5 (dk_at dksX0_fitting_0 5 rfl rfl)
theorem dX0_fitting_8 : decode cX0_fitting 8 = .ok (.iconst (-1), 1) := dk_2 (dk_at dksX0_fitting_0 8 rfl rfl)
theorem dX0_fitting_9 : decode cX0_fitting 9 = .ok (.ireturn, 1) := dk_172 (dk_at dksX0_fitting_0 9 rfl rfl)
theorem dX0_fitting_10 : decode cX0_fitting 10 = .ok (.iconst 0, 1) := dk_3 (dk_at dksX0_fitting_0 10 rfl rfl)
theorem dX0_fitting_11 : decode cX0_fitting 11 = .ok (.istore_n 2, 1) := dk_61 (dk_at dksX0_fitting_0 11 rfl rfl)
theorem dX0_fitting_12 : decode cX0_fitting 12 = .ok (.iconst 0, 1) := dk_3 (dk_at dksX0_fitting_0 12 rfl rfl)
theorem dX0_fitting_13 : decode cX0_fitting 13 = .ok (.istore_n 3, 1) := dk_62 (dk_at dksX0_fitting_0 13 rfl rfl)
theorem dX0_fitting_14 : decode cX0_fitting 14 = .ok (.iload_n 3, 1) := dk_29 (dk_at dksX0_fitting_0 14 rfl rfl)
theorem dX0_fitting_15 : decode cX0_fitting 15 = .ok (.aload_n 0, 1) := dk_42 (dk_at dksX0_fitting_0 15 rfl rfl)
theorem dX0_fitting_16 : decode cX0_fitting 16 = .ok (.invokevirtual 145, 3) := dk_182 0 145 (dk_at dksX0_fitting_0 16 rfl rfl)
theorem dX0_fitting_19 : decode cX0_fitting 19 = .ok (.if_icmp .ge 42, 3) := dk_162 0 42 (dk_at dksX0_fitting_0 19 rfl rfl)
theorem dX0_fitting_22 : decode cX0_fitting 22 = .ok (.iload_n 2, 1) := dk_28 (dk_at dksX0_fitting_0 22 rfl rfl)
theorem dX0_fitting_23 : decode cX0_fitting 23 = .ok (.aload_n 0, 1) := dk_42 (dk_at dksX0_fitting_0 23 rfl rfl)
theorem dX0_fitting_24 : decode cX0_fitting 24 = .ok (.getfield 51, 3) := dk_180 0 51 (dk_at dksX0_fitting_1 0 rfl rfl)
theorem dX0_fitting_27 : decode cX0_fitting 27 = .ok (.iload_n 3, 1) := dk_29 (dk_at dksX0_fitting_1 3 rfl rfl)
theorem dX0_fitting_28 : decode cX0_fitting 28 = .ok (.invokevirtual 157, 3) := dk_182 0 157 (dk_at dksX0_fitting_1 4 rfl rfl)
theorem dX0_fitting_31 : decode cX0_fitting 31 = .ok (.ifCond .ne 21, 3) := dk_154 0 21 (dk_at dksX0_fitting_1 7 rfl rfl)
theorem dX0_fitting_34 : decode cX0_fitting 34 = .ok (.aload_n 0, 1) := dk_42 (dk_at dksX0_fitting_1 10 rfl rfl)
theorem dX0_fitting_35 : decode cX0_fitting 35 = .ok (.getfield 40, 3) := dk_180 0 40 (dk_at dksX0_fitting_1 11 rfl rfl)
theorem dX0_fitting_38 : decode cX0_fitting 38 = .ok (.iload_n 1, 1) := dk_27 (dk_at dksX0_fitting_1 14 rfl rfl)
theorem dX0_fitting_39 : decode cX0_fitting 39 = .ok (.iload_n 3, 1) := dk_29 (dk_at dksX0_fitting_1 15 rfl rfl)
theorem dX0_fitting_40 : decode cX0_fitting 40 = .ok (.invokevirtual 271, 3) := dk_182 1 15 (dk_at dksX0_fitting_1 16 rfl rfl)
theorem dX0_fitting_43 : decode cX0_fitting 43 = .ok (.ifCond .eq 9, 3) := dk_153 0 9 (dk_at dksX0_fitting_1 19 rfl rfl)
theorem dX0_fitting_46 : decode cX0_fitting 46 = .ok (.iconst 1, 1) := dk_4 (dk_at dksX0_fitting_1 22 rfl rfl)
theorem dX0_fitting_47 : decode cX0_fitting 47 = .ok (.iload_n 3, 1) := dk_29 (dk_at dksX0_fitting_1 23 rfl rfl)
theorem dX0_fitting_48 : decode cX0_fitting 48 = .ok (.ishl, 1) := dk_120 (dk_at dksX0_fitting_2 0 rfl rfl)
theorem dX0_fitting_49 : decode cX0_fitting 49 = .ok (.goto 4, 3) := dk_167 0 4 (dk_at dksX0_fitting_2 1 rfl rfl)
theorem dX0_fitting_52 : decode cX0_fitting 52 = .ok (.iconst 0, 1) := dk_3 (dk_at dksX0_fitting_2 4 rfl rfl)
theorem dX0_fitting_53 : decode cX0_fitting 53 = .ok (.ior, 1) := dk_128 (dk_at dksX0_fitting_2 5 rfl rfl)
theorem dX0_fitting_54 : decode cX0_fitting 54 = .ok (.istore_n 2, 1) := dk_61 (dk_at dksX0_fitting_2 6 rfl rfl)
theorem dX0_fitting_55 : decode cX0_fitting 55 = .ok (.iinc 3 1, 3) := dk_132 3 1 (dk_at dksX0_fitting_2 7 rfl rfl)
theorem dX0_fitting_58 : decode cX0_fitting 58 = .ok (.goto (-44), 3) := dk_167 255 212 (dk_at dksX0_fitting_2 10 rfl rfl)
theorem dX0_fitting_61 : decode cX0_fitting 61 = .ok (.iload_n 2, 1) := dk_28 (dk_at dksX0_fitting_2 13 rfl rfl)
theorem dX0_fitting_62 : decode cX0_fitting 62 = .ok (.ireturn, 1) := dk_172 (dk_at dksX0_fitting_2 14 rfl rfl)
abbrev cX0_row : ByteArray := prog_1_method_43_code
def yX0_row : MethodName := ⟨RX0, "row", "(II)I"⟩
def dkwX0_row_3 : List UInt8 := [167, 255, 208, 2, 172]
abbrev dktX0_row_3 : List UInt8 := dkwX0_row_3 ++ []
def dkwX0_row_2 : List UInt8 := [160, 0, 6, 167, 0, 18, 21, 4, 28, 160, 0, 6, 21, 6, 172, 21, 6, 62, 132, 4, 1, 132, 5, 1]
abbrev dktX0_row_2 : List UInt8 := dkwX0_row_2 ++ dktX0_row_3
def dkwX0_row_1 : List UInt8 := [16, 24, 162, 0, 47, 42, 27, 21, 5, 182, 0, 215, 54, 6, 21, 6, 155, 0, 27, 21, 6, 29]
abbrev dktX0_row_1 : List UInt8 := dkwX0_row_1 ++ dktX0_row_2
def dkwX0_row_0 : List UInt8 := [42, 27, 182, 0, 153, 153, 0, 7, 28, 156, 0, 5, 2, 172, 2, 62, 3, 54, 4, 3, 54, 5, 21, 5]
abbrev dktX0_row_0 : List UInt8 := dkwX0_row_0 ++ dktX0_row_1
theorem dksX0_row_0 : cX0_row.data.toList.drop 0 = dktX0_row_0 := by decide +kernel
theorem dksX0_row_1 : cX0_row.data.toList.drop 24 = dktX0_row_1 := dk_seg dksX0_row_0 24 rfl rfl
theorem dksX0_row_2 : cX0_row.data.toList.drop 46 = dktX0_row_2 := dk_seg dksX0_row_1 22 rfl rfl
theorem dksX0_row_3 : cX0_row.data.toList.drop 70 = dktX0_row_3 := dk_seg dksX0_row_2 24 rfl rfl
theorem dX0_row_0 : decode cX0_row 0 = .ok (.aload_n 0, 1) := dk_42 (dk_at dksX0_row_0 0 rfl rfl)
theorem dX0_row_1 : decode cX0_row 1 = .ok (.iload_n 1, 1) := dk_27 (dk_at dksX0_row_0 1 rfl rfl)
theorem dX0_row_2 : decode cX0_row 2 = .ok (.invokevirtual 153, 3) := dk_182 0 153 (dk_at dksX0_row_0 2 rfl rfl)
theorem dX0_row_5 : decode cX0_row 5 = .ok (.ifCond .eq 7, 3) := dk_153 0 7 (dk_at dksX0_row_0 5 rfl rfl)
theorem dX0_row_8 : decode cX0_row 8 = .ok (.iload_n 2, 1) := dk_28 (dk_at dksX0_row_0 8 rfl rfl)
theorem dX0_row_9 : decode cX0_row 9 = .ok (.ifCond .ge 5, 3) := dk_156 0 5 (dk_at dksX0_row_0 9 rfl rfl)
theorem dX0_row_12 : decode cX0_row 12 = .ok (.iconst (-1), 1) := dk_2 (dk_at dksX0_row_0 12 rfl rfl)
theorem dX0_row_13 : decode cX0_row 13 = .ok (.ireturn, 1) := dk_172 (dk_at dksX0_row_0 13 rfl rfl)
theorem dX0_row_14 : decode cX0_row 14 = .ok (.iconst (-1), 1) := dk_2 (dk_at dksX0_row_0 14 rfl rfl)
theorem dX0_row_15 : decode cX0_row 15 = .ok (.istore_n 3, 1) := dk_62 (dk_at dksX0_row_0 15 rfl rfl)
theorem dX0_row_16 : decode cX0_row 16 = .ok (.iconst 0, 1) := dk_3 (dk_at dksX0_row_0 16 rfl rfl)
theorem dX0_row_17 : decode cX0_row 17 = .ok (.istore 4, 2) := dk_54 4 (dk_at dksX0_row_0 17 rfl rfl)
theorem dX0_row_19 : decode cX0_row 19 = .ok (.iconst 0, 1) := dk_3 (dk_at dksX0_row_0 19 rfl rfl)
theorem dX0_row_20 : decode cX0_row 20 = .ok (.istore 5, 2) := dk_54 5 (dk_at dksX0_row_0 20 rfl rfl)
theorem dX0_row_22 : decode cX0_row 22 = .ok (.iload 5, 2) := dk_21 5 (dk_at dksX0_row_0 22 rfl rfl)
theorem dX0_row_24 : decode cX0_row 24 = .ok (.bipush 24, 2) := dk_16 24 (dk_at dksX0_row_1 0 rfl rfl)
theorem dX0_row_26 : decode cX0_row 26 = .ok (.if_icmp .ge 47, 3) := dk_162 0 47 (dk_at dksX0_row_1 2 rfl rfl)
theorem dX0_row_29 : decode cX0_row 29 = .ok (.aload_n 0, 1) := dk_42 (dk_at dksX0_row_1 5 rfl rfl)
theorem dX0_row_30 : decode cX0_row 30 = .ok (.iload_n 1, 1) := dk_27 (dk_at dksX0_row_1 6 rfl rfl)
theorem dX0_row_31 : decode cX0_row 31 = .ok (.iload 5, 2) := dk_21 5 (dk_at dksX0_row_1 7 rfl rfl)
theorem dX0_row_33 : decode cX0_row 33 = .ok (.invokevirtual 215, 3) := dk_182 0 215 (dk_at dksX0_row_1 9 rfl rfl)
theorem dX0_row_36 : decode cX0_row 36 = .ok (.istore 6, 2) := dk_54 6 (dk_at dksX0_row_1 12 rfl rfl)
theorem dX0_row_38 : decode cX0_row 38 = .ok (.iload 6, 2) := dk_21 6 (dk_at dksX0_row_1 14 rfl rfl)
theorem dX0_row_40 : decode cX0_row 40 = .ok (.ifCond .lt 27, 3) := dk_155 0 27 (dk_at dksX0_row_1 16 rfl rfl)
theorem dX0_row_43 : decode cX0_row 43 = .ok (.iload 6, 2) := dk_21 6 (dk_at dksX0_row_1 19 rfl rfl)
theorem dX0_row_45 : decode cX0_row 45 = .ok (.iload_n 3, 1) := dk_29 (dk_at dksX0_row_1 21 rfl rfl)
theorem dX0_row_46 : decode cX0_row 46 = .ok (.if_icmp .ne 6, 3) := dk_160 0 6 (dk_at dksX0_row_2 0 rfl rfl)
theorem dX0_row_49 : decode cX0_row 49 = .ok (.goto 18, 3) := dk_167 0 18 (dk_at dksX0_row_2 3 rfl rfl)
theorem dX0_row_52 : decode cX0_row 52 = .ok (.iload 4, 2) := dk_21 4 (dk_at dksX0_row_2 6 rfl rfl)
theorem dX0_row_54 : decode cX0_row 54 = .ok (.iload_n 2, 1) := dk_28 (dk_at dksX0_row_2 8 rfl rfl)
theorem dX0_row_55 : decode cX0_row 55 = .ok (.if_icmp .ne 6, 3) := dk_160 0 6 (dk_at dksX0_row_2 9 rfl rfl)
theorem dX0_row_58 : decode cX0_row 58 = .ok (.iload 6, 2) := dk_21 6 (dk_at dksX0_row_2 12 rfl rfl)
theorem dX0_row_60 : decode cX0_row 60 = .ok (.ireturn, 1) := dk_172 (dk_at dksX0_row_2 14 rfl rfl)
theorem dX0_row_61 : decode cX0_row 61 = .ok (.iload 6, 2) := dk_21 6 (dk_at dksX0_row_2 15 rfl rfl)
theorem dX0_row_63 : decode cX0_row 63 = .ok (.istore_n 3, 1) := dk_62 (dk_at dksX0_row_2 17 rfl rfl)
theorem dX0_row_64 : decode cX0_row 64 = .ok (.iinc 4 1, 3) := dk_132 4 1 (dk_at dksX0_row_2 18 rfl rfl)
theorem dX0_row_67 : decode cX0_row 67 = .ok (.iinc 5 1, 3) := dk_132 5 1 (dk_at dksX0_row_2 21 rfl rfl)
theorem dX0_row_70 : decode cX0_row 70 = .ok (.goto (-48), 3) := dk_167 255 208 (dk_at dksX0_row_3 0 rfl rfl)
theorem dX0_row_73 : decode cX0_row 73 = .ok (.iconst (-1), 1) := dk_2 (dk_at dksX0_row_3 3 rfl rfl)
theorem dX0_row_74 : decode cX0_row 74 = .ok (.ireturn, 1) := dk_172 (dk_at dksX0_row_3 4 rfl rfl)
abbrev cX0_change : ByteArray := prog_1_method_44_code
def yX0_change : MethodName := ⟨RX0, "change", "(II)I"⟩
def dkwX0_change_6 : List UInt8 := [4, 160, 0, 7, 4, 167, 0, 4, 3, 172]
abbrev dktX0_change_6 : List UInt8 := dkwX0_change_6 ++ []
def dkwX0_change_5 : List UInt8 := [180, 0, 55, 42, 180, 0, 40, 28, 182, 0, 230, 42, 180, 0, 51, 180, 0, 197, 27, 46, 122, 126, 4, 126]
abbrev dktX0_change_5 : List UInt8 := dkwX0_change_5 ++ dktX0_change_6
def dkwX0_change_4 : List UInt8 := [79, 42, 180, 0, 55, 42, 180, 0, 40, 27, 182, 0, 230, 42, 180, 0, 51, 180, 0, 197, 28, 46, 122, 42]
abbrev dktX0_change_4 : List UInt8 := dkwX0_change_4 ++ dktX0_change_5
def dkwX0_change_3 : List UInt8 := [182, 0, 221, 42, 180, 0, 55, 180, 0, 197, 27, 16, 254, 79, 42, 180, 0, 55, 180, 0, 197, 28, 16, 254]
abbrev dktX0_change_3 : List UInt8 := dkwX0_change_3 ++ dktX0_change_4
def dkwX0_change_2 : List UInt8 := [46, 42, 180, 0, 51, 180, 0, 197, 28, 46, 160, 0, 5, 2, 172, 42, 180, 0, 55, 42, 180, 0, 51]
abbrev dktX0_change_2 : List UInt8 := dkwX0_change_2 ++ dktX0_change_3
def dkwX0_change_1 : List UInt8 := [46, 155, 0, 36, 42, 180, 0, 51, 180, 0, 197, 28, 46, 155, 0, 24, 42, 180, 0, 51, 180, 0, 197, 27]
abbrev dktX0_change_1 : List UInt8 := dkwX0_change_1 ++ dktX0_change_2
def dkwX0_change_0 : List UInt8 := [42, 27, 182, 0, 185, 153, 0, 56, 42, 28, 182, 0, 185, 153, 0, 48, 42, 180, 0, 51, 180, 0, 197, 27]
abbrev dktX0_change_0 : List UInt8 := dkwX0_change_0 ++ dktX0_change_1
theorem dksX0_change_0 : cX0_change.data.toList.drop 0 = dktX0_change_0 := by decide +kernel
theorem dksX0_change_1 : cX0_change.data.toList.drop 24 = dktX0_change_1 := dk_seg dksX0_change_0 24 rfl rfl
theorem dksX0_change_2 : cX0_change.data.toList.drop 48 = dktX0_change_2 := dk_seg dksX0_change_1 24 rfl rfl
theorem dksX0_change_3 : cX0_change.data.toList.drop 71 = dktX0_change_3 := dk_seg dksX0_change_2 23 rfl rfl
theorem dksX0_change_4 : cX0_change.data.toList.drop 95 = dktX0_change_4 := dk_seg dksX0_change_3 24 rfl rfl
theorem dksX0_change_5 : cX0_change.data.toList.drop 119 = dktX0_change_5 := dk_seg dksX0_change_4 24 rfl rfl
theorem dksX0_change_6 : cX0_change.data.toList.drop 143 = dktX0_change_6 := dk_seg dksX0_change_5 24 rfl rfl
theorem dX0_change_0 : decode cX0_change 0 = .ok (.aload_n 0, 1) := dk_42 (dk_at dksX0_change_0 0 rfl rfl)
theorem dX0_change_1 : decode cX0_change 1 = .ok (.iload_n 1, 1) := dk_27 (dk_at dksX0_change_0 1 rfl rfl)
theorem dX0_change_2 : decode cX0_change 2 = .ok (.invokevirtual 185, 3) := dk_182 0 185 (dk_at dksX0_change_0 2 rfl rfl)
theorem dX0_change_5 : decode cX0_change 5 = .ok (.ifCond .eq 56, 3) := dk_153 0 56 (dk_at dksX0_change_0 5 rfl rfl)
theorem dX0_change_8 : decode cX0_change 8 = .ok (.aload_n 0, 1) := dk_42 (dk_at dksX0_change_0 8 rfl rfl)
theorem dX0_change_9 : decode cX0_change 9 = .ok (.iload_n 2, 1) := dk_28 (dk_at dksX0_change_0 9 rfl rfl)
theorem dX0_change_10 : decode cX0_change 10 = .ok (.invokevirtual 185, 3) := dk_182 0 185 (dk_at dksX0_change_0 10 rfl rfl)
theorem dX0_change_13 : decode cX0_change 13 = .ok (.ifCond .eq 48, 3) := dk_153 0 48 (dk_at dksX0_change_0 13 rfl rfl)
theorem dX0_change_16 : decode cX0_change 16 = .ok (.aload_n 0, 1) := dk_42 (dk_at dksX0_change_0 16 rfl rfl)
theorem dX0_change_17 : decode cX0_change 17 = .ok (.getfield 51, 3) := dk_180 0 51 (dk_at dksX0_change_0 17 rfl rfl)
theorem dX0_change_20 : decode cX0_change 20 = .ok (.getfield 197, 3) := dk_180 0 197 (dk_at dksX0_change_0 20 rfl rfl)
theorem dX0_change_23 : decode cX0_change 23 = .ok (.iload_n 1, 1) := dk_27 (dk_at dksX0_change_0 23 rfl rfl)
theorem dX0_change_24 : decode cX0_change 24 = .ok (.iaload, 1) := dk_46 (dk_at dksX0_change_1 0 rfl rfl)
theorem dX0_change_25 : decode cX0_change 25 = .ok (.ifCond .lt 36, 3) := dk_155 0 36 (dk_at dksX0_change_1 1 rfl rfl)
theorem dX0_change_28 : decode cX0_change 28 = .ok (.aload_n 0, 1) := dk_42 (dk_at dksX0_change_1 4 rfl rfl)
theorem dX0_change_29 : decode cX0_change 29 = .ok (.getfield 51, 3) := dk_180 0 51 (dk_at dksX0_change_1 5 rfl rfl)
theorem dX0_change_32 : decode cX0_change 32 = .ok (.getfield 197, 3) := dk_180 0 197 (dk_at dksX0_change_1 8 rfl rfl)
theorem dX0_change_35 : decode cX0_change 35 = .ok (.iload_n 2, 1) := dk_28 (dk_at dksX0_change_1 11 rfl rfl)
theorem dX0_change_36 : decode cX0_change 36 = .ok (.iaload, 1) := dk_46 (dk_at dksX0_change_1 12 rfl rfl)
theorem dX0_change_37 : decode cX0_change 37 = .ok (.ifCond .lt 24, 3) := dk_155 0 24 (dk_at dksX0_change_1 13 rfl rfl)
theorem dX0_change_40 : decode cX0_change 40 = .ok (.aload_n 0, 1) := dk_42 (dk_at dksX0_change_1 16 rfl rfl)
theorem dX0_change_41 : decode cX0_change 41 = .ok (.getfield 51, 3) := dk_180 0 51 (dk_at dksX0_change_1 17 rfl rfl)
theorem dX0_change_44 : decode cX0_change 44 = .ok (.getfield 197, 3) := dk_180 0 197 (dk_at dksX0_change_1 20 rfl rfl)
theorem dX0_change_47 : decode cX0_change 47 = .ok (.iload_n 1, 1) := dk_27 (dk_at dksX0_change_1 23 rfl rfl)
theorem dX0_change_48 : decode cX0_change 48 = .ok (.iaload, 1) := dk_46 (dk_at dksX0_change_2 0 rfl rfl)
theorem dX0_change_49 : decode cX0_change 49 = .ok (.aload_n 0, 1) := dk_42 (dk_at dksX0_change_2 1 rfl rfl)
theorem dX0_change_50 : decode cX0_change 50 = .ok (.getfield 51, 3) := dk_180 0 51 (dk_at dksX0_change_2 2 rfl rfl)
theorem dX0_change_53 : decode cX0_change 53 = .ok (.getfield 197, 3) := dk_180 0 197 (dk_at dksX0_change_2 5 rfl rfl)
theorem dX0_change_56 : decode cX0_change 56 = .ok (.iload_n 2, 1) := dk_28 (dk_at dksX0_change_2 8 rfl rfl)
theorem dX0_change_57 : decode cX0_change 57 = .ok (.iaload, 1) := dk_46 (dk_at dksX0_change_2 9 rfl rfl)
theorem dX0_change_58 : decode cX0_change 58 = .ok (.if_icmp .ne 5, 3) := dk_160 0 5 (dk_at dksX0_change_2 10 rfl rfl)
theorem dX0_change_61 : decode cX0_change 61 = .ok (.iconst (-1), 1) := dk_2 (dk_at dksX0_change_2 13 rfl rfl)
theorem dX0_change_62 : decode cX0_change 62 = .ok (.ireturn, 1) := dk_172 (dk_at dksX0_change_2 14 rfl rfl)
theorem dX0_change_63 : decode cX0_change 63 = .ok (.aload_n 0, 1) := dk_42 (dk_at dksX0_change_2 15 rfl rfl)
theorem dX0_change_64 : decode cX0_change 64 = .ok (.getfield 55, 3) := dk_180 0 55 (dk_at dksX0_change_2 16 rfl rfl)
theorem dX0_change_67 : decode cX0_change 67 = .ok (.aload_n 0, 1) := dk_42 (dk_at dksX0_change_2 19 rfl rfl)
theorem dX0_change_68 : decode cX0_change 68 = .ok (.getfield 51, 3) := dk_180 0 51 (dk_at dksX0_change_2 20 rfl rfl)
theorem dX0_change_71 : decode cX0_change 71 = .ok (.invokevirtual 221, 3) := dk_182 0 221 (dk_at dksX0_change_3 0 rfl rfl)
theorem dX0_change_74 : decode cX0_change 74 = .ok (.aload_n 0, 1) := dk_42 (dk_at dksX0_change_3 3 rfl rfl)
theorem dX0_change_75 : decode cX0_change 75 = .ok (.getfield 55, 3) := dk_180 0 55 (dk_at dksX0_change_3 4 rfl rfl)
theorem dX0_change_78 : decode cX0_change 78 = .ok (.getfield 197, 3) := dk_180 0 197 (dk_at dksX0_change_3 7 rfl rfl)
theorem dX0_change_81 : decode cX0_change 81 = .ok (.iload_n 1, 1) := dk_27 (dk_at dksX0_change_3 10 rfl rfl)
theorem dX0_change_82 : decode cX0_change 82 = .ok (.bipush (-2), 2) := dk_16 254 (dk_at dksX0_change_3 11 rfl rfl)
theorem dX0_change_84 : decode cX0_change 84 = .ok (.iastore, 1) := dk_79 (dk_at dksX0_change_3 13 rfl rfl)
theorem dX0_change_85 : decode cX0_change 85 = .ok (.aload_n 0, 1) := dk_42 (dk_at dksX0_change_3 14 rfl rfl)
theorem dX0_change_86 : decode cX0_change 86 = .ok (.getfield 55, 3) := dk_180 0 55 (dk_at dksX0_change_3 15 rfl rfl)
theorem dX0_change_89 : decode cX0_change 89 = .ok (.getfield 197, 3) := dk_180 0 197 (dk_at dksX0_change_3 18 rfl rfl)
theorem dX0_change_92 : decode cX0_change 92 = .ok (.iload_n 2, 1) := dk_28 (dk_at dksX0_change_3 21 rfl rfl)
theorem dX0_change_93 : decode cX0_change 93 = .ok (.bipush (-2), 2) := dk_16 254 (dk_at dksX0_change_3 22 rfl rfl)
theorem dX0_change_95 : decode cX0_change 95 = .ok (.iastore, 1) := dk_79 (dk_at dksX0_change_4 0 rfl rfl)
theorem dX0_change_96 : decode cX0_change 96 = .ok (.aload_n 0, 1) := dk_42 (dk_at dksX0_change_4 1 rfl rfl)
theorem dX0_change_97 : decode cX0_change 97 = .ok (.getfield 55, 3) := dk_180 0 55 (dk_at dksX0_change_4 2 rfl rfl)
theorem dX0_change_100 : decode cX0_change 100 = .ok (.aload_n 0, 1) := dk_42 (dk_at dksX0_change_4 5 rfl rfl)
theorem dX0_change_101 : decode cX0_change 101 = .ok (.getfield 40, 3) := dk_180 0 40 (dk_at dksX0_change_4 6 rfl rfl)
theorem dX0_change_104 : decode cX0_change 104 = .ok (.iload_n 1, 1) := dk_27 (dk_at dksX0_change_4 9 rfl rfl)
theorem dX0_change_105 : decode cX0_change 105 = .ok (.invokevirtual 230, 3) := dk_182 0 230 (dk_at dksX0_change_4 10 rfl rfl)
theorem dX0_change_108 : decode cX0_change 108 = .ok (.aload_n 0, 1) := dk_42 (dk_at dksX0_change_4 13 rfl rfl)
theorem dX0_change_109 : decode cX0_change 109 = .ok (.getfield 51, 3) := dk_180 0 51 (dk_at dksX0_change_4 14 rfl rfl)
theorem dX0_change_112 : decode cX0_change 112 = .ok (.getfield 197, 3) := dk_180 0 197 (dk_at dksX0_change_4 17 rfl rfl)
theorem dX0_change_115 : decode cX0_change 115 = .ok (.iload_n 2, 1) := dk_28 (dk_at dksX0_change_4 20 rfl rfl)
theorem dX0_change_116 : decode cX0_change 116 = .ok (.iaload, 1) := dk_46 (dk_at dksX0_change_4 21 rfl rfl)
theorem dX0_change_117 : decode cX0_change 117 = .ok (.ishr, 1) := dk_122 (dk_at dksX0_change_4 22 rfl rfl)
theorem dX0_change_118 : decode cX0_change 118 = .ok (.aload_n 0, 1) := dk_42 (dk_at dksX0_change_4 23 rfl rfl)
theorem dX0_change_119 : decode cX0_change 119 = .ok (.getfield 55, 3) := dk_180 0 55 (dk_at dksX0_change_5 0 rfl rfl)
theorem dX0_change_122 : decode cX0_change 122 = .ok (.aload_n 0, 1) := dk_42 (dk_at dksX0_change_5 3 rfl rfl)
theorem dX0_change_123 : decode cX0_change 123 = .ok (.getfield 40, 3) := dk_180 0 40 (dk_at dksX0_change_5 4 rfl rfl)
theorem dX0_change_126 : decode cX0_change 126 = .ok (.iload_n 2, 1) := dk_28 (dk_at dksX0_change_5 7 rfl rfl)
theorem dX0_change_127 : decode cX0_change 127 = .ok (.invokevirtual 230, 3) := dk_182 0 230 (dk_at dksX0_change_5 8 rfl rfl)
theorem dX0_change_130 : decode cX0_change 130 = .ok (.aload_n 0, 1) := dk_42 (dk_at dksX0_change_5 11 rfl rfl)
theorem dX0_change_131 : decode cX0_change 131 = .ok (.getfield 51, 3) := dk_180 0 51 (dk_at dksX0_change_5 12 rfl rfl)
theorem dX0_change_134 : decode cX0_change 134 = .ok (.getfield 197, 3) := dk_180 0 197 (dk_at dksX0_change_5 15 rfl rfl)
theorem dX0_change_137 : decode cX0_change 137 = .ok (.iload_n 1, 1) := dk_27 (dk_at dksX0_change_5 18 rfl rfl)
theorem dX0_change_138 : decode cX0_change 138 = .ok (.iaload, 1) := dk_46 (dk_at dksX0_change_5 19 rfl rfl)
theorem dX0_change_139 : decode cX0_change 139 = .ok (.ishr, 1) := dk_122 (dk_at dksX0_change_5 20 rfl rfl)
theorem dX0_change_140 : decode cX0_change 140 = .ok (.iand, 1) := dk_126 (dk_at dksX0_change_5 21 rfl rfl)
theorem dX0_change_141 : decode cX0_change 141 = .ok (.iconst 1, 1) := dk_4 (dk_at dksX0_change_5 22 rfl rfl)
theorem dX0_change_142 : decode cX0_change 142 = .ok (.iand, 1) := dk_126 (dk_at dksX0_change_5 23 rfl rfl)
theorem dX0_change_143 : decode cX0_change 143 = .ok (.iconst 1, 1) := dk_4 (dk_at dksX0_change_6 0 rfl rfl)
theorem dX0_change_144 : decode cX0_change 144 = .ok (.if_icmp .ne 7, 3) := dk_160 0 7 (dk_at dksX0_change_6 1 rfl rfl)
theorem dX0_change_147 : decode cX0_change 147 = .ok (.iconst 1, 1) := dk_4 (dk_at dksX0_change_6 4 rfl rfl)
theorem dX0_change_148 : decode cX0_change 148 = .ok (.goto 4, 3) := dk_167 0 4 (dk_at dksX0_change_6 5 rfl rfl)
theorem dX0_change_151 : decode cX0_change 151 = .ok (.iconst 0, 1) := dk_3 (dk_at dksX0_change_6 8 rfl rfl)
theorem dX0_change_152 : decode cX0_change 152 = .ok (.ireturn, 1) := dk_172 (dk_at dksX0_change_6 9 rfl rfl)
abbrev cX0_payer : ByteArray := prog_1_method_45_code
def yX0_payer : MethodName := ⟨RX0, "payer", "(I)I"⟩
def dkwX0_payer_4 : List UInt8 := [182, 0, 206, 172]
abbrev dktX0_payer_4 : List UInt8 := dkwX0_payer_4 ++ []
def dkwX0_payer_3 : List UInt8 := [167, 255, 200, 28, 155, 0, 7, 27, 154, 0, 7, 28, 167, 0, 15, 42, 180, 0, 51, 42, 180, 0, 40, 28]
abbrev dktX0_payer_3 : List UInt8 := dkwX0_payer_3 ++ dktX0_payer_4
def dkwX0_payer_2 : List UInt8 := [29, 182, 0, 206, 42, 180, 0, 51, 42, 180, 0, 40, 28, 182, 0, 206, 164, 0, 5, 29, 61, 132, 3, 1]
abbrev dktX0_payer_2 : List UInt8 := dkwX0_payer_2 ++ dktX0_payer_3
def dkwX0_payer_1 : List UInt8 := [42, 180, 0, 51, 180, 0, 197, 29, 46, 155, 0, 36, 28, 155, 0, 30, 42, 180, 0, 51, 42, 180, 0, 40]
abbrev dktX0_payer_1 : List UInt8 := dkwX0_payer_1 ++ dktX0_payer_2
def dkwX0_payer_0 : List UInt8 := [27, 3, 4, 184, 0, 147, 154, 0, 5, 2, 172, 16, 254, 61, 3, 62, 29, 42, 182, 0, 151, 162, 0, 54]
abbrev dktX0_payer_0 : List UInt8 := dkwX0_payer_0 ++ dktX0_payer_1
theorem dksX0_payer_0 : cX0_payer.data.toList.drop 0 = dktX0_payer_0 := by decide +kernel
theorem dksX0_payer_1 : cX0_payer.data.toList.drop 24 = dktX0_payer_1 := dk_seg dksX0_payer_0 24 rfl rfl
theorem dksX0_payer_2 : cX0_payer.data.toList.drop 48 = dktX0_payer_2 := dk_seg dksX0_payer_1 24 rfl rfl
theorem dksX0_payer_3 : cX0_payer.data.toList.drop 72 = dktX0_payer_3 := dk_seg dksX0_payer_2 24 rfl rfl
theorem dksX0_payer_4 : cX0_payer.data.toList.drop 96 = dktX0_payer_4 := dk_seg dksX0_payer_3 24 rfl rfl
theorem dX0_payer_0 : decode cX0_payer 0 = .ok (.iload_n 1, 1) := dk_27 (dk_at dksX0_payer_0 0 rfl rfl)
theorem dX0_payer_1 : decode cX0_payer 1 = .ok (.iconst 0, 1) := dk_3 (dk_at dksX0_payer_0 1 rfl rfl)
theorem dX0_payer_2 : decode cX0_payer 2 = .ok (.iconst 1, 1) := dk_4 (dk_at dksX0_payer_0 2 rfl rfl)
theorem dX0_payer_3 : decode cX0_payer 3 = .ok (.invokestatic 147, 3) := dk_184 0 147 (dk_at dksX0_payer_0 3 rfl rfl)
theorem dX0_payer_6 : decode cX0_payer 6 = .ok (.ifCond .ne 5, 3) := dk_154 0 5 (dk_at dksX0_payer_0 6 rfl rfl)
theorem dX0_payer_9 : decode cX0_payer 9 = .ok (.iconst (-1), 1) := dk_2 (dk_at dksX0_payer_0 9 rfl rfl)
theorem dX0_payer_10 : decode cX0_payer 10 = .ok (.ireturn, 1) := dk_172 (dk_at dksX0_payer_0 10 rfl rfl)
theorem dX0_payer_11 : decode cX0_payer 11 = .ok (.bipush (-2), 2) := dk_16 254 (dk_at dksX0_payer_0 11 rfl rfl)
theorem dX0_payer_13 : decode cX0_payer 13 = .ok (.istore_n 2, 1) := dk_61 (dk_at dksX0_payer_0 13 rfl rfl)
theorem dX0_payer_14 : decode cX0_payer 14 = .ok (.iconst 0, 1) := dk_3 (dk_at dksX0_payer_0 14 rfl rfl)
theorem dX0_payer_15 : decode cX0_payer 15 = .ok (.istore_n 3, 1) := dk_62 (dk_at dksX0_payer_0 15 rfl rfl)
theorem dX0_payer_16 : decode cX0_payer 16 = .ok (.iload_n 3, 1) := dk_29 (dk_at dksX0_payer_0 16 rfl rfl)
theorem dX0_payer_17 : decode cX0_payer 17 = .ok (.aload_n 0, 1) := dk_42 (dk_at dksX0_payer_0 17 rfl rfl)
theorem dX0_payer_18 : decode cX0_payer 18 = .ok (.invokevirtual 151, 3) := dk_182 0 151 (dk_at dksX0_payer_0 18 rfl rfl)
theorem dX0_payer_21 : decode cX0_payer 21 = .ok (.if_icmp .ge 54, 3) := dk_162 0 54 (dk_at dksX0_payer_0 21 rfl rfl)
theorem dX0_payer_24 : decode cX0_payer 24 = .ok (.aload_n 0, 1) := dk_42 (dk_at dksX0_payer_1 0 rfl rfl)
theorem dX0_payer_25 : decode cX0_payer 25 = .ok (.getfield 51, 3) := dk_180 0 51 (dk_at dksX0_payer_1 1 rfl rfl)
theorem dX0_payer_28 : decode cX0_payer 28 = .ok (.getfield 197, 3) := dk_180 0 197 (dk_at dksX0_payer_1 4 rfl rfl)
theorem dX0_payer_31 : decode cX0_payer 31 = .ok (.iload_n 3, 1) := dk_29 (dk_at dksX0_payer_1 7 rfl rfl)
theorem dX0_payer_32 : decode cX0_payer 32 = .ok (.iaload, 1) := dk_46 (dk_at dksX0_payer_1 8 rfl rfl)
theorem dX0_payer_33 : decode cX0_payer 33 = .ok (.ifCond .lt 36, 3) := dk_155 0 36 (dk_at dksX0_payer_1 9 rfl rfl)
theorem dX0_payer_36 : decode cX0_payer 36 = .ok (.iload_n 2, 1) := dk_28 (dk_at dksX0_payer_1 12 rfl rfl)
theorem dX0_payer_37 : decode cX0_payer 37 = .ok (.ifCond .lt 30, 3) := dk_155 0 30 (dk_at dksX0_payer_1 13 rfl rfl)
theorem dX0_payer_40 : decode cX0_payer 40 = .ok (.aload_n 0, 1) := dk_42 (dk_at dksX0_payer_1 16 rfl rfl)
theorem dX0_payer_41 : decode cX0_payer 41 = .ok (.getfield 51, 3) := dk_180 0 51 (dk_at dksX0_payer_1 17 rfl rfl)
theorem dX0_payer_44 : decode cX0_payer 44 = .ok (.aload_n 0, 1) := dk_42 (dk_at dksX0_payer_1 20 rfl rfl)
theorem dX0_payer_45 : decode cX0_payer 45 = .ok (.getfield 40, 3) := dk_180 0 40 (dk_at dksX0_payer_1 21 rfl rfl)
theorem dX0_payer_48 : decode cX0_payer 48 = .ok (.iload_n 3, 1) := dk_29 (dk_at dksX0_payer_2 0 rfl rfl)
theorem dX0_payer_49 : decode cX0_payer 49 = .ok (.invokevirtual 206, 3) := dk_182 0 206 (dk_at dksX0_payer_2 1 rfl rfl)
theorem dX0_payer_52 : decode cX0_payer 52 = .ok (.aload_n 0, 1) := dk_42 (dk_at dksX0_payer_2 4 rfl rfl)
theorem dX0_payer_53 : decode cX0_payer 53 = .ok (.getfield 51, 3) := dk_180 0 51 (dk_at dksX0_payer_2 5 rfl rfl)
theorem dX0_payer_56 : decode cX0_payer 56 = .ok (.aload_n 0, 1) := dk_42 (dk_at dksX0_payer_2 8 rfl rfl)
theorem dX0_payer_57 : decode cX0_payer 57 = .ok (.getfield 40, 3) := dk_180 0 40 (dk_at dksX0_payer_2 9 rfl rfl)
theorem dX0_payer_60 : decode cX0_payer 60 = .ok (.iload_n 2, 1) := dk_28 (dk_at dksX0_payer_2 12 rfl rfl)
theorem dX0_payer_61 : decode cX0_payer 61 = .ok (.invokevirtual 206, 3) := dk_182 0 206 (dk_at dksX0_payer_2 13 rfl rfl)
theorem dX0_payer_64 : decode cX0_payer 64 = .ok (.if_icmp .le 5, 3) := dk_164 0 5 (dk_at dksX0_payer_2 16 rfl rfl)
theorem dX0_payer_67 : decode cX0_payer 67 = .ok (.iload_n 3, 1) := dk_29 (dk_at dksX0_payer_2 19 rfl rfl)
theorem dX0_payer_68 : decode cX0_payer 68 = .ok (.istore_n 2, 1) := dk_61 (dk_at dksX0_payer_2 20 rfl rfl)
theorem dX0_payer_69 : decode cX0_payer 69 = .ok (.iinc 3 1, 3) := dk_132 3 1 (dk_at dksX0_payer_2 21 rfl rfl)
theorem dX0_payer_72 : decode cX0_payer 72 = .ok (.goto (-56), 3) := dk_167 255 200 (dk_at dksX0_payer_3 0 rfl rfl)
theorem dX0_payer_75 : decode cX0_payer 75 = .ok (.iload_n 2, 1) := dk_28 (dk_at dksX0_payer_3 3 rfl rfl)
theorem dX0_payer_76 : decode cX0_payer 76 = .ok (.ifCond .lt 7, 3) := dk_155 0 7 (dk_at dksX0_payer_3 4 rfl rfl)
theorem dX0_payer_79 : decode cX0_payer 79 = .ok (.iload_n 1, 1) := dk_27 (dk_at dksX0_payer_3 7 rfl rfl)
theorem dX0_payer_80 : decode cX0_payer 80 = .ok (.ifCond .ne 7, 3) := dk_154 0 7 (dk_at dksX0_payer_3 8 rfl rfl)
theorem dX0_payer_83 : decode cX0_payer 83 = .ok (.iload_n 2, 1) := dk_28 (dk_at dksX0_payer_3 11 rfl rfl)
theorem dX0_payer_84 : decode cX0_payer 84 = .ok (.goto 15, 3) := dk_167 0 15 (dk_at dksX0_payer_3 12 rfl rfl)
theorem dX0_payer_87 : decode cX0_payer 87 = .ok (.aload_n 0, 1) := dk_42 (dk_at dksX0_payer_3 15 rfl rfl)
theorem dX0_payer_88 : decode cX0_payer 88 = .ok (.getfield 51, 3) := dk_180 0 51 (dk_at dksX0_payer_3 16 rfl rfl)
theorem dX0_payer_91 : decode cX0_payer 91 = .ok (.aload_n 0, 1) := dk_42 (dk_at dksX0_payer_3 19 rfl rfl)
theorem dX0_payer_92 : decode cX0_payer 92 = .ok (.getfield 40, 3) := dk_180 0 40 (dk_at dksX0_payer_3 20 rfl rfl)
theorem dX0_payer_95 : decode cX0_payer 95 = .ok (.iload_n 2, 1) := dk_28 (dk_at dksX0_payer_3 23 rfl rfl)
theorem dX0_payer_96 : decode cX0_payer 96 = .ok (.invokevirtual 206, 3) := dk_182 0 206 (dk_at dksX0_payer_4 0 rfl rfl)
theorem dX0_payer_99 : decode cX0_payer 99 = .ok (.ireturn, 1) := dk_172 (dk_at dksX0_payer_4 3 rfl rfl)
abbrev cX0_idle : ByteArray := prog_1_method_46_code
def yX0_idle : MethodName := ⟨RX0, "idle", "()I"⟩
def dkwX0_idle_2 : List UInt8 := [180, 0, 51, 42, 180, 0, 40, 28, 182, 1, 53, 100, 96, 60, 132, 2, 1, 167, 255, 197, 27, 172]
abbrev dktX0_idle_2 : List UInt8 := dkwX0_idle_2 ++ []
def dkwX0_idle_1 : List UInt8 := [3, 167, 0, 33, 42, 180, 0, 40, 180, 0, 132, 28, 182, 0, 160, 192, 0, 164, 180, 0, 166, 42]
abbrev dktX0_idle_1 : List UInt8 := dkwX0_idle_1 ++ dktX0_idle_2
def dkwX0_idle_0 : List UInt8 := [3, 60, 3, 61, 28, 42, 182, 0, 145, 162, 0, 57, 27, 42, 180, 0, 51, 28, 182, 0, 157, 153, 0, 7]
abbrev dktX0_idle_0 : List UInt8 := dkwX0_idle_0 ++ dktX0_idle_1
theorem dksX0_idle_0 : cX0_idle.data.toList.drop 0 = dktX0_idle_0 := by decide +kernel
theorem dksX0_idle_1 : cX0_idle.data.toList.drop 24 = dktX0_idle_1 := dk_seg dksX0_idle_0 24 rfl rfl
theorem dksX0_idle_2 : cX0_idle.data.toList.drop 46 = dktX0_idle_2 := dk_seg dksX0_idle_1 22 rfl rfl
theorem dX0_idle_0 : decode cX0_idle 0 = .ok (.iconst 0, 1) := dk_3 (dk_at dksX0_idle_0 0 rfl rfl)
theorem dX0_idle_1 : decode cX0_idle 1 = .ok (.istore_n 1, 1) := dk_60 (dk_at dksX0_idle_0 1 rfl rfl)
theorem dX0_idle_2 : decode cX0_idle 2 = .ok (.iconst 0, 1) := dk_3 (dk_at dksX0_idle_0 2 rfl rfl)
theorem dX0_idle_3 : decode cX0_idle 3 = .ok (.istore_n 2, 1) := dk_61 (dk_at dksX0_idle_0 3 rfl rfl)
theorem dX0_idle_4 : decode cX0_idle 4 = .ok (.iload_n 2, 1) := dk_28 (dk_at dksX0_idle_0 4 rfl rfl)
theorem dX0_idle_5 : decode cX0_idle 5 = .ok (.aload_n 0, 1) := dk_42 (dk_at dksX0_idle_0 5 rfl rfl)
theorem dX0_idle_6 : decode cX0_idle 6 = .ok (.invokevirtual 145, 3) := dk_182 0 145 (dk_at dksX0_idle_0 6 rfl rfl)
theorem dX0_idle_9 : decode cX0_idle 9 = .ok (.if_icmp .ge 57, 3) := dk_162 0 57 (dk_at dksX0_idle_0 9 rfl rfl)
theorem dX0_idle_12 : decode cX0_idle 12 = .ok (.iload_n 1, 1) := dk_27 (dk_at dksX0_idle_0 12 rfl rfl)
theorem dX0_idle_13 : decode cX0_idle 13 = .ok (.aload_n 0, 1) := dk_42 (dk_at dksX0_idle_0 13 rfl rfl)
theorem dX0_idle_14 : decode cX0_idle 14 = .ok (.getfield 51, 3) := dk_180 0 51 (dk_at dksX0_idle_0 14 rfl rfl)
theorem dX0_idle_17 : decode cX0_idle 17 = .ok (.iload_n 2, 1) := dk_28 (dk_at dksX0_idle_0 17 rfl rfl)
theorem dX0_idle_18 : decode cX0_idle 18 = .ok (.invokevirtual 157, 3) := dk_182 0 157 (dk_at dksX0_idle_0 18 rfl rfl)
theorem dX0_idle_21 : decode cX0_idle 21 = .ok (.ifCond .eq 7, 3) := dk_153 0 7 (dk_at dksX0_idle_0 21 rfl rfl)
theorem dX0_idle_24 : decode cX0_idle 24 = .ok (.iconst 0, 1) := dk_3 (dk_at dksX0_idle_1 0 rfl rfl)
theorem dX0_idle_25 : decode cX0_idle 25 = .ok (.goto 33, 3) := dk_167 0 33 (dk_at dksX0_idle_1 1 rfl rfl)
theorem dX0_idle_28 : decode cX0_idle 28 = .ok (.aload_n 0, 1) := dk_42 (dk_at dksX0_idle_1 4 rfl rfl)
theorem dX0_idle_29 : decode cX0_idle 29 = .ok (.getfield 40, 3) := dk_180 0 40 (dk_at dksX0_idle_1 5 rfl rfl)
theorem dX0_idle_32 : decode cX0_idle 32 = .ok (.getfield 132, 3) := dk_180 0 132 (dk_at dksX0_idle_1 8 rfl rfl)
theorem dX0_idle_35 : decode cX0_idle 35 = .ok (.iload_n 2, 1) := dk_28 (dk_at dksX0_idle_1 11 rfl rfl)
theorem dX0_idle_36 : decode cX0_idle 36 = .ok (.invokevirtual 160, 3) := dk_182 0 160 (dk_at dksX0_idle_1 12 rfl rfl)
theorem dX0_idle_39 : decode cX0_idle 39 = .ok (.checkcast 164, 3) := dk_192 0 164 (dk_at dksX0_idle_1 15 rfl rfl)
theorem dX0_idle_42 : decode cX0_idle 42 = .ok (.getfield 166, 3) := dk_180 0 166 (dk_at dksX0_idle_1 18 rfl rfl)
theorem dX0_idle_45 : decode cX0_idle 45 = .ok (.aload_n 0, 1) := dk_42 (dk_at dksX0_idle_1 21 rfl rfl)
theorem dX0_idle_46 : decode cX0_idle 46 = .ok (.getfield 51, 3) := dk_180 0 51 (dk_at dksX0_idle_2 0 rfl rfl)
theorem dX0_idle_49 : decode cX0_idle 49 = .ok (.aload_n 0, 1) := dk_42 (dk_at dksX0_idle_2 3 rfl rfl)
theorem dX0_idle_50 : decode cX0_idle 50 = .ok (.getfield 40, 3) := dk_180 0 40 (dk_at dksX0_idle_2 4 rfl rfl)
theorem dX0_idle_53 : decode cX0_idle 53 = .ok (.iload_n 2, 1) := dk_28 (dk_at dksX0_idle_2 7 rfl rfl)
theorem dX0_idle_54 : decode cX0_idle 54 = .ok (.invokevirtual 309, 3) := dk_182 1 53 (dk_at dksX0_idle_2 8 rfl rfl)
theorem dX0_idle_57 : decode cX0_idle 57 = .ok (.isub, 1) := dk_100 (dk_at dksX0_idle_2 11 rfl rfl)
theorem dX0_idle_58 : decode cX0_idle 58 = .ok (.iadd, 1) := dk_96 (dk_at dksX0_idle_2 12 rfl rfl)
theorem dX0_idle_59 : decode cX0_idle 59 = .ok (.istore_n 1, 1) := dk_60 (dk_at dksX0_idle_2 13 rfl rfl)
theorem dX0_idle_60 : decode cX0_idle 60 = .ok (.iinc 2 1, 3) := dk_132 2 1 (dk_at dksX0_idle_2 14 rfl rfl)
theorem dX0_idle_63 : decode cX0_idle 63 = .ok (.goto (-59), 3) := dk_167 255 197 (dk_at dksX0_idle_2 17 rfl rfl)
theorem dX0_idle_66 : decode cX0_idle 66 = .ok (.iload_n 1, 1) := dk_27 (dk_at dksX0_idle_2 20 rfl rfl)
theorem dX0_idle_67 : decode cX0_idle 67 = .ok (.ireturn, 1) := dk_172 (dk_at dksX0_idle_2 21 rfl rfl)
abbrev cX0_gap : ByteArray := prog_1_method_47_code
def yX0_gap : MethodName := ⟨RX0, "gap", "(II)I"⟩
def dkwX0_gap_4 : List UInt8 := [132, 6, 1, 167, 255, 189, 28, 154, 0, 8, 21, 4, 167, 0, 4, 29, 172]
abbrev dktX0_gap_4 : List UInt8 := dkwX0_gap_4 ++ []
def dkwX0_gap_3 : List UInt8 := [54, 5, 21, 5, 21, 4, 163, 0, 6, 167, 0, 15, 21, 6, 21, 5, 100, 4, 96, 62, 21, 5, 54, 4]
abbrev dktX0_gap_3 : List UInt8 := dkwX0_gap_3 ++ dktX0_gap_4
def dkwX0_gap_2 : List UInt8 := [180, 0, 166, 162, 0, 51, 42, 27, 21, 6, 182, 0, 215, 155, 0, 7, 3, 167, 0, 7, 21, 5, 4, 96]
abbrev dktX0_gap_2 : List UInt8 := dkwX0_gap_2 ++ dktX0_gap_3
def dkwX0_gap_1 : List UInt8 := [54, 4, 3, 54, 5, 3, 54, 6, 21, 6, 42, 180, 0, 40, 180, 0, 132, 27, 182, 0, 160, 192, 0, 164]
abbrev dktX0_gap_1 : List UInt8 := dkwX0_gap_1 ++ dktX0_gap_2
def dkwX0_gap_0 : List UInt8 := [42, 27, 182, 0, 153, 153, 0, 12, 28, 3, 4, 184, 0, 147, 154, 0, 5, 2, 172, 16, 254, 62, 3]
abbrev dktX0_gap_0 : List UInt8 := dkwX0_gap_0 ++ dktX0_gap_1
theorem dksX0_gap_0 : cX0_gap.data.toList.drop 0 = dktX0_gap_0 := by decide +kernel
theorem dksX0_gap_1 : cX0_gap.data.toList.drop 23 = dktX0_gap_1 := dk_seg dksX0_gap_0 23 rfl rfl
theorem dksX0_gap_2 : cX0_gap.data.toList.drop 47 = dktX0_gap_2 := dk_seg dksX0_gap_1 24 rfl rfl
theorem dksX0_gap_3 : cX0_gap.data.toList.drop 71 = dktX0_gap_3 := dk_seg dksX0_gap_2 24 rfl rfl
theorem dksX0_gap_4 : cX0_gap.data.toList.drop 95 = dktX0_gap_4 := dk_seg dksX0_gap_3 24 rfl rfl
theorem dX0_gap_0 : decode cX0_gap 0 = .ok (.aload_n 0, 1) := dk_42 (dk_at dksX0_gap_0 0 rfl rfl)
theorem dX0_gap_1 : decode cX0_gap 1 = .ok (.iload_n 1, 1) := dk_27 (dk_at dksX0_gap_0 1 rfl rfl)
theorem dX0_gap_2 : decode cX0_gap 2 = .ok (.invokevirtual 153, 3) := dk_182 0 153 (dk_at dksX0_gap_0 2 rfl rfl)
theorem dX0_gap_5 : decode cX0_gap 5 = .ok (.ifCond .eq 12, 3) := dk_153 0 12 (dk_at dksX0_gap_0 5 rfl rfl)
theorem dX0_gap_8 : decode cX0_gap 8 = .ok (.iload_n 2, 1) := dk_28 (dk_at dksX0_gap_0 8 rfl rfl)
theorem dX0_gap_9 : decode cX0_gap 9 = .ok (.iconst 0, 1) := dk_3 (dk_at dksX0_gap_0 9 rfl rfl)
theorem dX0_gap_10 : decode cX0_gap 10 = .ok (.iconst 1, 1) := dk_4 (dk_at dksX0_gap_0 10 rfl rfl)
theorem dX0_gap_11 : decode cX0_gap 11 = .ok (.invokestatic 147, 3) := dk_184 0 147 (dk_at dksX0_gap_0 11 rfl rfl)
theorem dX0_gap_14 : decode cX0_gap 14 = .ok (.ifCond .ne 5, 3) := dk_154 0 5 (dk_at dksX0_gap_0 14 rfl rfl)
theorem dX0_gap_17 : decode cX0_gap 17 = .ok (.iconst (-1), 1) := dk_2 (dk_at dksX0_gap_0 17 rfl rfl)
theorem dX0_gap_18 : decode cX0_gap 18 = .ok (.ireturn, 1) := dk_172 (dk_at dksX0_gap_0 18 rfl rfl)
theorem dX0_gap_19 : decode cX0_gap 19 = .ok (.bipush (-2), 2) := dk_16 254 (dk_at dksX0_gap_0 19 rfl rfl)
theorem dX0_gap_21 : decode cX0_gap 21 = .ok (.istore_n 3, 1) := dk_62 (dk_at dksX0_gap_0 21 rfl rfl)
theorem dX0_gap_22 : decode cX0_gap 22 = .ok (.iconst 0, 1) := dk_3 (dk_at dksX0_gap_0 22 rfl rfl)
theorem dX0_gap_23 : decode cX0_gap 23 = .ok (.istore 4, 2) := dk_54 4 (dk_at dksX0_gap_1 0 rfl rfl)
theorem dX0_gap_25 : decode cX0_gap 25 = .ok (.iconst 0, 1) := dk_3 (dk_at dksX0_gap_1 2 rfl rfl)
theorem dX0_gap_26 : decode cX0_gap 26 = .ok (.istore 5, 2) := dk_54 5 (dk_at dksX0_gap_1 3 rfl rfl)
theorem dX0_gap_28 : decode cX0_gap 28 = .ok (.iconst 0, 1) := dk_3 (dk_at dksX0_gap_1 5 rfl rfl)
theorem dX0_gap_29 : decode cX0_gap 29 = .ok (.istore 6, 2) := dk_54 6 (dk_at dksX0_gap_1 6 rfl rfl)
theorem dX0_gap_31 : decode cX0_gap 31 = .ok (.iload 6, 2) := dk_21 6 (dk_at dksX0_gap_1 8 rfl rfl)
theorem dX0_gap_33 : decode cX0_gap 33 = .ok (.aload_n 0, 1) := dk_42 (dk_at dksX0_gap_1 10 rfl rfl)
theorem dX0_gap_34 : decode cX0_gap 34 = .ok (.getfield 40, 3) := dk_180 0 40 (dk_at dksX0_gap_1 11 rfl rfl)
theorem dX0_gap_37 : decode cX0_gap 37 = .ok (.getfield 132, 3) := dk_180 0 132 (dk_at dksX0_gap_1 14 rfl rfl)
theorem dX0_gap_40 : decode cX0_gap 40 = .ok (.iload_n 1, 1) := dk_27 (dk_at dksX0_gap_1 17 rfl rfl)
theorem dX0_gap_41 : decode cX0_gap 41 = .ok (.invokevirtual 160, 3) := dk_182 0 160 (dk_at dksX0_gap_1 18 rfl rfl)
theorem dX0_gap_44 : decode cX0_gap 44 = .ok (.checkcast 164, 3) := dk_192 0 164 (dk_at dksX0_gap_1 21 rfl rfl)
theorem dX0_gap_47 : decode cX0_gap 47 = .ok (.getfield 166, 3) := dk_180 0 166 (dk_at dksX0_gap_2 0 rfl rfl)
theorem dX0_gap_50 : decode cX0_gap 50 = .ok (.if_icmp .ge 51, 3) := dk_162 0 51 (dk_at dksX0_gap_2 3 rfl rfl)
theorem dX0_gap_53 : decode cX0_gap 53 = .ok (.aload_n 0, 1) := dk_42 (dk_at dksX0_gap_2 6 rfl rfl)
theorem dX0_gap_54 : decode cX0_gap 54 = .ok (.iload_n 1, 1) := dk_27 (dk_at dksX0_gap_2 7 rfl rfl)
theorem dX0_gap_55 : decode cX0_gap 55 = .ok (.iload 6, 2) := dk_21 6 (dk_at dksX0_gap_2 8 rfl rfl)
theorem dX0_gap_57 : decode cX0_gap 57 = .ok (.invokevirtual 215, 3) := dk_182 0 215 (dk_at dksX0_gap_2 10 rfl rfl)
theorem dX0_gap_60 : decode cX0_gap 60 = .ok (.ifCond .lt 7, 3) := dk_155 0 7 (dk_at dksX0_gap_2 13 rfl rfl)
theorem dX0_gap_63 : decode cX0_gap 63 = .ok (.iconst 0, 1) := dk_3 (dk_at dksX0_gap_2 16 rfl rfl)
theorem dX0_gap_64 : decode cX0_gap 64 = .ok (.goto 7, 3) := dk_167 0 7 (dk_at dksX0_gap_2 17 rfl rfl)
theorem dX0_gap_67 : decode cX0_gap 67 = .ok (.iload 5, 2) := dk_21 5 (dk_at dksX0_gap_2 20 rfl rfl)
theorem dX0_gap_69 : decode cX0_gap 69 = .ok (.iconst 1, 1) := dk_4 (dk_at dksX0_gap_2 22 rfl rfl)
theorem dX0_gap_70 : decode cX0_gap 70 = .ok (.iadd, 1) := dk_96 (dk_at dksX0_gap_2 23 rfl rfl)
theorem dX0_gap_71 : decode cX0_gap 71 = .ok (.istore 5, 2) := dk_54 5 (dk_at dksX0_gap_3 0 rfl rfl)
theorem dX0_gap_73 : decode cX0_gap 73 = .ok (.iload 5, 2) := dk_21 5 (dk_at dksX0_gap_3 2 rfl rfl)
theorem dX0_gap_75 : decode cX0_gap 75 = .ok (.iload 4, 2) := dk_21 4 (dk_at dksX0_gap_3 4 rfl rfl)
theorem dX0_gap_77 : decode cX0_gap 77 = .ok (.if_icmp .gt 6, 3) := dk_163 0 6 (dk_at dksX0_gap_3 6 rfl rfl)
theorem dX0_gap_80 : decode cX0_gap 80 = .ok (.goto 15, 3) := dk_167 0 15 (dk_at dksX0_gap_3 9 rfl rfl)
theorem dX0_gap_83 : decode cX0_gap 83 = .ok (.iload 6, 2) := dk_21 6 (dk_at dksX0_gap_3 12 rfl rfl)
theorem dX0_gap_85 : decode cX0_gap 85 = .ok (.iload 5, 2) := dk_21 5 (dk_at dksX0_gap_3 14 rfl rfl)
theorem dX0_gap_87 : decode cX0_gap 87 = .ok (.isub, 1) := dk_100 (dk_at dksX0_gap_3 16 rfl rfl)
theorem dX0_gap_88 : decode cX0_gap 88 = .ok (.iconst 1, 1) := dk_4 (dk_at dksX0_gap_3 17 rfl rfl)
theorem dX0_gap_89 : decode cX0_gap 89 = .ok (.iadd, 1) := dk_96 (dk_at dksX0_gap_3 18 rfl rfl)
theorem dX0_gap_90 : decode cX0_gap 90 = .ok (.istore_n 3, 1) := dk_62 (dk_at dksX0_gap_3 19 rfl rfl)
theorem dX0_gap_91 : decode cX0_gap 91 = .ok (.iload 5, 2) := dk_21 5 (dk_at dksX0_gap_3 20 rfl rfl)
theorem dX0_gap_93 : decode cX0_gap 93 = .ok (.istore 4, 2) := dk_54 4 (dk_at dksX0_gap_3 22 rfl rfl)
theorem dX0_gap_95 : decode cX0_gap 95 = .ok (.iinc 6 1, 3) := dk_132 6 1 (dk_at dksX0_gap_4 0 rfl rfl)
theorem dX0_gap_98 : decode cX0_gap 98 = .ok (.goto (-67), 3) := dk_167 255 189 (dk_at dksX0_gap_4 3 rfl rfl)
theorem dX0_gap_101 : decode cX0_gap 101 = .ok (.iload_n 2, 1) := dk_28 (dk_at dksX0_gap_4 6 rfl rfl)
theorem dX0_gap_102 : decode cX0_gap 102 = .ok (.ifCond .ne 8, 3) := dk_154 0 8 (dk_at dksX0_gap_4 7 rfl rfl)
theorem dX0_gap_105 : decode cX0_gap 105 = .ok (.iload 4, 2) := dk_21 4 (dk_at dksX0_gap_4 10 rfl rfl)
theorem dX0_gap_107 : decode cX0_gap 107 = .ok (.goto 4, 3) := dk_167 0 4 (dk_at dksX0_gap_4 12 rfl rfl)
theorem dX0_gap_110 : decode cX0_gap 110 = .ok (.iload_n 3, 1) := dk_29 (dk_at dksX0_gap_4 15 rfl rfl)
theorem dX0_gap_111 : decode cX0_gap 111 = .ok (.ireturn, 1) := dk_172 (dk_at dksX0_gap_4 16 rfl rfl)
abbrev cX0_room : ByteArray := prog_1_method_48_code
def yX0_room : MethodName := ⟨RX0, "room", "(I)I"⟩
def dkwX0_room_1 : List UInt8 := [180, 0, 55, 180, 0, 197, 27, 16, 254, 79, 42, 180, 0, 55, 42, 180, 0, 40, 27, 182, 0, 230, 172]
abbrev dktX0_room_1 : List UInt8 := dkwX0_room_1 ++ []
def dkwX0_room_0 : List UInt8 := [42, 27, 182, 0, 185, 154, 0, 5, 2, 172, 42, 180, 0, 55, 42, 180, 0, 51, 182, 0, 221, 42]
abbrev dktX0_room_0 : List UInt8 := dkwX0_room_0 ++ dktX0_room_1
theorem dksX0_room_0 : cX0_room.data.toList.drop 0 = dktX0_room_0 := by decide +kernel
theorem dksX0_room_1 : cX0_room.data.toList.drop 22 = dktX0_room_1 := dk_seg dksX0_room_0 22 rfl rfl
theorem dX0_room_0 : decode cX0_room 0 = .ok (.aload_n 0, 1) := dk_42 (dk_at dksX0_room_0 0 rfl rfl)
theorem dX0_room_1 : decode cX0_room 1 = .ok (.iload_n 1, 1) := dk_27 (dk_at dksX0_room_0 1 rfl rfl)
theorem dX0_room_2 : decode cX0_room 2 = .ok (.invokevirtual 185, 3) := dk_182 0 185 (dk_at dksX0_room_0 2 rfl rfl)
theorem dX0_room_5 : decode cX0_room 5 = .ok (.ifCond .ne 5, 3) := dk_154 0 5 (dk_at dksX0_room_0 5 rfl rfl)
theorem dX0_room_8 : decode cX0_room 8 = .ok (.iconst (-1), 1) := dk_2 (dk_at dksX0_room_0 8 rfl rfl)
theorem dX0_room_9 : decode cX0_room 9 = .ok (.ireturn, 1) := dk_172 (dk_at dksX0_room_0 9 rfl rfl)
theorem dX0_room_10 : decode cX0_room 10 = .ok (.aload_n 0, 1) := dk_42 (dk_at dksX0_room_0 10 rfl rfl)
theorem dX0_room_11 : decode cX0_room 11 = .ok (.getfield 55, 3) := dk_180 0 55 (dk_at dksX0_room_0 11 rfl rfl)
theorem dX0_room_14 : decode cX0_room 14 = .ok (.aload_n 0, 1) := dk_42 (dk_at dksX0_room_0 14 rfl rfl)
theorem dX0_room_15 : decode cX0_room 15 = .ok (.getfield 51, 3) := dk_180 0 51 (dk_at dksX0_room_0 15 rfl rfl)
theorem dX0_room_18 : decode cX0_room 18 = .ok (.invokevirtual 221, 3) := dk_182 0 221 (dk_at dksX0_room_0 18 rfl rfl)
theorem dX0_room_21 : decode cX0_room 21 = .ok (.aload_n 0, 1) := dk_42 (dk_at dksX0_room_0 21 rfl rfl)
theorem dX0_room_22 : decode cX0_room 22 = .ok (.getfield 55, 3) := dk_180 0 55 (dk_at dksX0_room_1 0 rfl rfl)
theorem dX0_room_25 : decode cX0_room 25 = .ok (.getfield 197, 3) := dk_180 0 197 (dk_at dksX0_room_1 3 rfl rfl)
theorem dX0_room_28 : decode cX0_room 28 = .ok (.iload_n 1, 1) := dk_27 (dk_at dksX0_room_1 6 rfl rfl)
theorem dX0_room_29 : decode cX0_room 29 = .ok (.bipush (-2), 2) := dk_16 254 (dk_at dksX0_room_1 7 rfl rfl)
theorem dX0_room_31 : decode cX0_room 31 = .ok (.iastore, 1) := dk_79 (dk_at dksX0_room_1 9 rfl rfl)
theorem dX0_room_32 : decode cX0_room 32 = .ok (.aload_n 0, 1) := dk_42 (dk_at dksX0_room_1 10 rfl rfl)
theorem dX0_room_33 : decode cX0_room 33 = .ok (.getfield 55, 3) := dk_180 0 55 (dk_at dksX0_room_1 11 rfl rfl)
theorem dX0_room_36 : decode cX0_room 36 = .ok (.aload_n 0, 1) := dk_42 (dk_at dksX0_room_1 14 rfl rfl)
theorem dX0_room_37 : decode cX0_room 37 = .ok (.getfield 40, 3) := dk_180 0 40 (dk_at dksX0_room_1 15 rfl rfl)
theorem dX0_room_40 : decode cX0_room 40 = .ok (.iload_n 1, 1) := dk_27 (dk_at dksX0_room_1 18 rfl rfl)
theorem dX0_room_41 : decode cX0_room 41 = .ok (.invokevirtual 230, 3) := dk_182 0 230 (dk_at dksX0_room_1 19 rfl rfl)
theorem dX0_room_44 : decode cX0_room 44 = .ok (.ireturn, 1) := dk_172 (dk_at dksX0_room_1 22 rfl rfl)
abbrev cX0_rivals : ByteArray := prog_1_method_49_code
def yX0_rivals : MethodName := ⟨RX0, "rivals", "(I)I"⟩
def dkwX0_rivals_0 : List UInt8 := [42, 27, 182, 0, 185, 153, 0, 14, 42, 180, 0, 40, 27, 182, 1, 6, 167, 0, 4, 2, 172]
abbrev dktX0_rivals_0 : List UInt8 := dkwX0_rivals_0 ++ []
theorem dksX0_rivals_0 : cX0_rivals.data.toList.drop 0 = dktX0_rivals_0 := by decide +kernel
theorem dX0_rivals_0 : decode cX0_rivals 0 = .ok (.aload_n 0, 1) := dk_42 (dk_at dksX0_rivals_0 0 rfl rfl)
theorem dX0_rivals_1 : decode cX0_rivals 1 = .ok (.iload_n 1, 1) := dk_27 (dk_at dksX0_rivals_0 1 rfl rfl)
theorem dX0_rivals_2 : decode cX0_rivals 2 = .ok (.invokevirtual 185, 3) := dk_182 0 185 (dk_at dksX0_rivals_0 2 rfl rfl)
theorem dX0_rivals_5 : decode cX0_rivals 5 = .ok (.ifCond .eq 14, 3) := dk_153 0 14 (dk_at dksX0_rivals_0 5 rfl rfl)
theorem dX0_rivals_8 : decode cX0_rivals 8 = .ok (.aload_n 0, 1) := dk_42 (dk_at dksX0_rivals_0 8 rfl rfl)
theorem dX0_rivals_9 : decode cX0_rivals 9 = .ok (.getfield 40, 3) := dk_180 0 40 (dk_at dksX0_rivals_0 9 rfl rfl)
theorem dX0_rivals_12 : decode cX0_rivals 12 = .ok (.iload_n 1, 1) := dk_27 (dk_at dksX0_rivals_0 12 rfl rfl)
theorem dX0_rivals_13 : decode cX0_rivals 13 = .ok (.invokevirtual 262, 3) := dk_182 1 6 (dk_at dksX0_rivals_0 13 rfl rfl)
theorem dX0_rivals_16 : decode cX0_rivals 16 = .ok (.goto 4, 3) := dk_167 0 4 (dk_at dksX0_rivals_0 16 rfl rfl)
theorem dX0_rivals_19 : decode cX0_rivals 19 = .ok (.iconst (-1), 1) := dk_2 (dk_at dksX0_rivals_0 19 rfl rfl)
theorem dX0_rivals_20 : decode cX0_rivals 20 = .ok (.ireturn, 1) := dk_172 (dk_at dksX0_rivals_0 20 rfl rfl)
abbrev cX0_price : ByteArray := prog_1_method_50_code
def yX0_price : MethodName := ⟨RX0, "price", "(II)I"⟩
def dkwX0_price_2 : List UInt8 := [180, 0, 40, 27, 182, 0, 182, 172]
abbrev dktX0_price_2 : List UInt8 := dkwX0_price_2 ++ []
def dkwX0_price_1 : List UInt8 := [180, 0, 51, 182, 0, 221, 42, 42, 180, 0, 55, 28, 42, 180, 0, 75, 182, 0, 255, 42, 180, 0, 55, 42]
abbrev dktX0_price_1 : List UInt8 := dkwX0_price_1 ++ dktX0_price_2
def dkwX0_price_0 : List UInt8 := [42, 27, 182, 0, 236, 153, 0, 10, 28, 184, 0, 252, 154, 0, 5, 2, 172, 42, 180, 0, 55, 42]
abbrev dktX0_price_0 : List UInt8 := dkwX0_price_0 ++ dktX0_price_1
theorem dksX0_price_0 : cX0_price.data.toList.drop 0 = dktX0_price_0 := by decide +kernel
theorem dksX0_price_1 : cX0_price.data.toList.drop 22 = dktX0_price_1 := dk_seg dksX0_price_0 22 rfl rfl
theorem dksX0_price_2 : cX0_price.data.toList.drop 46 = dktX0_price_2 := dk_seg dksX0_price_1 24 rfl rfl
theorem dX0_price_0 : decode cX0_price 0 = .ok (.aload_n 0, 1) := dk_42 (dk_at dksX0_price_0 0 rfl rfl)
theorem dX0_price_1 : decode cX0_price 1 = .ok (.iload_n 1, 1) := dk_27 (dk_at dksX0_price_0 1 rfl rfl)
theorem dX0_price_2 : decode cX0_price 2 = .ok (.invokevirtual 236, 3) := dk_182 0 236 (dk_at dksX0_price_0 2 rfl rfl)
theorem dX0_price_5 : decode cX0_price 5 = .ok (.ifCond .eq 10, 3) := dk_153 0 10 (dk_at dksX0_price_0 5 rfl rfl)
theorem dX0_price_8 : decode cX0_price 8 = .ok (.iload_n 2, 1) := dk_28 (dk_at dksX0_price_0 8 rfl rfl)
theorem dX0_price_9 : decode cX0_price 9 = .ok (.invokestatic 252, 3) := dk_184 0 252 (dk_at dksX0_price_0 9 rfl rfl)
theorem dX0_price_12 : decode cX0_price 12 = .ok (.ifCond .ne 5, 3) := dk_154 0 5 (dk_at dksX0_price_0 12 rfl rfl)
theorem dX0_price_15 : decode cX0_price 15 = .ok (.iconst (-1), 1) := dk_2 (dk_at dksX0_price_0 15 rfl rfl)
theorem dX0_price_16 : decode cX0_price 16 = .ok (.ireturn, 1) := dk_172 (dk_at dksX0_price_0 16 rfl rfl)
theorem dX0_price_17 : decode cX0_price 17 = .ok (.aload_n 0, 1) := dk_42 (dk_at dksX0_price_0 17 rfl rfl)
theorem dX0_price_18 : decode cX0_price 18 = .ok (.getfield 55, 3) := dk_180 0 55 (dk_at dksX0_price_0 18 rfl rfl)
theorem dX0_price_21 : decode cX0_price 21 = .ok (.aload_n 0, 1) := dk_42 (dk_at dksX0_price_0 21 rfl rfl)
theorem dX0_price_22 : decode cX0_price 22 = .ok (.getfield 51, 3) := dk_180 0 51 (dk_at dksX0_price_1 0 rfl rfl)
theorem dX0_price_25 : decode cX0_price 25 = .ok (.invokevirtual 221, 3) := dk_182 0 221 (dk_at dksX0_price_1 3 rfl rfl)
theorem dX0_price_28 : decode cX0_price 28 = .ok (.aload_n 0, 1) := dk_42 (dk_at dksX0_price_1 6 rfl rfl)
theorem dX0_price_29 : decode cX0_price 29 = .ok (.aload_n 0, 1) := dk_42 (dk_at dksX0_price_1 7 rfl rfl)
theorem dX0_price_30 : decode cX0_price 30 = .ok (.getfield 55, 3) := dk_180 0 55 (dk_at dksX0_price_1 8 rfl rfl)
theorem dX0_price_33 : decode cX0_price 33 = .ok (.iload_n 2, 1) := dk_28 (dk_at dksX0_price_1 11 rfl rfl)
theorem dX0_price_34 : decode cX0_price 34 = .ok (.aload_n 0, 1) := dk_42 (dk_at dksX0_price_1 12 rfl rfl)
theorem dX0_price_35 : decode cX0_price 35 = .ok (.getfield 75, 3) := dk_180 0 75 (dk_at dksX0_price_1 13 rfl rfl)
theorem dX0_price_38 : decode cX0_price 38 = .ok (.invokevirtual 255, 3) := dk_182 0 255 (dk_at dksX0_price_1 16 rfl rfl)
theorem dX0_price_41 : decode cX0_price 41 = .ok (.aload_n 0, 1) := dk_42 (dk_at dksX0_price_1 19 rfl rfl)
theorem dX0_price_42 : decode cX0_price 42 = .ok (.getfield 55, 3) := dk_180 0 55 (dk_at dksX0_price_1 20 rfl rfl)
theorem dX0_price_45 : decode cX0_price 45 = .ok (.aload_n 0, 1) := dk_42 (dk_at dksX0_price_1 23 rfl rfl)
theorem dX0_price_46 : decode cX0_price 46 = .ok (.getfield 40, 3) := dk_180 0 40 (dk_at dksX0_price_2 0 rfl rfl)
theorem dX0_price_49 : decode cX0_price 49 = .ok (.iload_n 1, 1) := dk_27 (dk_at dksX0_price_2 3 rfl rfl)
theorem dX0_price_50 : decode cX0_price 50 = .ok (.invokevirtual 182, 3) := dk_182 0 182 (dk_at dksX0_price_2 4 rfl rfl)
theorem dX0_price_53 : decode cX0_price 53 = .ok (.ireturn, 1) := dk_172 (dk_at dksX0_price_2 7 rfl rfl)
abbrev cX0_best : ByteArray := prog_1_method_51_code
def yX0_best : MethodName := ⟨RX0, "best", "(III)I"⟩
def dkwX0_best_4 : List UInt8 := [182, 0, 248, 132, 6, 1, 167, 255, 203, 29, 154, 0, 8, 21, 4, 167, 0, 5, 21, 5, 172]
abbrev dktX0_best_4 : List UInt8 := dkwX0_best_4 ++ []
def dkwX0_best_3 : List UInt8 := [164, 0, 11, 21, 6, 54, 4, 21, 7, 54, 5, 42, 180, 0, 55, 42, 180, 0, 40, 42, 180, 0, 75]
abbrev dktX0_best_3 : List UInt8 := dkwX0_best_3 ++ dktX0_best_4
def dkwX0_best_2 : List UInt8 := [28, 163, 0, 53, 42, 180, 0, 55, 42, 180, 0, 40, 27, 182, 0, 182, 54, 7, 21, 7, 21, 5]
abbrev dktX0_best_2 : List UInt8 := dkwX0_best_2 ++ dktX0_best_3
def dkwX0_best_1 : List UInt8 := [2, 172, 3, 54, 4, 2, 54, 5, 42, 180, 0, 55, 42, 180, 0, 51, 182, 0, 221, 3, 54, 6, 21, 6]
abbrev dktX0_best_1 : List UInt8 := dkwX0_best_1 ++ dktX0_best_2
def dkwX0_best_0 : List UInt8 := [42, 27, 182, 0, 236, 153, 0, 19, 28, 184, 0, 252, 153, 0, 12, 29, 3, 4, 184, 0, 147, 154, 0, 5]
abbrev dktX0_best_0 : List UInt8 := dkwX0_best_0 ++ dktX0_best_1
theorem dksX0_best_0 : cX0_best.data.toList.drop 0 = dktX0_best_0 := by decide +kernel
theorem dksX0_best_1 : cX0_best.data.toList.drop 24 = dktX0_best_1 := dk_seg dksX0_best_0 24 rfl rfl
theorem dksX0_best_2 : cX0_best.data.toList.drop 48 = dktX0_best_2 := dk_seg dksX0_best_1 24 rfl rfl
theorem dksX0_best_3 : cX0_best.data.toList.drop 70 = dktX0_best_3 := dk_seg dksX0_best_2 22 rfl rfl
theorem dksX0_best_4 : cX0_best.data.toList.drop 93 = dktX0_best_4 := dk_seg dksX0_best_3 23 rfl rfl
theorem dX0_best_0 : decode cX0_best 0 = .ok (.aload_n 0, 1) := dk_42 (dk_at dksX0_best_0 0 rfl rfl)
theorem dX0_best_1 : decode cX0_best 1 = .ok (.iload_n 1, 1) := dk_27 (dk_at dksX0_best_0 1 rfl rfl)
theorem dX0_best_2 : decode cX0_best 2 = .ok (.invokevirtual 236, 3) := dk_182 0 236 (dk_at dksX0_best_0 2 rfl rfl)
theorem dX0_best_5 : decode cX0_best 5 = .ok (.ifCond .eq 19, 3) := dk_153 0 19 (dk_at dksX0_best_0 5 rfl rfl)
theorem dX0_best_8 : decode cX0_best 8 = .ok (.iload_n 2, 1) := dk_28 (dk_at dksX0_best_0 8 rfl rfl)
theorem dX0_best_9 : decode cX0_best 9 = .ok (.invokestatic 252, 3) := dk_184 0 252 (dk_at dksX0_best_0 9 rfl rfl)
theorem dX0_best_12 : decode cX0_best 12 = .ok (.ifCond .eq 12, 3) := dk_153 0 12 (dk_at dksX0_best_0 12 rfl rfl)
theorem dX0_best_15 : decode cX0_best 15 = .ok (.iload_n 3, 1) := dk_29 (dk_at dksX0_best_0 15 rfl rfl)
theorem dX0_best_16 : decode cX0_best 16 = .ok (.iconst 0, 1) := dk_3 (dk_at dksX0_best_0 16 rfl rfl)
theorem dX0_best_17 : decode cX0_best 17 = .ok (.iconst 1, 1) := dk_4 (dk_at dksX0_best_0 17 rfl rfl)
theorem dX0_best_18 : decode cX0_best 18 = .ok (.invokestatic 147, 3) := dk_184 0 147 (dk_at dksX0_best_0 18 rfl rfl)
theorem dX0_best_21 : decode cX0_best 21 = .ok (.ifCond .ne 5, 3) := dk_154 0 5 (dk_at dksX0_best_0 21 rfl rfl)
theorem dX0_best_24 : decode cX0_best 24 = .ok (.iconst (-1), 1) := dk_2 (dk_at dksX0_best_1 0 rfl rfl)
theorem dX0_best_25 : decode cX0_best 25 = .ok (.ireturn, 1) := dk_172 (dk_at dksX0_best_1 1 rfl rfl)
theorem dX0_best_26 : decode cX0_best 26 = .ok (.iconst 0, 1) := dk_3 (dk_at dksX0_best_1 2 rfl rfl)
theorem dX0_best_27 : decode cX0_best 27 = .ok (.istore 4, 2) := dk_54 4 (dk_at dksX0_best_1 3 rfl rfl)
theorem dX0_best_29 : decode cX0_best 29 = .ok (.iconst (-1), 1) := dk_2 (dk_at dksX0_best_1 5 rfl rfl)
theorem dX0_best_30 : decode cX0_best 30 = .ok (.istore 5, 2) := dk_54 5 (dk_at dksX0_best_1 6 rfl rfl)
theorem dX0_best_32 : decode cX0_best 32 = .ok (.aload_n 0, 1) := dk_42 (dk_at dksX0_best_1 8 rfl rfl)
theorem dX0_best_33 : decode cX0_best 33 = .ok (.getfield 55, 3) := dk_180 0 55 (dk_at dksX0_best_1 9 rfl rfl)
theorem dX0_best_36 : decode cX0_best 36 = .ok (.aload_n 0, 1) := dk_42 (dk_at dksX0_best_1 12 rfl rfl)
theorem dX0_best_37 : decode cX0_best 37 = .ok (.getfield 51, 3) := dk_180 0 51 (dk_at dksX0_best_1 13 rfl rfl)
theorem dX0_best_40 : decode cX0_best 40 = .ok (.invokevirtual 221, 3) := dk_182 0 221 (dk_at dksX0_best_1 16 rfl rfl)
theorem dX0_best_43 : decode cX0_best 43 = .ok (.iconst 0, 1) := dk_3 (dk_at dksX0_best_1 19 rfl rfl)
theorem dX0_best_44 : decode cX0_best 44 = .ok (.istore 6, 2) := dk_54 6 (dk_at dksX0_best_1 20 rfl rfl)
theorem dX0_best_46 : decode cX0_best 46 = .ok (.iload 6, 2) := dk_21 6 (dk_at dksX0_best_1 22 rfl rfl)
theorem dX0_best_48 : decode cX0_best 48 = .ok (.iload_n 2, 1) := dk_28 (dk_at dksX0_best_2 0 rfl rfl)
theorem dX0_best_49 : decode cX0_best 49 = .ok (.if_icmp .gt 53, 3) := dk_163 0 53 (dk_at dksX0_best_2 1 rfl rfl)
theorem dX0_best_52 : decode cX0_best 52 = .ok (.aload_n 0, 1) := dk_42 (dk_at dksX0_best_2 4 rfl rfl)
theorem dX0_best_53 : decode cX0_best 53 = .ok (.getfield 55, 3) := dk_180 0 55 (dk_at dksX0_best_2 5 rfl rfl)
theorem dX0_best_56 : decode cX0_best 56 = .ok (.aload_n 0, 1) := dk_42 (dk_at dksX0_best_2 8 rfl rfl)
theorem dX0_best_57 : decode cX0_best 57 = .ok (.getfield 40, 3) := dk_180 0 40 (dk_at dksX0_best_2 9 rfl rfl)
theorem dX0_best_60 : decode cX0_best 60 = .ok (.iload_n 1, 1) := dk_27 (dk_at dksX0_best_2 12 rfl rfl)
theorem dX0_best_61 : decode cX0_best 61 = .ok (.invokevirtual 182, 3) := dk_182 0 182 (dk_at dksX0_best_2 13 rfl rfl)
theorem dX0_best_64 : decode cX0_best 64 = .ok (.istore 7, 2) := dk_54 7 (dk_at dksX0_best_2 16 rfl rfl)
theorem dX0_best_66 : decode cX0_best 66 = .ok (.iload 7, 2) := dk_21 7 (dk_at dksX0_best_2 18 rfl rfl)
theorem dX0_best_68 : decode cX0_best 68 = .ok (.iload 5, 2) := dk_21 5 (dk_at dksX0_best_2 20 rfl rfl)
theorem dX0_best_70 : decode cX0_best 70 = .ok (.if_icmp .le 11, 3) := dk_164 0 11 (dk_at dksX0_best_3 0 rfl rfl)
theorem dX0_best_73 : decode cX0_best 73 = .ok (.iload 6, 2) := dk_21 6 (dk_at dksX0_best_3 3 rfl rfl)
theorem dX0_best_75 : decode cX0_best 75 = .ok (.istore 4, 2) := dk_54 4 (dk_at dksX0_best_3 5 rfl rfl)
theorem dX0_best_77 : decode cX0_best 77 = .ok (.iload 7, 2) := dk_21 7 (dk_at dksX0_best_3 7 rfl rfl)
theorem dX0_best_79 : decode cX0_best 79 = .ok (.istore 5, 2) := dk_54 5 (dk_at dksX0_best_3 9 rfl rfl)
theorem dX0_best_81 : decode cX0_best 81 = .ok (.aload_n 0, 1) := dk_42 (dk_at dksX0_best_3 11 rfl rfl)
theorem dX0_best_82 : decode cX0_best 82 = .ok (.getfield 55, 3) := dk_180 0 55 (dk_at dksX0_best_3 12 rfl rfl)
theorem dX0_best_85 : decode cX0_best 85 = .ok (.aload_n 0, 1) := dk_42 (dk_at dksX0_best_3 15 rfl rfl)
theorem dX0_best_86 : decode cX0_best 86 = .ok (.getfield 40, 3) := dk_180 0 40 (dk_at dksX0_best_3 16 rfl rfl)
theorem dX0_best_89 : decode cX0_best 89 = .ok (.aload_n 0, 1) := dk_42 (dk_at dksX0_best_3 19 rfl rfl)
theorem dX0_best_90 : decode cX0_best 90 = .ok (.getfield 75, 3) := dk_180 0 75 (dk_at dksX0_best_3 20 rfl rfl)
theorem dX0_best_93 : decode cX0_best 93 = .ok (.invokevirtual 248, 3) := dk_182 0 248 (dk_at dksX0_best_4 0 rfl rfl)
theorem dX0_best_96 : decode cX0_best 96 = .ok (.iinc 6 1, 3) := dk_132 6 1 (dk_at dksX0_best_4 3 rfl rfl)
theorem dX0_best_99 : decode cX0_best 99 = .ok (.goto (-53), 3) := dk_167 255 203 (dk_at dksX0_best_4 6 rfl rfl)
theorem dX0_best_102 : decode cX0_best 102 = .ok (.iload_n 3, 1) := dk_29 (dk_at dksX0_best_4 9 rfl rfl)
theorem dX0_best_103 : decode cX0_best 103 = .ok (.ifCond .ne 8, 3) := dk_154 0 8 (dk_at dksX0_best_4 10 rfl rfl)
theorem dX0_best_106 : decode cX0_best 106 = .ok (.iload 4, 2) := dk_21 4 (dk_at dksX0_best_4 13 rfl rfl)
theorem dX0_best_108 : decode cX0_best 108 = .ok (.goto 5, 3) := dk_167 0 5 (dk_at dksX0_best_4 15 rfl rfl)
theorem dX0_best_111 : decode cX0_best 111 = .ok (.iload 5, 2) := dk_21 5 (dk_at dksX0_best_4 18 rfl rfl)
theorem dX0_best_113 : decode cX0_best 113 = .ok (.ireturn, 1) := dk_172 (dk_at dksX0_best_4 20 rfl rfl)
abbrev cX0_weary : ByteArray := prog_1_method_52_code
def yX0_weary : MethodName := ⟨RX0, "weary", "(I)I"⟩
def dkwX0_weary_3 : List UInt8 := [16, 254, 172]
abbrev dktX0_weary_3 : List UInt8 := dkwX0_weary_3 ++ []
def dkwX0_weary_2 : List UInt8 := [28, 172, 42, 180, 0, 55, 42, 180, 0, 40, 42, 180, 0, 75, 182, 0, 248, 132, 2, 1, 167, 255, 211]
abbrev dktX0_weary_2 : List UInt8 := dkwX0_weary_2 ++ dktX0_weary_3
def dkwX0_weary_1 : List UInt8 := [16, 100, 163, 0, 45, 42, 180, 0, 55, 180, 0, 200, 27, 46, 42, 180, 0, 40, 180, 1, 55, 161, 0, 5]
abbrev dktX0_weary_1 : List UInt8 := dkwX0_weary_1 ++ dktX0_weary_2
def dkwX0_weary_0 : List UInt8 := [42, 27, 182, 0, 185, 154, 0, 5, 2, 172, 42, 180, 0, 55, 42, 180, 0, 51, 182, 0, 221, 3, 61, 28]
abbrev dktX0_weary_0 : List UInt8 := dkwX0_weary_0 ++ dktX0_weary_1
theorem dksX0_weary_0 : cX0_weary.data.toList.drop 0 = dktX0_weary_0 := by decide +kernel
theorem dksX0_weary_1 : cX0_weary.data.toList.drop 24 = dktX0_weary_1 := dk_seg dksX0_weary_0 24 rfl rfl
theorem dksX0_weary_2 : cX0_weary.data.toList.drop 48 = dktX0_weary_2 := dk_seg dksX0_weary_1 24 rfl rfl
theorem dksX0_weary_3 : cX0_weary.data.toList.drop 71 = dktX0_weary_3 := dk_seg dksX0_weary_2 23 rfl rfl
theorem dX0_weary_0 : decode cX0_weary 0 = .ok (.aload_n 0, 1) := dk_42 (dk_at dksX0_weary_0 0 rfl rfl)
theorem dX0_weary_1 : decode cX0_weary 1 = .ok (.iload_n 1, 1) := dk_27 (dk_at dksX0_weary_0 1 rfl rfl)
theorem dX0_weary_2 : decode cX0_weary 2 = .ok (.invokevirtual 185, 3) := dk_182 0 185 (dk_at dksX0_weary_0 2 rfl rfl)
theorem dX0_weary_5 : decode cX0_weary 5 = .ok (.ifCond .ne 5, 3) := dk_154 0 5 (dk_at dksX0_weary_0 5 rfl rfl)
theorem dX0_weary_8 : decode cX0_weary 8 = .ok (.iconst (-1), 1) := dk_2 (dk_at dksX0_weary_0 8 rfl rfl)
theorem dX0_weary_9 : decode cX0_weary 9 = .ok (.ireturn, 1) := dk_172 (dk_at dksX0_weary_0 9 rfl rfl)
theorem dX0_weary_10 : decode cX0_weary 10 = .ok (.aload_n 0, 1) := dk_42 (dk_at dksX0_weary_0 10 rfl rfl)
theorem dX0_weary_11 : decode cX0_weary 11 = .ok (.getfield 55, 3) := dk_180 0 55 (dk_at dksX0_weary_0 11 rfl rfl)
theorem dX0_weary_14 : decode cX0_weary 14 = .ok (.aload_n 0, 1) := dk_42 (dk_at dksX0_weary_0 14 rfl rfl)
theorem dX0_weary_15 : decode cX0_weary 15 = .ok (.getfield 51, 3) := dk_180 0 51 (dk_at dksX0_weary_0 15 rfl rfl)
theorem dX0_weary_18 : decode cX0_weary 18 = .ok (.invokevirtual 221, 3) := dk_182 0 221 (dk_at dksX0_weary_0 18 rfl rfl)
theorem dX0_weary_21 : decode cX0_weary 21 = .ok (.iconst 0, 1) := dk_3 (dk_at dksX0_weary_0 21 rfl rfl)
theorem dX0_weary_22 : decode cX0_weary 22 = .ok (.istore_n 2, 1) := dk_61 (dk_at dksX0_weary_0 22 rfl rfl)
theorem dX0_weary_23 : decode cX0_weary 23 = .ok (.iload_n 2, 1) := dk_28 (dk_at dksX0_weary_0 23 rfl rfl)
theorem dX0_weary_24 : decode cX0_weary 24 = .ok (.bipush 100, 2) := dk_16 100 (dk_at dksX0_weary_1 0 rfl rfl)
theorem dX0_weary_26 : decode cX0_weary 26 = .ok (.if_icmp .gt 45, 3) := dk_163 0 45 (dk_at dksX0_weary_1 2 rfl rfl)
theorem dX0_weary_29 : decode cX0_weary 29 = .ok (.aload_n 0, 1) := dk_42 (dk_at dksX0_weary_1 5 rfl rfl)
theorem dX0_weary_30 : decode cX0_weary 30 = .ok (.getfield 55, 3) := dk_180 0 55 (dk_at dksX0_weary_1 6 rfl rfl)
theorem dX0_weary_33 : decode cX0_weary 33 = .ok (.getfield 200, 3) := dk_180 0 200 (dk_at dksX0_weary_1 9 rfl rfl)
theorem dX0_weary_36 : decode cX0_weary 36 = .ok (.iload_n 1, 1) := dk_27 (dk_at dksX0_weary_1 12 rfl rfl)
theorem dX0_weary_37 : decode cX0_weary 37 = .ok (.iaload, 1) := dk_46 (dk_at dksX0_weary_1 13 rfl rfl)
theorem dX0_weary_38 : decode cX0_weary 38 = .ok (.aload_n 0, 1) := dk_42 (dk_at dksX0_weary_1 14 rfl rfl)
theorem dX0_weary_39 : decode cX0_weary 39 = .ok (.getfield 40, 3) := dk_180 0 40 (dk_at dksX0_weary_1 15 rfl rfl)
theorem dX0_weary_42 : decode cX0_weary 42 = .ok (.getfield 311, 3) := dk_180 1 55 (dk_at dksX0_weary_1 18 rfl rfl)
theorem dX0_weary_45 : decode cX0_weary 45 = .ok (.if_icmp .lt 5, 3) := dk_161 0 5 (dk_at dksX0_weary_1 21 rfl rfl)
theorem dX0_weary_48 : decode cX0_weary 48 = .ok (.iload_n 2, 1) := dk_28 (dk_at dksX0_weary_2 0 rfl rfl)
theorem dX0_weary_49 : decode cX0_weary 49 = .ok (.ireturn, 1) := dk_172 (dk_at dksX0_weary_2 1 rfl rfl)
theorem dX0_weary_50 : decode cX0_weary 50 = .ok (.aload_n 0, 1) := dk_42 (dk_at dksX0_weary_2 2 rfl rfl)
theorem dX0_weary_51 : decode cX0_weary 51 = .ok (.getfield 55, 3) := dk_180 0 55 (dk_at dksX0_weary_2 3 rfl rfl)
theorem dX0_weary_54 : decode cX0_weary 54 = .ok (.aload_n 0, 1) := dk_42 (dk_at dksX0_weary_2 6 rfl rfl)
theorem dX0_weary_55 : decode cX0_weary 55 = .ok (.getfield 40, 3) := dk_180 0 40 (dk_at dksX0_weary_2 7 rfl rfl)
theorem dX0_weary_58 : decode cX0_weary 58 = .ok (.aload_n 0, 1) := dk_42 (dk_at dksX0_weary_2 10 rfl rfl)
theorem dX0_weary_59 : decode cX0_weary 59 = .ok (.getfield 75, 3) := dk_180 0 75 (dk_at dksX0_weary_2 11 rfl rfl)
theorem dX0_weary_62 : decode cX0_weary 62 = .ok (.invokevirtual 248, 3) := dk_182 0 248 (dk_at dksX0_weary_2 14 rfl rfl)
theorem dX0_weary_65 : decode cX0_weary 65 = .ok (.iinc 2 1, 3) := dk_132 2 1 (dk_at dksX0_weary_2 17 rfl rfl)
theorem dX0_weary_68 : decode cX0_weary 68 = .ok (.goto (-45), 3) := dk_167 255 211 (dk_at dksX0_weary_2 20 rfl rfl)
theorem dX0_weary_71 : decode cX0_weary 71 = .ok (.bipush (-2), 2) := dk_16 254 (dk_at dksX0_weary_3 0 rfl rfl)
theorem dX0_weary_73 : decode cX0_weary 73 = .ok (.ireturn, 1) := dk_172 (dk_at dksX0_weary_3 2 rfl rfl)
abbrev cX0_used : ByteArray := prog_1_method_53_code
def yX0_used : MethodName := ⟨RX0, "used", "(II)I"⟩
def dkwX0_used_3 : List UInt8 := [167, 255, 217, 16, 254, 172]
abbrev dktX0_used_3 : List UInt8 := dkwX0_used_3 ++ []
def dkwX0_used_2 : List UInt8 := [28, 161, 0, 5, 29, 172, 42, 180, 0, 55, 42, 180, 0, 40, 42, 180, 0, 75, 182, 0, 248, 132, 3, 1]
abbrev dktX0_used_2 : List UInt8 := dkwX0_used_2 ++ dktX0_used_3
def dkwX0_used_1 : List UInt8 := [42, 180, 0, 51, 182, 0, 221, 3, 62, 29, 16, 100, 163, 0, 39, 42, 180, 0, 55, 180, 0, 172, 27, 46]
abbrev dktX0_used_1 : List UInt8 := dkwX0_used_1 ++ dktX0_used_2
def dkwX0_used_0 : List UInt8 := [42, 27, 182, 0, 153, 153, 0, 13, 28, 4, 16, 99, 184, 0, 147, 154, 0, 5, 2, 172, 42, 180, 0, 55]
abbrev dktX0_used_0 : List UInt8 := dkwX0_used_0 ++ dktX0_used_1
theorem dksX0_used_0 : cX0_used.data.toList.drop 0 = dktX0_used_0 := by decide +kernel
theorem dksX0_used_1 : cX0_used.data.toList.drop 24 = dktX0_used_1 := dk_seg dksX0_used_0 24 rfl rfl
theorem dksX0_used_2 : cX0_used.data.toList.drop 48 = dktX0_used_2 := dk_seg dksX0_used_1 24 rfl rfl
theorem dksX0_used_3 : cX0_used.data.toList.drop 72 = dktX0_used_3 := dk_seg dksX0_used_2 24 rfl rfl
theorem dX0_used_0 : decode cX0_used 0 = .ok (.aload_n 0, 1) := dk_42 (dk_at dksX0_used_0 0 rfl rfl)
theorem dX0_used_1 : decode cX0_used 1 = .ok (.iload_n 1, 1) := dk_27 (dk_at dksX0_used_0 1 rfl rfl)
theorem dX0_used_2 : decode cX0_used 2 = .ok (.invokevirtual 153, 3) := dk_182 0 153 (dk_at dksX0_used_0 2 rfl rfl)
theorem dX0_used_5 : decode cX0_used 5 = .ok (.ifCond .eq 13, 3) := dk_153 0 13 (dk_at dksX0_used_0 5 rfl rfl)
theorem dX0_used_8 : decode cX0_used 8 = .ok (.iload_n 2, 1) := dk_28 (dk_at dksX0_used_0 8 rfl rfl)
theorem dX0_used_9 : decode cX0_used 9 = .ok (.iconst 1, 1) := dk_4 (dk_at dksX0_used_0 9 rfl rfl)
theorem dX0_used_10 : decode cX0_used 10 = .ok (.bipush 99, 2) := dk_16 99 (dk_at dksX0_used_0 10 rfl rfl)
theorem dX0_used_12 : decode cX0_used 12 = .ok (.invokestatic 147, 3) := dk_184 0 147 (dk_at dksX0_used_0 12 rfl rfl)
theorem dX0_used_15 : decode cX0_used 15 = .ok (.ifCond .ne 5, 3) := dk_154 0 5 (dk_at dksX0_used_0 15 rfl rfl)
theorem dX0_used_18 : decode cX0_used 18 = .ok (.iconst (-1), 1) := dk_2 (dk_at dksX0_used_0 18 rfl rfl)
theorem dX0_used_19 : decode cX0_used 19 = .ok (.ireturn, 1) := dk_172 (dk_at dksX0_used_0 19 rfl rfl)
theorem dX0_used_20 : decode cX0_used 20 = .ok (.aload_n 0, 1) := dk_42 (dk_at dksX0_used_0 20 rfl rfl)
theorem dX0_used_21 : decode cX0_used 21 = .ok (.getfield 55, 3) := dk_180 0 55 (dk_at dksX0_used_0 21 rfl rfl)
theorem dX0_used_24 : decode cX0_used 24 = .ok (.aload_n 0, 1) := dk_42 (dk_at dksX0_used_1 0 rfl rfl)
theorem dX0_used_25 : decode cX0_used 25 = .ok (.getfield 51, 3) := dk_180 0 51 (dk_at dksX0_used_1 1 rfl rfl)
theorem dX0_used_28 : decode cX0_used 28 = .ok (.invokevirtual 221, 3) := dk_182 0 221 (dk_at dksX0_used_1 4 rfl rfl)
theorem dX0_used_31 : decode cX0_used 31 = .ok (.iconst 0, 1) := dk_3 (dk_at dksX0_used_1 7 rfl rfl)
theorem dX0_used_32 : decode cX0_used 32 = .ok (.istore_n 3, 1) := dk_62 (dk_at dksX0_used_1 8 rfl rfl)
theorem dX0_used_33 : decode cX0_used 33 = .ok (.iload_n 3, 1) := dk_29 (dk_at dksX0_used_1 9 rfl rfl)
theorem dX0_used_34 : decode cX0_used 34 = .ok (.bipush 100, 2) := dk_16 100 (dk_at dksX0_used_1 10 rfl rfl)
theorem dX0_used_36 : decode cX0_used 36 = .ok (.if_icmp .gt 39, 3) := dk_163 0 39 (dk_at dksX0_used_1 12 rfl rfl)
theorem dX0_used_39 : decode cX0_used 39 = .ok (.aload_n 0, 1) := dk_42 (dk_at dksX0_used_1 15 rfl rfl)
theorem dX0_used_40 : decode cX0_used 40 = .ok (.getfield 55, 3) := dk_180 0 55 (dk_at dksX0_used_1 16 rfl rfl)
theorem dX0_used_43 : decode cX0_used 43 = .ok (.getfield 172, 3) := dk_180 0 172 (dk_at dksX0_used_1 19 rfl rfl)
theorem dX0_used_46 : decode cX0_used 46 = .ok (.iload_n 1, 1) := dk_27 (dk_at dksX0_used_1 22 rfl rfl)
theorem dX0_used_47 : decode cX0_used 47 = .ok (.iaload, 1) := dk_46 (dk_at dksX0_used_1 23 rfl rfl)
theorem dX0_used_48 : decode cX0_used 48 = .ok (.iload_n 2, 1) := dk_28 (dk_at dksX0_used_2 0 rfl rfl)
theorem dX0_used_49 : decode cX0_used 49 = .ok (.if_icmp .lt 5, 3) := dk_161 0 5 (dk_at dksX0_used_2 1 rfl rfl)
theorem dX0_used_52 : decode cX0_used 52 = .ok (.iload_n 3, 1) := dk_29 (dk_at dksX0_used_2 4 rfl rfl)
theorem dX0_used_53 : decode cX0_used 53 = .ok (.ireturn, 1) := dk_172 (dk_at dksX0_used_2 5 rfl rfl)
theorem dX0_used_54 : decode cX0_used 54 = .ok (.aload_n 0, 1) := dk_42 (dk_at dksX0_used_2 6 rfl rfl)
theorem dX0_used_55 : decode cX0_used 55 = .ok (.getfield 55, 3) := dk_180 0 55 (dk_at dksX0_used_2 7 rfl rfl)
theorem dX0_used_58 : decode cX0_used 58 = .ok (.aload_n 0, 1) := dk_42 (dk_at dksX0_used_2 10 rfl rfl)
theorem dX0_used_59 : decode cX0_used 59 = .ok (.getfield 40, 3) := dk_180 0 40 (dk_at dksX0_used_2 11 rfl rfl)
theorem dX0_used_62 : decode cX0_used 62 = .ok (.aload_n 0, 1) := dk_42 (dk_at dksX0_used_2 14 rfl rfl)
theorem dX0_used_63 : decode cX0_used 63 = .ok (.getfield 75, 3) := dk_180 0 75 (dk_at dksX0_used_2 15 rfl rfl)
theorem dX0_used_66 : decode cX0_used 66 = .ok (.invokevirtual 248, 3) := dk_182 0 248 (dk_at dksX0_used_2 18 rfl rfl)
theorem dX0_used_69 : decode cX0_used 69 = .ok (.iinc 3 1, 3) := dk_132 3 1 (dk_at dksX0_used_2 21 rfl rfl)
theorem dX0_used_72 : decode cX0_used 72 = .ok (.goto (-39), 3) := dk_167 255 217 (dk_at dksX0_used_3 0 rfl rfl)
theorem dX0_used_75 : decode cX0_used 75 = .ok (.bipush (-2), 2) := dk_16 254 (dk_at dksX0_used_3 3 rfl rfl)
theorem dX0_used_77 : decode cX0_used 77 = .ok (.ireturn, 1) := dk_172 (dk_at dksX0_used_3 5 rfl rfl)
abbrev cX0_first : ByteArray := prog_1_method_54_code
def yX0_first : MethodName := ⟨RX0, "first", "(I)I"⟩
def dkwX0_first_3 : List UInt8 := [21, 5, 62, 132, 4, 1, 167, 255, 200, 28, 155, 0, 8, 27, 4, 160, 0, 7, 28, 167, 0, 4, 29, 172]
abbrev dktX0_first_3 : List UInt8 := dkwX0_first_3 ++ []
def dkwX0_first_2 : List UInt8 := [21, 4, 182, 1, 58, 54, 5, 21, 5, 155, 0, 18, 21, 5, 29, 161, 0, 6, 167, 0, 9, 21, 4, 61]
abbrev dktX0_first_2 : List UInt8 := dkwX0_first_2 ++ dktX0_first_3
def dkwX0_first_1 : List UInt8 := [182, 0, 151, 162, 0, 53, 42, 180, 0, 51, 21, 4, 182, 0, 203, 153, 0, 7, 2, 167, 0, 9, 42]
abbrev dktX0_first_1 : List UInt8 := dkwX0_first_1 ++ dktX0_first_2
def dkwX0_first_0 : List UInt8 := [27, 3, 4, 184, 0, 147, 154, 0, 5, 2, 172, 16, 254, 61, 19, 1, 49, 62, 3, 54, 4, 21, 4, 42]
abbrev dktX0_first_0 : List UInt8 := dkwX0_first_0 ++ dktX0_first_1
theorem dksX0_first_0 : cX0_first.data.toList.drop 0 = dktX0_first_0 := by decide +kernel
theorem dksX0_first_1 : cX0_first.data.toList.drop 24 = dktX0_first_1 := dk_seg dksX0_first_0 24 rfl rfl
theorem dksX0_first_2 : cX0_first.data.toList.drop 47 = dktX0_first_2 := dk_seg dksX0_first_1 23 rfl rfl
theorem dksX0_first_3 : cX0_first.data.toList.drop 71 = dktX0_first_3 := dk_seg dksX0_first_2 24 rfl rfl
theorem dX0_first_0 : decode cX0_first 0 = .ok (.iload_n 1, 1) := dk_27 (dk_at dksX0_first_0 0 rfl rfl)
theorem dX0_first_1 : decode cX0_first 1 = .ok (.iconst 0, 1) := dk_3 (dk_at dksX0_first_0 1 rfl rfl)
theorem dX0_first_2 : decode cX0_first 2 = .ok (.iconst 1, 1) := dk_4 (dk_at dksX0_first_0 2 rfl rfl)
theorem dX0_first_3 : decode cX0_first 3 = .ok (.invokestatic 147, 3) := dk_184 0 147 (dk_at dksX0_first_0 3 rfl rfl)
theorem dX0_first_6 : decode cX0_first 6 = .ok (.ifCond .ne 5, 3) := dk_154 0 5 (dk_at dksX0_first_0 6 rfl rfl)
theorem dX0_first_9 : decode cX0_first 9 = .ok (.iconst (-1), 1) := dk_2 (dk_at dksX0_first_0 9 rfl rfl)
theorem dX0_first_10 : decode cX0_first 10 = .ok (.ireturn, 1) := dk_172 (dk_at dksX0_first_0 10 rfl rfl)
theorem dX0_first_11 : decode cX0_first 11 = .ok (.bipush (-2), 2) := dk_16 254 (dk_at dksX0_first_0 11 rfl rfl)
theorem dX0_first_13 : decode cX0_first 13 = .ok (.istore_n 2, 1) := dk_61 (dk_at dksX0_first_0 13 rfl rfl)
theorem dX0_first_14 : decode cX0_first 14 = .ok (.ldc_w 305, 3) := dk_19 1 49 (dk_at dksX0_first_0 14 rfl rfl)
theorem dX0_first_17 : decode cX0_first 17 = .ok (.istore_n 3, 1) := dk_62 (dk_at dksX0_first_0 17 rfl rfl)
theorem dX0_first_18 : decode cX0_first 18 = .ok (.iconst 0, 1) := dk_3 (dk_at dksX0_first_0 18 rfl rfl)
theorem dX0_first_19 : decode cX0_first 19 = .ok (.istore 4, 2) := dk_54 4 (dk_at dksX0_first_0 19 rfl rfl)
theorem dX0_first_21 : decode cX0_first 21 = .ok (.iload 4, 2) := dk_21 4 (dk_at dksX0_first_0 21 rfl rfl)
theorem dX0_first_23 : decode cX0_first 23 = .ok (.aload_n 0, 1) := dk_42 (dk_at dksX0_first_0 23 rfl rfl)
theorem dX0_first_24 : decode cX0_first 24 = .ok (.invokevirtual 151, 3) := dk_182 0 151 (dk_at dksX0_first_1 0 rfl rfl)
theorem dX0_first_27 : decode cX0_first 27 = .ok (.if_icmp .ge 53, 3) := dk_162 0 53 (dk_at dksX0_first_1 3 rfl rfl)
theorem dX0_first_30 : decode cX0_first 30 = .ok (.aload_n 0, 1) := dk_42 (dk_at dksX0_first_1 6 rfl rfl)
theorem dX0_first_31 : decode cX0_first 31 = .ok (.getfield 51, 3) := dk_180 0 51 (dk_at dksX0_first_1 7 rfl rfl)
theorem dX0_first_34 : decode cX0_first 34 = .ok (.iload 4, 2) := dk_21 4 (dk_at dksX0_first_1 10 rfl rfl)
theorem dX0_first_36 : decode cX0_first 36 = .ok (.invokevirtual 203, 3) := dk_182 0 203 (dk_at dksX0_first_1 12 rfl rfl)
theorem dX0_first_39 : decode cX0_first 39 = .ok (.ifCond .eq 7, 3) := dk_153 0 7 (dk_at dksX0_first_1 15 rfl rfl)
theorem dX0_first_42 : decode cX0_first 42 = .ok (.iconst (-1), 1) := dk_2 (dk_at dksX0_first_1 18 rfl rfl)
theorem dX0_first_43 : decode cX0_first 43 = .ok (.goto 9, 3) := dk_167 0 9 (dk_at dksX0_first_1 19 rfl rfl)
theorem dX0_first_46 : decode cX0_first 46 = .ok (.aload_n 0, 1) := dk_42 (dk_at dksX0_first_1 22 rfl rfl)
theorem dX0_first_47 : decode cX0_first 47 = .ok (.iload 4, 2) := dk_21 4 (dk_at dksX0_first_2 0 rfl rfl)
theorem dX0_first_49 : decode cX0_first 49 = .ok (.invokevirtual 314, 3) := dk_182 1 58 (dk_at dksX0_first_2 2 rfl rfl)
theorem dX0_first_52 : decode cX0_first 52 = .ok (.istore 5, 2) := dk_54 5 (dk_at dksX0_first_2 5 rfl rfl)
theorem dX0_first_54 : decode cX0_first 54 = .ok (.iload 5, 2) := dk_21 5 (dk_at dksX0_first_2 7 rfl rfl)
theorem dX0_first_56 : decode cX0_first 56 = .ok (.ifCond .lt 18, 3) := dk_155 0 18 (dk_at dksX0_first_2 9 rfl rfl)
theorem dX0_first_59 : decode cX0_first 59 = .ok (.iload 5, 2) := dk_21 5 (dk_at dksX0_first_2 12 rfl rfl)
theorem dX0_first_61 : decode cX0_first 61 = .ok (.iload_n 3, 1) := dk_29 (dk_at dksX0_first_2 14 rfl rfl)
theorem dX0_first_62 : decode cX0_first 62 = .ok (.if_icmp .lt 6, 3) := dk_161 0 6 (dk_at dksX0_first_2 15 rfl rfl)
theorem dX0_first_65 : decode cX0_first 65 = .ok (.goto 9, 3) := dk_167 0 9 (dk_at dksX0_first_2 18 rfl rfl)
theorem dX0_first_68 : decode cX0_first 68 = .ok (.iload 4, 2) := dk_21 4 (dk_at dksX0_first_2 21 rfl rfl)
theorem dX0_first_70 : decode cX0_first 70 = .ok (.istore_n 2, 1) := dk_61 (dk_at dksX0_first_2 23 rfl rfl)
theorem dX0_first_71 : decode cX0_first 71 = .ok (.iload 5, 2) := dk_21 5 (dk_at dksX0_first_3 0 rfl rfl)
theorem dX0_first_73 : decode cX0_first 73 = .ok (.istore_n 3, 1) := dk_62 (dk_at dksX0_first_3 2 rfl rfl)
theorem dX0_first_74 : decode cX0_first 74 = .ok (.iinc 4 1, 3) := dk_132 4 1 (dk_at dksX0_first_3 3 rfl rfl)
theorem dX0_first_77 : decode cX0_first 77 = .ok (.goto (-56), 3) := dk_167 255 200 (dk_at dksX0_first_3 6 rfl rfl)
theorem dX0_first_80 : decode cX0_first 80 = .ok (.iload_n 2, 1) := dk_28 (dk_at dksX0_first_3 9 rfl rfl)
theorem dX0_first_81 : decode cX0_first 81 = .ok (.ifCond .lt 8, 3) := dk_155 0 8 (dk_at dksX0_first_3 10 rfl rfl)
theorem dX0_first_84 : decode cX0_first 84 = .ok (.iload_n 1, 1) := dk_27 (dk_at dksX0_first_3 13 rfl rfl)
theorem dX0_first_85 : decode cX0_first 85 = .ok (.iconst 1, 1) := dk_4 (dk_at dksX0_first_3 14 rfl rfl)
theorem dX0_first_86 : decode cX0_first 86 = .ok (.if_icmp .ne 7, 3) := dk_160 0 7 (dk_at dksX0_first_3 15 rfl rfl)
theorem dX0_first_89 : decode cX0_first 89 = .ok (.iload_n 2, 1) := dk_28 (dk_at dksX0_first_3 18 rfl rfl)
theorem dX0_first_90 : decode cX0_first 90 = .ok (.goto 4, 3) := dk_167 0 4 (dk_at dksX0_first_3 19 rfl rfl)
theorem dX0_first_93 : decode cX0_first 93 = .ok (.iload_n 3, 1) := dk_29 (dk_at dksX0_first_3 22 rfl rfl)
theorem dX0_first_94 : decode cX0_first 94 = .ok (.ireturn, 1) := dk_172 (dk_at dksX0_first_3 23 rfl rfl)
abbrev cX0_earned : ByteArray := prog_1_method_55_code
def yX0_earned : MethodName := ⟨RX0, "earned", "(I)I"⟩
def dkwX0_earned_2 : List UInt8 := [180, 0, 239, 100, 172]
abbrev dktX0_earned_2 : List UInt8 := dkwX0_earned_2 ++ []
def dkwX0_earned_1 : List UInt8 := [180, 0, 55, 27, 42, 180, 0, 75, 182, 0, 255, 42, 180, 0, 55, 180, 0, 239, 42, 180, 0, 51]
abbrev dktX0_earned_1 : List UInt8 := dkwX0_earned_1 ++ dktX0_earned_2
def dkwX0_earned_0 : List UInt8 := [27, 184, 0, 252, 154, 0, 5, 2, 172, 42, 180, 0, 55, 42, 180, 0, 51, 182, 0, 221, 42, 42]
abbrev dktX0_earned_0 : List UInt8 := dkwX0_earned_0 ++ dktX0_earned_1
theorem dksX0_earned_0 : cX0_earned.data.toList.drop 0 = dktX0_earned_0 := by decide +kernel
theorem dksX0_earned_1 : cX0_earned.data.toList.drop 22 = dktX0_earned_1 := dk_seg dksX0_earned_0 22 rfl rfl
theorem dksX0_earned_2 : cX0_earned.data.toList.drop 44 = dktX0_earned_2 := dk_seg dksX0_earned_1 22 rfl rfl
theorem dX0_earned_0 : decode cX0_earned 0 = .ok (.iload_n 1, 1) := dk_27 (dk_at dksX0_earned_0 0 rfl rfl)
theorem dX0_earned_1 : decode cX0_earned 1 = .ok (.invokestatic 252, 3) := dk_184 0 252 (dk_at dksX0_earned_0 1 rfl rfl)
theorem dX0_earned_4 : decode cX0_earned 4 = .ok (.ifCond .ne 5, 3) := dk_154 0 5 (dk_at dksX0_earned_0 4 rfl rfl)
theorem dX0_earned_7 : decode cX0_earned 7 = .ok (.iconst (-1), 1) := dk_2 (dk_at dksX0_earned_0 7 rfl rfl)
theorem dX0_earned_8 : decode cX0_earned 8 = .ok (.ireturn, 1) := dk_172 (dk_at dksX0_earned_0 8 rfl rfl)
theorem dX0_earned_9 : decode cX0_earned 9 = .ok (.aload_n 0, 1) := dk_42 (dk_at dksX0_earned_0 9 rfl rfl)
theorem dX0_earned_10 : decode cX0_earned 10 = .ok (.getfield 55, 3) := dk_180 0 55 (dk_at dksX0_earned_0 10 rfl rfl)
theorem dX0_earned_13 : decode cX0_earned 13 = .ok (.aload_n 0, 1) := dk_42 (dk_at dksX0_earned_0 13 rfl rfl)
theorem dX0_earned_14 : decode cX0_earned 14 = .ok (.getfield 51, 3) := dk_180 0 51 (dk_at dksX0_earned_0 14 rfl rfl)
theorem dX0_earned_17 : decode cX0_earned 17 = .ok (.invokevirtual 221, 3) := dk_182 0 221 (dk_at dksX0_earned_0 17 rfl rfl)
theorem dX0_earned_20 : decode cX0_earned 20 = .ok (.aload_n 0, 1) := dk_42 (dk_at dksX0_earned_0 20 rfl rfl)
theorem dX0_earned_21 : decode cX0_earned 21 = .ok (.aload_n 0, 1) := dk_42 (dk_at dksX0_earned_0 21 rfl rfl)
theorem dX0_earned_22 : decode cX0_earned 22 = .ok (.getfield 55, 3) := dk_180 0 55 (dk_at dksX0_earned_1 0 rfl rfl)
theorem dX0_earned_25 : decode cX0_earned 25 = .ok (.iload_n 1, 1) := dk_27 (dk_at dksX0_earned_1 3 rfl rfl)
theorem dX0_earned_26 : decode cX0_earned 26 = .ok (.aload_n 0, 1) := dk_42 (dk_at dksX0_earned_1 4 rfl rfl)
theorem dX0_earned_27 : decode cX0_earned 27 = .ok (.getfield 75, 3) := dk_180 0 75 (dk_at dksX0_earned_1 5 rfl rfl)
theorem dX0_earned_30 : decode cX0_earned 30 = .ok (.invokevirtual 255, 3) := dk_182 0 255 (dk_at dksX0_earned_1 8 rfl rfl)
theorem dX0_earned_33 : decode cX0_earned 33 = .ok (.aload_n 0, 1) := dk_42 (dk_at dksX0_earned_1 11 rfl rfl)
theorem dX0_earned_34 : decode cX0_earned 34 = .ok (.getfield 55, 3) := dk_180 0 55 (dk_at dksX0_earned_1 12 rfl rfl)
theorem dX0_earned_37 : decode cX0_earned 37 = .ok (.getfield 239, 3) := dk_180 0 239 (dk_at dksX0_earned_1 15 rfl rfl)
theorem dX0_earned_40 : decode cX0_earned 40 = .ok (.aload_n 0, 1) := dk_42 (dk_at dksX0_earned_1 18 rfl rfl)
theorem dX0_earned_41 : decode cX0_earned 41 = .ok (.getfield 51, 3) := dk_180 0 51 (dk_at dksX0_earned_1 19 rfl rfl)
theorem dX0_earned_44 : decode cX0_earned 44 = .ok (.getfield 239, 3) := dk_180 0 239 (dk_at dksX0_earned_2 0 rfl rfl)
theorem dX0_earned_47 : decode cX0_earned 47 = .ok (.isub, 1) := dk_100 (dk_at dksX0_earned_2 3 rfl rfl)
theorem dX0_earned_48 : decode cX0_earned 48 = .ok (.ireturn, 1) := dk_172 (dk_at dksX0_earned_2 4 rfl rfl)
abbrev cX0_then : ByteArray := prog_1_method_56_code
def yX0_then : MethodName := ⟨RX0, "then", "(III)I"⟩
def dkwX0_then_4 : List UInt8 := [167, 0, 4, 3, 172]
abbrev dktX0_then_4 : List UInt8 := dkwX0_then_4 ++ []
def dkwX0_then_3 : List UInt8 := [42, 180, 0, 55, 180, 0, 200, 27, 46, 167, 0, 19, 42, 180, 0, 55, 27, 182, 0, 203, 153, 0, 7, 4]
abbrev dktX0_then_3 : List UInt8 := dkwX0_then_3 ++ dktX0_then_4
def dkwX0_then_2 : List UInt8 := [182, 0, 255, 29, 154, 0, 15, 42, 180, 0, 55, 180, 0, 197, 27, 46, 167, 0, 36, 29, 4, 160, 0, 15]
abbrev dktX0_then_2 : List UInt8 := dkwX0_then_2 ++ dktX0_then_3
def dkwX0_then_1 : List UInt8 := [2, 172, 42, 180, 0, 55, 42, 180, 0, 51, 182, 0, 221, 42, 42, 180, 0, 55, 28, 42, 180, 0, 68]
abbrev dktX0_then_1 : List UInt8 := dkwX0_then_1 ++ dktX0_then_2
def dkwX0_then_0 : List UInt8 := [42, 27, 182, 0, 185, 153, 0, 19, 28, 184, 0, 252, 153, 0, 12, 29, 3, 5, 184, 0, 147, 154, 0, 5]
abbrev dktX0_then_0 : List UInt8 := dkwX0_then_0 ++ dktX0_then_1
theorem dksX0_then_0 : cX0_then.data.toList.drop 0 = dktX0_then_0 := by decide +kernel
theorem dksX0_then_1 : cX0_then.data.toList.drop 24 = dktX0_then_1 := dk_seg dksX0_then_0 24 rfl rfl
theorem dksX0_then_2 : cX0_then.data.toList.drop 47 = dktX0_then_2 := dk_seg dksX0_then_1 23 rfl rfl
theorem dksX0_then_3 : cX0_then.data.toList.drop 71 = dktX0_then_3 := dk_seg dksX0_then_2 24 rfl rfl
theorem dksX0_then_4 : cX0_then.data.toList.drop 95 = dktX0_then_4 := dk_seg dksX0_then_3 24 rfl rfl
theorem dX0_then_0 : decode cX0_then 0 = .ok (.aload_n 0, 1) := dk_42 (dk_at dksX0_then_0 0 rfl rfl)
theorem dX0_then_1 : decode cX0_then 1 = .ok (.iload_n 1, 1) := dk_27 (dk_at dksX0_then_0 1 rfl rfl)
theorem dX0_then_2 : decode cX0_then 2 = .ok (.invokevirtual 185, 3) := dk_182 0 185 (dk_at dksX0_then_0 2 rfl rfl)
theorem dX0_then_5 : decode cX0_then 5 = .ok (.ifCond .eq 19, 3) := dk_153 0 19 (dk_at dksX0_then_0 5 rfl rfl)
theorem dX0_then_8 : decode cX0_then 8 = .ok (.iload_n 2, 1) := dk_28 (dk_at dksX0_then_0 8 rfl rfl)
theorem dX0_then_9 : decode cX0_then 9 = .ok (.invokestatic 252, 3) := dk_184 0 252 (dk_at dksX0_then_0 9 rfl rfl)
theorem dX0_then_12 : decode cX0_then 12 = .ok (.ifCond .eq 12, 3) := dk_153 0 12 (dk_at dksX0_then_0 12 rfl rfl)
theorem dX0_then_15 : decode cX0_then 15 = .ok (.iload_n 3, 1) := dk_29 (dk_at dksX0_then_0 15 rfl rfl)
theorem dX0_then_16 : decode cX0_then 16 = .ok (.iconst 0, 1) := dk_3 (dk_at dksX0_then_0 16 rfl rfl)
theorem dX0_then_17 : decode cX0_then 17 = .ok (.iconst 2, 1) := dk_5 (dk_at dksX0_then_0 17 rfl rfl)
theorem dX0_then_18 : decode cX0_then 18 = .ok (.invokestatic 147, 3) := dk_184 0 147 (dk_at dksX0_then_0 18 rfl rfl)
theorem dX0_then_21 : decode cX0_then 21 = .ok (.ifCond .ne 5, 3) := dk_154 0 5 (dk_at dksX0_then_0 21 rfl rfl)
theorem dX0_then_24 : decode cX0_then 24 = .ok (.iconst (-1), 1) := dk_2 (dk_at dksX0_then_1 0 rfl rfl)
theorem dX0_then_25 : decode cX0_then 25 = .ok (.ireturn, 1) := dk_172 (dk_at dksX0_then_1 1 rfl rfl)
theorem dX0_then_26 : decode cX0_then 26 = .ok (.aload_n 0, 1) := dk_42 (dk_at dksX0_then_1 2 rfl rfl)
theorem dX0_then_27 : decode cX0_then 27 = .ok (.getfield 55, 3) := dk_180 0 55 (dk_at dksX0_then_1 3 rfl rfl)
theorem dX0_then_30 : decode cX0_then 30 = .ok (.aload_n 0, 1) := dk_42 (dk_at dksX0_then_1 6 rfl rfl)
theorem dX0_then_31 : decode cX0_then 31 = .ok (.getfield 51, 3) := dk_180 0 51 (dk_at dksX0_then_1 7 rfl rfl)
theorem dX0_then_34 : decode cX0_then 34 = .ok (.invokevirtual 221, 3) := dk_182 0 221 (dk_at dksX0_then_1 10 rfl rfl)
theorem dX0_then_37 : decode cX0_then 37 = .ok (.aload_n 0, 1) := dk_42 (dk_at dksX0_then_1 13 rfl rfl)
theorem dX0_then_38 : decode cX0_then 38 = .ok (.aload_n 0, 1) := dk_42 (dk_at dksX0_then_1 14 rfl rfl)
theorem dX0_then_39 : decode cX0_then 39 = .ok (.getfield 55, 3) := dk_180 0 55 (dk_at dksX0_then_1 15 rfl rfl)
theorem dX0_then_42 : decode cX0_then 42 = .ok (.iload_n 2, 1) := dk_28 (dk_at dksX0_then_1 18 rfl rfl)
theorem dX0_then_43 : decode cX0_then 43 = .ok (.aload_n 0, 1) := dk_42 (dk_at dksX0_then_1 19 rfl rfl)
theorem dX0_then_44 : decode cX0_then 44 = .ok (.getfield 68, 3) := dk_180 0 68 (dk_at dksX0_then_1 20 rfl rfl)
theorem dX0_then_47 : decode cX0_then 47 = .ok (.invokevirtual 255, 3) := dk_182 0 255 (dk_at dksX0_then_2 0 rfl rfl)
theorem dX0_then_50 : decode cX0_then 50 = .ok (.iload_n 3, 1) := dk_29 (dk_at dksX0_then_2 3 rfl rfl)
theorem dX0_then_51 : decode cX0_then 51 = .ok (.ifCond .ne 15, 3) := dk_154 0 15 (dk_at dksX0_then_2 4 rfl rfl)
theorem dX0_then_54 : decode cX0_then 54 = .ok (.aload_n 0, 1) := dk_42 (dk_at dksX0_then_2 7 rfl rfl)
theorem dX0_then_55 : decode cX0_then 55 = .ok (.getfield 55, 3) := dk_180 0 55 (dk_at dksX0_then_2 8 rfl rfl)
theorem dX0_then_58 : decode cX0_then 58 = .ok (.getfield 197, 3) := dk_180 0 197 (dk_at dksX0_then_2 11 rfl rfl)
theorem dX0_then_61 : decode cX0_then 61 = .ok (.iload_n 1, 1) := dk_27 (dk_at dksX0_then_2 14 rfl rfl)
theorem dX0_then_62 : decode cX0_then 62 = .ok (.iaload, 1) := dk_46 (dk_at dksX0_then_2 15 rfl rfl)
theorem dX0_then_63 : decode cX0_then 63 = .ok (.goto 36, 3) := dk_167 0 36 (dk_at dksX0_then_2 16 rfl rfl)
theorem dX0_then_66 : decode cX0_then 66 = .ok (.iload_n 3, 1) := dk_29 (dk_at dksX0_then_2 19 rfl rfl)
theorem dX0_then_67 : decode cX0_then 67 = .ok (.iconst 1, 1) := dk_4 (dk_at dksX0_then_2 20 rfl rfl)
theorem dX0_then_68 : decode cX0_then 68 = .ok (.if_icmp .ne 15, 3) := dk_160 0 15 (dk_at dksX0_then_2 21 rfl rfl)
theorem dX0_then_71 : decode cX0_then 71 = .ok (.aload_n 0, 1) := dk_42 (dk_at dksX0_then_3 0 rfl rfl)
theorem dX0_then_72 : decode cX0_then 72 = .ok (.getfield 55, 3) := dk_180 0 55 (dk_at dksX0_then_3 1 rfl rfl)
theorem dX0_then_75 : decode cX0_then 75 = .ok (.getfield 200, 3) := dk_180 0 200 (dk_at dksX0_then_3 4 rfl rfl)
theorem dX0_then_78 : decode cX0_then 78 = .ok (.iload_n 1, 1) := dk_27 (dk_at dksX0_then_3 7 rfl rfl)
theorem dX0_then_79 : decode cX0_then 79 = .ok (.iaload, 1) := dk_46 (dk_at dksX0_then_3 8 rfl rfl)
theorem dX0_then_80 : decode cX0_then 80 = .ok (.goto 19, 3) := dk_167 0 19 (dk_at dksX0_then_3 9 rfl rfl)
theorem dX0_then_83 : decode cX0_then 83 = .ok (.aload_n 0, 1) := dk_42 (dk_at dksX0_then_3 12 rfl rfl)
theorem dX0_then_84 : decode cX0_then 84 = .ok (.getfield 55, 3) := dk_180 0 55 (dk_at dksX0_then_3 13 rfl rfl)
theorem dX0_then_87 : decode cX0_then 87 = .ok (.iload_n 1, 1) := dk_27 (dk_at dksX0_then_3 16 rfl rfl)
theorem dX0_then_88 : decode cX0_then 88 = .ok (.invokevirtual 203, 3) := dk_182 0 203 (dk_at dksX0_then_3 17 rfl rfl)
theorem dX0_then_91 : decode cX0_then 91 = .ok (.ifCond .eq 7, 3) := dk_153 0 7 (dk_at dksX0_then_3 20 rfl rfl)
theorem dX0_then_94 : decode cX0_then 94 = .ok (.iconst 1, 1) := dk_4 (dk_at dksX0_then_3 23 rfl rfl)
theorem dX0_then_95 : decode cX0_then 95 = .ok (.goto 4, 3) := dk_167 0 4 (dk_at dksX0_then_4 0 rfl rfl)
theorem dX0_then_98 : decode cX0_then 98 = .ok (.iconst 0, 1) := dk_3 (dk_at dksX0_then_4 3 rfl rfl)
theorem dX0_then_99 : decode cX0_then 99 = .ok (.ireturn, 1) := dk_172 (dk_at dksX0_then_4 4 rfl rfl)
abbrev cX0_wornIn : ByteArray := prog_1_method_57_code
def yX0_wornIn : MethodName := ⟨RX0, "wornIn", "(II)I"⟩
def dkwX0_wornIn_2 : List UInt8 := [180, 0, 172, 27, 46, 172]
abbrev dktX0_wornIn_2 : List UInt8 := dkwX0_wornIn_2 ++ []
def dkwX0_wornIn_1 : List UInt8 := [180, 0, 51, 182, 0, 221, 42, 42, 180, 0, 55, 28, 42, 180, 0, 68, 182, 0, 255, 42, 180, 0, 55]
abbrev dktX0_wornIn_1 : List UInt8 := dkwX0_wornIn_1 ++ dktX0_wornIn_2
def dkwX0_wornIn_0 : List UInt8 := [42, 27, 182, 0, 153, 153, 0, 10, 28, 184, 0, 252, 154, 0, 5, 2, 172, 42, 180, 0, 55, 42]
abbrev dktX0_wornIn_0 : List UInt8 := dkwX0_wornIn_0 ++ dktX0_wornIn_1
theorem dksX0_wornIn_0 : cX0_wornIn.data.toList.drop 0 = dktX0_wornIn_0 := by decide +kernel
theorem dksX0_wornIn_1 : cX0_wornIn.data.toList.drop 22 = dktX0_wornIn_1 := dk_seg dksX0_wornIn_0 22 rfl rfl
theorem dksX0_wornIn_2 : cX0_wornIn.data.toList.drop 45 = dktX0_wornIn_2 := dk_seg dksX0_wornIn_1 23 rfl rfl
theorem dX0_wornIn_0 : decode cX0_wornIn 0 = .ok (.aload_n 0, 1) := dk_42 (dk_at dksX0_wornIn_0 0 rfl rfl)
theorem dX0_wornIn_1 : decode cX0_wornIn 1 = .ok (.iload_n 1, 1) := dk_27 (dk_at dksX0_wornIn_0 1 rfl rfl)
theorem dX0_wornIn_2 : decode cX0_wornIn 2 = .ok (.invokevirtual 153, 3) := dk_182 0 153 (dk_at dksX0_wornIn_0 2 rfl rfl)
theorem dX0_wornIn_5 : decode cX0_wornIn 5 = .ok (.ifCond .eq 10, 3) := dk_153 0 10 (dk_at dksX0_wornIn_0 5 rfl rfl)
theorem dX0_wornIn_8 : decode cX0_wornIn 8 = .ok (.iload_n 2, 1) := dk_28 (dk_at dksX0_wornIn_0 8 rfl rfl)
theorem dX0_wornIn_9 : decode cX0_wornIn 9 = .ok (.invokestatic 252, 3) := dk_184 0 252 (dk_at dksX0_wornIn_0 9 rfl rfl)
theorem dX0_wornIn_12 : decode cX0_wornIn 12 = .ok (.ifCond .ne 5, 3) := dk_154 0 5 (dk_at dksX0_wornIn_0 12 rfl rfl)
theorem dX0_wornIn_15 : decode cX0_wornIn 15 = .ok (.iconst (-1), 1) := dk_2 (dk_at dksX0_wornIn_0 15 rfl rfl)
theorem dX0_wornIn_16 : decode cX0_wornIn 16 = .ok (.ireturn, 1) := dk_172 (dk_at dksX0_wornIn_0 16 rfl rfl)
theorem dX0_wornIn_17 : decode cX0_wornIn 17 = .ok (.aload_n 0, 1) := dk_42 (dk_at dksX0_wornIn_0 17 rfl rfl)
theorem dX0_wornIn_18 : decode cX0_wornIn 18 = .ok (.getfield 55, 3) := dk_180 0 55 (dk_at dksX0_wornIn_0 18 rfl rfl)
theorem dX0_wornIn_21 : decode cX0_wornIn 21 = .ok (.aload_n 0, 1) := dk_42 (dk_at dksX0_wornIn_0 21 rfl rfl)
theorem dX0_wornIn_22 : decode cX0_wornIn 22 = .ok (.getfield 51, 3) := dk_180 0 51 (dk_at dksX0_wornIn_1 0 rfl rfl)
theorem dX0_wornIn_25 : decode cX0_wornIn 25 = .ok (.invokevirtual 221, 3) := dk_182 0 221 (dk_at dksX0_wornIn_1 3 rfl rfl)
theorem dX0_wornIn_28 : decode cX0_wornIn 28 = .ok (.aload_n 0, 1) := dk_42 (dk_at dksX0_wornIn_1 6 rfl rfl)
theorem dX0_wornIn_29 : decode cX0_wornIn 29 = .ok (.aload_n 0, 1) := dk_42 (dk_at dksX0_wornIn_1 7 rfl rfl)
theorem dX0_wornIn_30 : decode cX0_wornIn 30 = .ok (.getfield 55, 3) := dk_180 0 55 (dk_at dksX0_wornIn_1 8 rfl rfl)
theorem dX0_wornIn_33 : decode cX0_wornIn 33 = .ok (.iload_n 2, 1) := dk_28 (dk_at dksX0_wornIn_1 11 rfl rfl)
theorem dX0_wornIn_34 : decode cX0_wornIn 34 = .ok (.aload_n 0, 1) := dk_42 (dk_at dksX0_wornIn_1 12 rfl rfl)
theorem dX0_wornIn_35 : decode cX0_wornIn 35 = .ok (.getfield 68, 3) := dk_180 0 68 (dk_at dksX0_wornIn_1 13 rfl rfl)
theorem dX0_wornIn_38 : decode cX0_wornIn 38 = .ok (.invokevirtual 255, 3) := dk_182 0 255 (dk_at dksX0_wornIn_1 16 rfl rfl)
theorem dX0_wornIn_41 : decode cX0_wornIn 41 = .ok (.aload_n 0, 1) := dk_42 (dk_at dksX0_wornIn_1 19 rfl rfl)
theorem dX0_wornIn_42 : decode cX0_wornIn 42 = .ok (.getfield 55, 3) := dk_180 0 55 (dk_at dksX0_wornIn_1 20 rfl rfl)
theorem dX0_wornIn_45 : decode cX0_wornIn 45 = .ok (.getfield 172, 3) := dk_180 0 172 (dk_at dksX0_wornIn_2 0 rfl rfl)
theorem dX0_wornIn_48 : decode cX0_wornIn 48 = .ok (.iload_n 1, 1) := dk_27 (dk_at dksX0_wornIn_2 3 rfl rfl)
theorem dX0_wornIn_49 : decode cX0_wornIn 49 = .ok (.iaload, 1) := dk_46 (dk_at dksX0_wornIn_2 4 rfl rfl)
theorem dX0_wornIn_50 : decode cX0_wornIn 50 = .ok (.ireturn, 1) := dk_172 (dk_at dksX0_wornIn_2 5 rfl rfl)
abbrev cX0_year : ByteArray := prog_1_method_58_code
def yX0_year : MethodName := ⟨RX0, "year", "(III)I"⟩
def dkwX0_year_4 : List UInt8 := [153, 0, 7, 3, 167, 0, 4, 4, 96, 54, 4, 132, 5, 1, 167, 255, 185, 21, 4, 172]
abbrev dktX0_year_4 : List UInt8 := dkwX0_year_4 ++ []
def dkwX0_year_3 : List UInt8 := [42, 180, 0, 55, 28, 42, 180, 0, 68, 182, 0, 255, 21, 4, 42, 180, 0, 55, 27, 182, 0, 203]
abbrev dktX0_year_3 : List UInt8 := dkwX0_year_3 ++ dktX0_year_4
def dkwX0_year_2 : List UInt8 := [180, 0, 51, 182, 0, 221, 42, 180, 0, 55, 42, 180, 0, 40, 180, 1, 61, 21, 5, 96, 181, 1, 64, 42]
abbrev dktX0_year_2 : List UInt8 := dkwX0_year_2 ++ dktX0_year_3
def dkwX0_year_1 : List UInt8 := [154, 0, 5, 2, 172, 3, 54, 4, 3, 54, 5, 21, 5, 29, 162, 0, 71, 42, 180, 0, 55, 42]
abbrev dktX0_year_1 : List UInt8 := dkwX0_year_1 ++ dktX0_year_2
def dkwX0_year_0 : List UInt8 := [42, 27, 182, 0, 185, 153, 0, 20, 28, 184, 0, 252, 153, 0, 13, 29, 4, 16, 20, 184, 0, 147]
abbrev dktX0_year_0 : List UInt8 := dkwX0_year_0 ++ dktX0_year_1
theorem dksX0_year_0 : cX0_year.data.toList.drop 0 = dktX0_year_0 := by decide +kernel
theorem dksX0_year_1 : cX0_year.data.toList.drop 22 = dktX0_year_1 := dk_seg dksX0_year_0 22 rfl rfl
theorem dksX0_year_2 : cX0_year.data.toList.drop 44 = dktX0_year_2 := dk_seg dksX0_year_1 22 rfl rfl
theorem dksX0_year_3 : cX0_year.data.toList.drop 68 = dktX0_year_3 := dk_seg dksX0_year_2 24 rfl rfl
theorem dksX0_year_4 : cX0_year.data.toList.drop 90 = dktX0_year_4 := dk_seg dksX0_year_3 22 rfl rfl
theorem dX0_year_0 : decode cX0_year 0 = .ok (.aload_n 0, 1) := dk_42 (dk_at dksX0_year_0 0 rfl rfl)
theorem dX0_year_1 : decode cX0_year 1 = .ok (.iload_n 1, 1) := dk_27 (dk_at dksX0_year_0 1 rfl rfl)
theorem dX0_year_2 : decode cX0_year 2 = .ok (.invokevirtual 185, 3) := dk_182 0 185 (dk_at dksX0_year_0 2 rfl rfl)
theorem dX0_year_5 : decode cX0_year 5 = .ok (.ifCond .eq 20, 3) := dk_153 0 20 (dk_at dksX0_year_0 5 rfl rfl)
theorem dX0_year_8 : decode cX0_year 8 = .ok (.iload_n 2, 1) := dk_28 (dk_at dksX0_year_0 8 rfl rfl)
theorem dX0_year_9 : decode cX0_year 9 = .ok (.invokestatic 252, 3) := dk_184 0 252 (dk_at dksX0_year_0 9 rfl rfl)
theorem dX0_year_12 : decode cX0_year 12 = .ok (.ifCond .eq 13, 3) := dk_153 0 13 (dk_at dksX0_year_0 12 rfl rfl)
theorem dX0_year_15 : decode cX0_year 15 = .ok (.iload_n 3, 1) := dk_29 (dk_at dksX0_year_0 15 rfl rfl)
theorem dX0_year_16 : decode cX0_year 16 = .ok (.iconst 1, 1) := dk_4 (dk_at dksX0_year_0 16 rfl rfl)
theorem dX0_year_17 : decode cX0_year 17 = .ok (.bipush 20, 2) := dk_16 20 (dk_at dksX0_year_0 17 rfl rfl)
theorem dX0_year_19 : decode cX0_year 19 = .ok (.invokestatic 147, 3) := dk_184 0 147 (dk_at dksX0_year_0 19 rfl rfl)
theorem dX0_year_22 : decode cX0_year 22 = .ok (.ifCond .ne 5, 3) := dk_154 0 5 (dk_at dksX0_year_1 0 rfl rfl)
theorem dX0_year_25 : decode cX0_year 25 = .ok (.iconst (-1), 1) := dk_2 (dk_at dksX0_year_1 3 rfl rfl)
theorem dX0_year_26 : decode cX0_year 26 = .ok (.ireturn, 1) := dk_172 (dk_at dksX0_year_1 4 rfl rfl)
theorem dX0_year_27 : decode cX0_year 27 = .ok (.iconst 0, 1) := dk_3 (dk_at dksX0_year_1 5 rfl rfl)
theorem dX0_year_28 : decode cX0_year 28 = .ok (.istore 4, 2) := dk_54 4 (dk_at dksX0_year_1 6 rfl rfl)
theorem dX0_year_30 : decode cX0_year 30 = .ok (.iconst 0, 1) := dk_3 (dk_at dksX0_year_1 8 rfl rfl)
theorem dX0_year_31 : decode cX0_year 31 = .ok (.istore 5, 2) := dk_54 5 (dk_at dksX0_year_1 9 rfl rfl)
theorem dX0_year_33 : decode cX0_year 33 = .ok (.iload 5, 2) := dk_21 5 (dk_at dksX0_year_1 11 rfl rfl)
theorem dX0_year_35 : decode cX0_year 35 = .ok (.iload_n 3, 1) := dk_29 (dk_at dksX0_year_1 13 rfl rfl)
theorem dX0_year_36 : decode cX0_year 36 = .ok (.if_icmp .ge 71, 3) := dk_162 0 71 (dk_at dksX0_year_1 14 rfl rfl)
theorem dX0_year_39 : decode cX0_year 39 = .ok (.aload_n 0, 1) := dk_42 (dk_at dksX0_year_1 17 rfl rfl)
theorem dX0_year_40 : decode cX0_year 40 = .ok (.getfield 55, 3) := dk_180 0 55 (dk_at dksX0_year_1 18 rfl rfl)
theorem dX0_year_43 : decode cX0_year 43 = .ok (.aload_n 0, 1) := dk_42 (dk_at dksX0_year_1 21 rfl rfl)
theorem dX0_year_44 : decode cX0_year 44 = .ok (.getfield 51, 3) := dk_180 0 51 (dk_at dksX0_year_2 0 rfl rfl)
theorem dX0_year_47 : decode cX0_year 47 = .ok (.invokevirtual 221, 3) := dk_182 0 221 (dk_at dksX0_year_2 3 rfl rfl)
theorem dX0_year_50 : decode cX0_year 50 = .ok (.aload_n 0, 1) := dk_42 (dk_at dksX0_year_2 6 rfl rfl)
theorem dX0_year_51 : decode cX0_year 51 = .ok (.getfield 55, 3) := dk_180 0 55 (dk_at dksX0_year_2 7 rfl rfl)
theorem dX0_year_54 : decode cX0_year 54 = .ok (.aload_n 0, 1) := dk_42 (dk_at dksX0_year_2 10 rfl rfl)
theorem dX0_year_55 : decode cX0_year 55 = .ok (.getfield 40, 3) := dk_180 0 40 (dk_at dksX0_year_2 11 rfl rfl)
theorem dX0_year_58 : decode cX0_year 58 = .ok (.getfield 317, 3) := dk_180 1 61 (dk_at dksX0_year_2 14 rfl rfl)
theorem dX0_year_61 : decode cX0_year 61 = .ok (.iload 5, 2) := dk_21 5 (dk_at dksX0_year_2 17 rfl rfl)
theorem dX0_year_63 : decode cX0_year 63 = .ok (.iadd, 1) := dk_96 (dk_at dksX0_year_2 19 rfl rfl)
theorem dX0_year_64 : decode cX0_year 64 = .ok (.putfield 320, 3) := dk_181 1 64 (dk_at dksX0_year_2 20 rfl rfl)
theorem dX0_year_67 : decode cX0_year 67 = .ok (.aload_n 0, 1) := dk_42 (dk_at dksX0_year_2 23 rfl rfl)
theorem dX0_year_68 : decode cX0_year 68 = .ok (.aload_n 0, 1) := dk_42 (dk_at dksX0_year_3 0 rfl rfl)
theorem dX0_year_69 : decode cX0_year 69 = .ok (.getfield 55, 3) := dk_180 0 55 (dk_at dksX0_year_3 1 rfl rfl)
theorem dX0_year_72 : decode cX0_year 72 = .ok (.iload_n 2, 1) := dk_28 (dk_at dksX0_year_3 4 rfl rfl)
theorem dX0_year_73 : decode cX0_year 73 = .ok (.aload_n 0, 1) := dk_42 (dk_at dksX0_year_3 5 rfl rfl)
theorem dX0_year_74 : decode cX0_year 74 = .ok (.getfield 68, 3) := dk_180 0 68 (dk_at dksX0_year_3 6 rfl rfl)
theorem dX0_year_77 : decode cX0_year 77 = .ok (.invokevirtual 255, 3) := dk_182 0 255 (dk_at dksX0_year_3 9 rfl rfl)
theorem dX0_year_80 : decode cX0_year 80 = .ok (.iload 4, 2) := dk_21 4 (dk_at dksX0_year_3 12 rfl rfl)
theorem dX0_year_82 : decode cX0_year 82 = .ok (.aload_n 0, 1) := dk_42 (dk_at dksX0_year_3 14 rfl rfl)
theorem dX0_year_83 : decode cX0_year 83 = .ok (.getfield 55, 3) := dk_180 0 55 (dk_at dksX0_year_3 15 rfl rfl)
theorem dX0_year_86 : decode cX0_year 86 = .ok (.iload_n 1, 1) := dk_27 (dk_at dksX0_year_3 18 rfl rfl)
theorem dX0_year_87 : decode cX0_year 87 = .ok (.invokevirtual 203, 3) := dk_182 0 203 (dk_at dksX0_year_3 19 rfl rfl)
theorem dX0_year_90 : decode cX0_year 90 = .ok (.ifCond .eq 7, 3) := dk_153 0 7 (dk_at dksX0_year_4 0 rfl rfl)
theorem dX0_year_93 : decode cX0_year 93 = .ok (.iconst 0, 1) := dk_3 (dk_at dksX0_year_4 3 rfl rfl)
theorem dX0_year_94 : decode cX0_year 94 = .ok (.goto 4, 3) := dk_167 0 4 (dk_at dksX0_year_4 4 rfl rfl)
theorem dX0_year_97 : decode cX0_year 97 = .ok (.iconst 1, 1) := dk_4 (dk_at dksX0_year_4 7 rfl rfl)
theorem dX0_year_98 : decode cX0_year 98 = .ok (.iadd, 1) := dk_96 (dk_at dksX0_year_4 8 rfl rfl)
theorem dX0_year_99 : decode cX0_year 99 = .ok (.istore 4, 2) := dk_54 4 (dk_at dksX0_year_4 9 rfl rfl)
theorem dX0_year_101 : decode cX0_year 101 = .ok (.iinc 5 1, 3) := dk_132 5 1 (dk_at dksX0_year_4 11 rfl rfl)
theorem dX0_year_104 : decode cX0_year 104 = .ok (.goto (-71), 3) := dk_167 255 185 (dk_at dksX0_year_4 14 rfl rfl)
theorem dX0_year_107 : decode cX0_year 107 = .ok (.iload 4, 2) := dk_21 4 (dk_at dksX0_year_4 17 rfl rfl)
theorem dX0_year_109 : decode cX0_year 109 = .ok (.ireturn, 1) := dk_172 (dk_at dksX0_year_4 19 rfl rfl)
abbrev cX0_tell : ByteArray := prog_1_method_59_code
def yX0_tell : MethodName := ⟨RX0, "tell", "(IZ)I"⟩
def dkwX0_tell_2 : List UInt8 := [4, 96, 181, 0, 125, 42, 180, 0, 125, 4, 100, 172]
abbrev dktX0_tell_2 : List UInt8 := dkwX0_tell_2 ++ []
def dkwX0_tell_1 : List UInt8 := [180, 0, 97, 42, 180, 0, 125, 27, 79, 42, 180, 0, 100, 42, 180, 0, 125, 28, 84, 42, 89, 180, 0, 125]
abbrev dktX0_tell_1 : List UInt8 := dkwX0_tell_1 ++ dktX0_tell_2
def dkwX0_tell_0 : List UInt8 := [27, 3, 16, 23, 184, 0, 147, 153, 0, 12, 42, 180, 0, 125, 16, 20, 160, 0, 5, 2, 172, 42]
abbrev dktX0_tell_0 : List UInt8 := dkwX0_tell_0 ++ dktX0_tell_1
theorem dksX0_tell_0 : cX0_tell.data.toList.drop 0 = dktX0_tell_0 := by decide +kernel
theorem dksX0_tell_1 : cX0_tell.data.toList.drop 22 = dktX0_tell_1 := dk_seg dksX0_tell_0 22 rfl rfl
theorem dksX0_tell_2 : cX0_tell.data.toList.drop 46 = dktX0_tell_2 := dk_seg dksX0_tell_1 24 rfl rfl
theorem dX0_tell_0 : decode cX0_tell 0 = .ok (.iload_n 1, 1) := dk_27 (dk_at dksX0_tell_0 0 rfl rfl)
theorem dX0_tell_1 : decode cX0_tell 1 = .ok (.iconst 0, 1) := dk_3 (dk_at dksX0_tell_0 1 rfl rfl)
theorem dX0_tell_2 : decode cX0_tell 2 = .ok (.bipush 23, 2) := dk_16 23 (dk_at dksX0_tell_0 2 rfl rfl)
theorem dX0_tell_4 : decode cX0_tell 4 = .ok (.invokestatic 147, 3) := dk_184 0 147 (dk_at dksX0_tell_0 4 rfl rfl)
theorem dX0_tell_7 : decode cX0_tell 7 = .ok (.ifCond .eq 12, 3) := dk_153 0 12 (dk_at dksX0_tell_0 7 rfl rfl)
theorem dX0_tell_10 : decode cX0_tell 10 = .ok (.aload_n 0, 1) := dk_42 (dk_at dksX0_tell_0 10 rfl rfl)
theorem dX0_tell_11 : decode cX0_tell 11 = .ok (.getfield 125, 3) := dk_180 0 125 (dk_at dksX0_tell_0 11 rfl rfl)
theorem dX0_tell_14 : decode cX0_tell 14 = .ok (.bipush 20, 2) := dk_16 20 (dk_at dksX0_tell_0 14 rfl rfl)
theorem dX0_tell_16 : decode cX0_tell 16 = .ok (.if_icmp .ne 5, 3) := dk_160 0 5 (dk_at dksX0_tell_0 16 rfl rfl)
theorem dX0_tell_19 : decode cX0_tell 19 = .ok (.iconst (-1), 1) := dk_2 (dk_at dksX0_tell_0 19 rfl rfl)
theorem dX0_tell_20 : decode cX0_tell 20 = .ok (.ireturn, 1) := dk_172 (dk_at dksX0_tell_0 20 rfl rfl)
theorem dX0_tell_21 : decode cX0_tell 21 = .ok (.aload_n 0, 1) := dk_42 (dk_at dksX0_tell_0 21 rfl rfl)
theorem dX0_tell_22 : decode cX0_tell 22 = .ok (.getfield 97, 3) := dk_180 0 97 (dk_at dksX0_tell_1 0 rfl rfl)
theorem dX0_tell_25 : decode cX0_tell 25 = .ok (.aload_n 0, 1) := dk_42 (dk_at dksX0_tell_1 3 rfl rfl)
theorem dX0_tell_26 : decode cX0_tell 26 = .ok (.getfield 125, 3) := dk_180 0 125 (dk_at dksX0_tell_1 4 rfl rfl)
theorem dX0_tell_29 : decode cX0_tell 29 = .ok (.iload_n 1, 1) := dk_27 (dk_at dksX0_tell_1 7 rfl rfl)
theorem dX0_tell_30 : decode cX0_tell 30 = .ok (.iastore, 1) := dk_79 (dk_at dksX0_tell_1 8 rfl rfl)
theorem dX0_tell_31 : decode cX0_tell 31 = .ok (.aload_n 0, 1) := dk_42 (dk_at dksX0_tell_1 9 rfl rfl)
theorem dX0_tell_32 : decode cX0_tell 32 = .ok (.getfield 100, 3) := dk_180 0 100 (dk_at dksX0_tell_1 10 rfl rfl)
theorem dX0_tell_35 : decode cX0_tell 35 = .ok (.aload_n 0, 1) := dk_42 (dk_at dksX0_tell_1 13 rfl rfl)
theorem dX0_tell_36 : decode cX0_tell 36 = .ok (.getfield 125, 3) := dk_180 0 125 (dk_at dksX0_tell_1 14 rfl rfl)
theorem dX0_tell_39 : decode cX0_tell 39 = .ok (.iload_n 2, 1) := dk_28 (dk_at dksX0_tell_1 17 rfl rfl)
theorem dX0_tell_40 : decode cX0_tell 40 = .ok (.bastore, 1) := dk_84 (dk_at dksX0_tell_1 18 rfl rfl)
theorem dX0_tell_41 : decode cX0_tell 41 = .ok (.aload_n 0, 1) := dk_42 (dk_at dksX0_tell_1 19 rfl rfl)
theorem dX0_tell_42 : decode cX0_tell 42 = .ok (.dup, 1) := dk_89 (dk_at dksX0_tell_1 20 rfl rfl)
theorem dX0_tell_43 : decode cX0_tell 43 = .ok (.getfield 125, 3) := dk_180 0 125 (dk_at dksX0_tell_1 21 rfl rfl)
theorem dX0_tell_46 : decode cX0_tell 46 = .ok (.iconst 1, 1) := dk_4 (dk_at dksX0_tell_2 0 rfl rfl)
theorem dX0_tell_47 : decode cX0_tell 47 = .ok (.iadd, 1) := dk_96 (dk_at dksX0_tell_2 1 rfl rfl)
theorem dX0_tell_48 : decode cX0_tell 48 = .ok (.putfield 125, 3) := dk_181 0 125 (dk_at dksX0_tell_2 2 rfl rfl)
theorem dX0_tell_51 : decode cX0_tell 51 = .ok (.aload_n 0, 1) := dk_42 (dk_at dksX0_tell_2 5 rfl rfl)
theorem dX0_tell_52 : decode cX0_tell 52 = .ok (.getfield 125, 3) := dk_180 0 125 (dk_at dksX0_tell_2 6 rfl rfl)
theorem dX0_tell_55 : decode cX0_tell 55 = .ok (.iconst 1, 1) := dk_4 (dk_at dksX0_tell_2 9 rfl rfl)
theorem dX0_tell_56 : decode cX0_tell 56 = .ok (.isub, 1) := dk_100 (dk_at dksX0_tell_2 10 rfl rfl)
theorem dX0_tell_57 : decode cX0_tell 57 = .ok (.ireturn, 1) := dk_172 (dk_at dksX0_tell_2 11 rfl rfl)
abbrev cX0_forget : ByteArray := prog_1_method_60_code
def yX0_forget : MethodName := ⟨RX0, "forget", "()I"⟩
def dkwX0_forget_0 : List UInt8 := [42, 180, 0, 125, 60, 42, 3, 181, 0, 125, 27, 172]
abbrev dktX0_forget_0 : List UInt8 := dkwX0_forget_0 ++ []
theorem dksX0_forget_0 : cX0_forget.data.toList.drop 0 = dktX0_forget_0 := by decide +kernel
theorem dX0_forget_0 : decode cX0_forget 0 = .ok (.aload_n 0, 1) := dk_42 (dk_at dksX0_forget_0 0 rfl rfl)
theorem dX0_forget_1 : decode cX0_forget 1 = .ok (.getfield 125, 3) := dk_180 0 125 (dk_at dksX0_forget_0 1 rfl rfl)
theorem dX0_forget_4 : decode cX0_forget 4 = .ok (.istore_n 1, 1) := dk_60 (dk_at dksX0_forget_0 4 rfl rfl)
theorem dX0_forget_5 : decode cX0_forget 5 = .ok (.aload_n 0, 1) := dk_42 (dk_at dksX0_forget_0 5 rfl rfl)
theorem dX0_forget_6 : decode cX0_forget 6 = .ok (.iconst 0, 1) := dk_3 (dk_at dksX0_forget_0 6 rfl rfl)
theorem dX0_forget_7 : decode cX0_forget 7 = .ok (.putfield 125, 3) := dk_181 0 125 (dk_at dksX0_forget_0 7 rfl rfl)
theorem dX0_forget_10 : decode cX0_forget 10 = .ok (.iload_n 1, 1) := dk_27 (dk_at dksX0_forget_0 10 rfl rfl)
theorem dX0_forget_11 : decode cX0_forget 11 = .ok (.ireturn, 1) := dk_172 (dk_at dksX0_forget_0 11 rfl rfl)
abbrev cX0_whose : ByteArray := prog_1_method_62_code
def yX0_whose : MethodName := ⟨RX0, "whose", "(II)I"⟩
def dkwX0_whose_1 : List UInt8 := [27, 182, 1, 65, 62, 28, 154, 0, 10, 29, 184, 1, 41, 167, 0, 4, 29, 172]
abbrev dktX0_whose_1 : List UInt8 := dkwX0_whose_1 ++ []
def dkwX0_whose_0 : List UInt8 := [27, 3, 42, 180, 0, 125, 184, 0, 147, 153, 0, 12, 28, 3, 4, 184, 0, 147, 154, 0, 5, 2, 172, 42]
abbrev dktX0_whose_0 : List UInt8 := dkwX0_whose_0 ++ dktX0_whose_1
theorem dksX0_whose_0 : cX0_whose.data.toList.drop 0 = dktX0_whose_0 := by decide +kernel
theorem dksX0_whose_1 : cX0_whose.data.toList.drop 24 = dktX0_whose_1 := dk_seg dksX0_whose_0 24 rfl rfl
theorem dX0_whose_0 : decode cX0_whose 0 = .ok (.iload_n 1, 1) := dk_27 (dk_at dksX0_whose_0 0 rfl rfl)
theorem dX0_whose_1 : decode cX0_whose 1 = .ok (.iconst 0, 1) := dk_3 (dk_at dksX0_whose_0 1 rfl rfl)
theorem dX0_whose_2 : decode cX0_whose 2 = .ok (.aload_n 0, 1) := dk_42 (dk_at dksX0_whose_0 2 rfl rfl)
theorem dX0_whose_3 : decode cX0_whose 3 = .ok (.getfield 125, 3) := dk_180 0 125 (dk_at dksX0_whose_0 3 rfl rfl)
theorem dX0_whose_6 : decode cX0_whose 6 = .ok (.invokestatic 147, 3) := dk_184 0 147 (dk_at dksX0_whose_0 6 rfl rfl)
theorem dX0_whose_9 : decode cX0_whose 9 = .ok (.ifCond .eq 12, 3) := dk_153 0 12 (dk_at dksX0_whose_0 9 rfl rfl)
theorem dX0_whose_12 : decode cX0_whose 12 = .ok (.iload_n 2, 1) := dk_28 (dk_at dksX0_whose_0 12 rfl rfl)
theorem dX0_whose_13 : decode cX0_whose 13 = .ok (.iconst 0, 1) := dk_3 (dk_at dksX0_whose_0 13 rfl rfl)
theorem dX0_whose_14 : decode cX0_whose 14 = .ok (.iconst 1, 1) := dk_4 (dk_at dksX0_whose_0 14 rfl rfl)
theorem dX0_whose_15 : decode cX0_whose 15 = .ok (.invokestatic 147, 3) := dk_184 0 147 (dk_at dksX0_whose_0 15 rfl rfl)
theorem dX0_whose_18 : decode cX0_whose 18 = .ok (.ifCond .ne 5, 3) := dk_154 0 5 (dk_at dksX0_whose_0 18 rfl rfl)
theorem dX0_whose_21 : decode cX0_whose 21 = .ok (.iconst (-1), 1) := dk_2 (dk_at dksX0_whose_0 21 rfl rfl)
theorem dX0_whose_22 : decode cX0_whose 22 = .ok (.ireturn, 1) := dk_172 (dk_at dksX0_whose_0 22 rfl rfl)
theorem dX0_whose_23 : decode cX0_whose 23 = .ok (.aload_n 0, 1) := dk_42 (dk_at dksX0_whose_0 23 rfl rfl)
theorem dX0_whose_24 : decode cX0_whose 24 = .ok (.iload_n 1, 1) := dk_27 (dk_at dksX0_whose_1 0 rfl rfl)
theorem dX0_whose_25 : decode cX0_whose 25 = .ok (.invokevirtual 321, 3) := dk_182 1 65 (dk_at dksX0_whose_1 1 rfl rfl)
theorem dX0_whose_28 : decode cX0_whose 28 = .ok (.istore_n 3, 1) := dk_62 (dk_at dksX0_whose_1 4 rfl rfl)
theorem dX0_whose_29 : decode cX0_whose 29 = .ok (.iload_n 2, 1) := dk_28 (dk_at dksX0_whose_1 5 rfl rfl)
theorem dX0_whose_30 : decode cX0_whose 30 = .ok (.ifCond .ne 10, 3) := dk_154 0 10 (dk_at dksX0_whose_1 6 rfl rfl)
theorem dX0_whose_33 : decode cX0_whose 33 = .ok (.iload_n 3, 1) := dk_29 (dk_at dksX0_whose_1 9 rfl rfl)
theorem dX0_whose_34 : decode cX0_whose 34 = .ok (.invokestatic 297, 3) := dk_184 1 41 (dk_at dksX0_whose_1 10 rfl rfl)
theorem dX0_whose_37 : decode cX0_whose 37 = .ok (.goto 4, 3) := dk_167 0 4 (dk_at dksX0_whose_1 13 rfl rfl)
theorem dX0_whose_40 : decode cX0_whose 40 = .ok (.iload_n 3, 1) := dk_29 (dk_at dksX0_whose_1 16 rfl rfl)
theorem dX0_whose_41 : decode cX0_whose 41 = .ok (.ireturn, 1) := dk_172 (dk_at dksX0_whose_1 17 rfl rfl)
abbrev cX0_whoseBy : ByteArray := prog_1_method_61_code
def yX0_whoseBy : MethodName := ⟨RX0, "whoseBy", "(I)I"⟩
def dkwX0_whoseBy_4 : List UInt8 := [167, 255, 166, 28, 172]
abbrev dktX0_whoseBy_4 : List UInt8 := dkwX0_whoseBy_4 ++ []
def dkwX0_whoseBy_3 : List UInt8 := [132, 5, 1, 167, 255, 201, 28, 21, 4, 153, 0, 9, 4, 29, 120, 167, 0, 4, 3, 128, 61, 132, 3, 1]
abbrev dktX0_whoseBy_3 : List UInt8 := dkwX0_whoseBy_3 ++ dktX0_whoseBy_4
def dkwX0_whoseBy_2 : List UInt8 := [21, 5, 46, 182, 0, 212, 42, 180, 0, 100, 21, 5, 51, 160, 0, 7, 4, 167, 0, 4, 3, 54, 4]
abbrev dktX0_whoseBy_2 : List UInt8 := dkwX0_whoseBy_2 ++ dktX0_whoseBy_3
def dkwX0_whoseBy_1 : List UInt8 := [21, 4, 153, 0, 41, 42, 180, 0, 40, 180, 0, 142, 29, 182, 0, 160, 192, 0, 188, 42, 180, 0, 97]
abbrev dktX0_whoseBy_1 : List UInt8 := dkwX0_whoseBy_1 ++ dktX0_whoseBy_2
def dkwX0_whoseBy_0 : List UInt8 := [3, 61, 3, 62, 29, 42, 182, 0, 151, 162, 0, 88, 4, 54, 4, 3, 54, 5, 21, 5, 27, 162, 0, 55]
abbrev dktX0_whoseBy_0 : List UInt8 := dkwX0_whoseBy_0 ++ dktX0_whoseBy_1
theorem dksX0_whoseBy_0 : cX0_whoseBy.data.toList.drop 0 = dktX0_whoseBy_0 := by decide +kernel
theorem dksX0_whoseBy_1 : cX0_whoseBy.data.toList.drop 24 = dktX0_whoseBy_1 := dk_seg dksX0_whoseBy_0 24 rfl rfl
theorem dksX0_whoseBy_2 : cX0_whoseBy.data.toList.drop 47 = dktX0_whoseBy_2 := dk_seg dksX0_whoseBy_1 23 rfl rfl
theorem dksX0_whoseBy_3 : cX0_whoseBy.data.toList.drop 70 = dktX0_whoseBy_3 := dk_seg dksX0_whoseBy_2 23 rfl rfl
theorem dksX0_whoseBy_4 : cX0_whoseBy.data.toList.drop 94 = dktX0_whoseBy_4 := dk_seg dksX0_whoseBy_3 24 rfl rfl
theorem dX0_whoseBy_0 : decode cX0_whoseBy 0 = .ok (.iconst 0, 1) := dk_3 (dk_at dksX0_whoseBy_0 0 rfl rfl)
theorem dX0_whoseBy_1 : decode cX0_whoseBy 1 = .ok (.istore_n 2, 1) := dk_61 (dk_at dksX0_whoseBy_0 1 rfl rfl)
theorem dX0_whoseBy_2 : decode cX0_whoseBy 2 = .ok (.iconst 0, 1) := dk_3 (dk_at dksX0_whoseBy_0 2 rfl rfl)
theorem dX0_whoseBy_3 : decode cX0_whoseBy 3 = .ok (.istore_n 3, 1) := dk_62 (dk_at dksX0_whoseBy_0 3 rfl rfl)
theorem dX0_whoseBy_4 : decode cX0_whoseBy 4 = .ok (.iload_n 3, 1) := dk_29 (dk_at dksX0_whoseBy_0 4 rfl rfl)
theorem dX0_whoseBy_5 : decode cX0_whoseBy 5 = .ok (.aload_n 0, 1) := dk_42 (dk_at dksX0_whoseBy_0 5 rfl rfl)
theorem dX0_whoseBy_6 : decode cX0_whoseBy 6 = .ok (.invokevirtual 151, 3) := dk_182 0 151 (dk_at dksX0_whoseBy_0 6 rfl rfl)
theorem dX0_whoseBy_9 : decode cX0_whoseBy 9 = .ok (.if_icmp .ge 88, 3) := dk_162 0 88 (dk_at dksX0_whoseBy_0 9 rfl rfl)
theorem dX0_whoseBy_12 : decode cX0_whoseBy 12 = .ok (.iconst 1, 1) := dk_4 (dk_at dksX0_whoseBy_0 12 rfl rfl)
theorem dX0_whoseBy_13 : decode cX0_whoseBy 13 = .ok (.istore 4, 2) := dk_54 4 (dk_at dksX0_whoseBy_0 13 rfl rfl)
theorem dX0_whoseBy_15 : decode cX0_whoseBy 15 = .ok (.iconst 0, 1) := dk_3 (dk_at dksX0_whoseBy_0 15 rfl rfl)
theorem dX0_whoseBy_16 : decode cX0_whoseBy 16 = .ok (.istore 5, 2) := dk_54 5 (dk_at dksX0_whoseBy_0 16 rfl rfl)
theorem dX0_whoseBy_18 : decode cX0_whoseBy 18 = .ok (.iload 5, 2) := dk_21 5 (dk_at dksX0_whoseBy_0 18 rfl rfl)
theorem dX0_whoseBy_20 : decode cX0_whoseBy 20 = .ok (.iload_n 1, 1) := dk_27 (dk_at dksX0_whoseBy_0 20 rfl rfl)
theorem dX0_whoseBy_21 : decode cX0_whoseBy 21 = .ok (.if_icmp .ge 55, 3) := dk_162 0 55 (dk_at dksX0_whoseBy_0 21 rfl rfl)
theorem dX0_whoseBy_24 : decode cX0_whoseBy 24 = .ok (.iload 4, 2) := dk_21 4 (dk_at dksX0_whoseBy_1 0 rfl rfl)
theorem dX0_whoseBy_26 : decode cX0_whoseBy 26 = .ok (.ifCond .eq 41, 3) := dk_153 0 41 (dk_at dksX0_whoseBy_1 2 rfl rfl)
theorem dX0_whoseBy_29 : decode cX0_whoseBy 29 = .ok (.aload_n 0, 1) := dk_42 (dk_at dksX0_whoseBy_1 5 rfl rfl)
theorem dX0_whoseBy_30 : decode cX0_whoseBy 30 = .ok (.getfield 40, 3) := dk_180 0 40 (dk_at dksX0_whoseBy_1 6 rfl rfl)
theorem dX0_whoseBy_33 : decode cX0_whoseBy 33 = .ok (.getfield 142, 3) := dk_180 0 142 (dk_at dksX0_whoseBy_1 9 rfl rfl)
theorem dX0_whoseBy_36 : decode cX0_whoseBy 36 = .ok (.iload_n 3, 1) := dk_29 (dk_at dksX0_whoseBy_1 12 rfl rfl)
theorem dX0_whoseBy_37 : decode cX0_whoseBy 37 = .ok (.invokevirtual 160, 3) := dk_182 0 160 (dk_at dksX0_whoseBy_1 13 rfl rfl)
theorem dX0_whoseBy_40 : decode cX0_whoseBy 40 = .ok (.checkcast 188, 3) := dk_192 0 188 (dk_at dksX0_whoseBy_1 16 rfl rfl)
theorem dX0_whoseBy_43 : decode cX0_whoseBy 43 = .ok (.aload_n 0, 1) := dk_42 (dk_at dksX0_whoseBy_1 19 rfl rfl)
theorem dX0_whoseBy_44 : decode cX0_whoseBy 44 = .ok (.getfield 97, 3) := dk_180 0 97 (dk_at dksX0_whoseBy_1 20 rfl rfl)
theorem dX0_whoseBy_47 : decode cX0_whoseBy 47 = .ok (.iload 5, 2) := dk_21 5 (dk_at dksX0_whoseBy_2 0 rfl rfl)
theorem dX0_whoseBy_49 : decode cX0_whoseBy 49 = .ok (.iaload, 1) := dk_46 (dk_at dksX0_whoseBy_2 2 rfl rfl)
theorem dX0_whoseBy_50 : decode cX0_whoseBy 50 = .ok (.invokevirtual 212, 3) := dk_182 0 212 (dk_at dksX0_whoseBy_2 3 rfl rfl)
theorem dX0_whoseBy_53 : decode cX0_whoseBy 53 = .ok (.aload_n 0, 1) := dk_42 (dk_at dksX0_whoseBy_2 6 rfl rfl)
theorem dX0_whoseBy_54 : decode cX0_whoseBy 54 = .ok (.getfield 100, 3) := dk_180 0 100 (dk_at dksX0_whoseBy_2 7 rfl rfl)
theorem dX0_whoseBy_57 : decode cX0_whoseBy 57 = .ok (.iload 5, 2) := dk_21 5 (dk_at dksX0_whoseBy_2 10 rfl rfl)
theorem dX0_whoseBy_59 : decode cX0_whoseBy 59 = .ok (.baload, 1) := dk_51 (dk_at dksX0_whoseBy_2 12 rfl rfl)
theorem dX0_whoseBy_60 : decode cX0_whoseBy 60 = .ok (.if_icmp .ne 7, 3) := dk_160 0 7 (dk_at dksX0_whoseBy_2 13 rfl rfl)
theorem dX0_whoseBy_63 : decode cX0_whoseBy 63 = .ok (.iconst 1, 1) := dk_4 (dk_at dksX0_whoseBy_2 16 rfl rfl)
theorem dX0_whoseBy_64 : decode cX0_whoseBy 64 = .ok (.goto 4, 3) := dk_167 0 4 (dk_at dksX0_whoseBy_2 17 rfl rfl)
theorem dX0_whoseBy_67 : decode cX0_whoseBy 67 = .ok (.iconst 0, 1) := dk_3 (dk_at dksX0_whoseBy_2 20 rfl rfl)
theorem dX0_whoseBy_68 : decode cX0_whoseBy 68 = .ok (.istore 4, 2) := dk_54 4 (dk_at dksX0_whoseBy_2 21 rfl rfl)
theorem dX0_whoseBy_70 : decode cX0_whoseBy 70 = .ok (.iinc 5 1, 3) := dk_132 5 1 (dk_at dksX0_whoseBy_3 0 rfl rfl)
theorem dX0_whoseBy_73 : decode cX0_whoseBy 73 = .ok (.goto (-55), 3) := dk_167 255 201 (dk_at dksX0_whoseBy_3 3 rfl rfl)
theorem dX0_whoseBy_76 : decode cX0_whoseBy 76 = .ok (.iload_n 2, 1) := dk_28 (dk_at dksX0_whoseBy_3 6 rfl rfl)
theorem dX0_whoseBy_77 : decode cX0_whoseBy 77 = .ok (.iload 4, 2) := dk_21 4 (dk_at dksX0_whoseBy_3 7 rfl rfl)
theorem dX0_whoseBy_79 : decode cX0_whoseBy 79 = .ok (.ifCond .eq 9, 3) := dk_153 0 9 (dk_at dksX0_whoseBy_3 9 rfl rfl)
theorem dX0_whoseBy_82 : decode cX0_whoseBy 82 = .ok (.iconst 1, 1) := dk_4 (dk_at dksX0_whoseBy_3 12 rfl rfl)
theorem dX0_whoseBy_83 : decode cX0_whoseBy 83 = .ok (.iload_n 3, 1) := dk_29 (dk_at dksX0_whoseBy_3 13 rfl rfl)
theorem dX0_whoseBy_84 : decode cX0_whoseBy 84 = .ok (.ishl, 1) := dk_120 (dk_at dksX0_whoseBy_3 14 rfl rfl)
theorem dX0_whoseBy_85 : decode cX0_whoseBy 85 = .ok (.goto 4, 3) := dk_167 0 4 (dk_at dksX0_whoseBy_3 15 rfl rfl)
theorem dX0_whoseBy_88 : decode cX0_whoseBy 88 = .ok (.iconst 0, 1) := dk_3 (dk_at dksX0_whoseBy_3 18 rfl rfl)
theorem dX0_whoseBy_89 : decode cX0_whoseBy 89 = .ok (.ior, 1) := dk_128 (dk_at dksX0_whoseBy_3 19 rfl rfl)
theorem dX0_whoseBy_90 : decode cX0_whoseBy 90 = .ok (.istore_n 2, 1) := dk_61 (dk_at dksX0_whoseBy_3 20 rfl rfl)
theorem dX0_whoseBy_91 : decode cX0_whoseBy 91 = .ok (.iinc 3 1, 3) := dk_132 3 1 (dk_at dksX0_whoseBy_3 21 rfl rfl)
theorem dX0_whoseBy_94 : decode cX0_whoseBy 94 = .ok (.goto (-90), 3) := dk_167 255 166 (dk_at dksX0_whoseBy_4 0 rfl rfl)
theorem dX0_whoseBy_97 : decode cX0_whoseBy 97 = .ok (.iload_n 2, 1) := dk_28 (dk_at dksX0_whoseBy_4 3 rfl rfl)
theorem dX0_whoseBy_98 : decode cX0_whoseBy 98 = .ok (.ireturn, 1) := dk_172 (dk_at dksX0_whoseBy_4 4 rfl rfl)
abbrev cX0_look : ByteArray := prog_1_method_63_code
def yX0_look : MethodName := ⟨RX0, "look", "(I)I"⟩
def dkwX0_look_6 : List UInt8 := [132, 5, 1, 167, 255, 147, 29, 172]
abbrev dktX0_look_6 : List UInt8 := dkwX0_look_6 ++ []
def dkwX0_look_5 : List UInt8 := [184, 0, 245, 54, 7, 21, 7, 21, 4, 161, 0, 6, 167, 0, 10, 21, 5, 62, 21, 7, 54, 4]
abbrev dktX0_look_5 : List UInt8 := dkwX0_look_5 ++ dktX0_look_6
def dkwX0_look_4 : List UInt8 := [167, 0, 4, 3, 96, 54, 6, 132, 7, 1, 167, 255, 201, 21, 6, 28, 184, 1, 41, 21, 6, 100]
abbrev dktX0_look_4 : List UInt8 := dkwX0_look_4 ++ dktX0_look_5
def dkwX0_look_3 : List UInt8 := [180, 0, 40, 180, 0, 142, 21, 7, 182, 0, 160, 192, 0, 188, 21, 5, 182, 0, 212, 153, 0, 7, 4]
abbrev dktX0_look_3 : List UInt8 := dkwX0_look_3 ++ dktX0_look_4
def dkwX0_look_2 : List UInt8 := [54, 7, 21, 7, 42, 182, 0, 151, 162, 0, 52, 21, 6, 28, 21, 7, 122, 4, 126, 4, 160, 0, 30, 42]
abbrev dktX0_look_2 : List UInt8 := dkwX0_look_2 ++ dktX0_look_3
def dkwX0_look_1 : List UInt8 := [19, 1, 49, 54, 4, 3, 54, 5, 21, 5, 16, 24, 162, 0, 108, 28, 153, 0, 104, 3, 54, 6, 3]
abbrev dktX0_look_1 : List UInt8 := dkwX0_look_1 ++ dktX0_look_2
def dkwX0_look_0 : List UInt8 := [27, 3, 42, 180, 0, 125, 184, 0, 147, 154, 0, 5, 2, 172, 42, 27, 182, 1, 65, 61, 16, 254, 62]
abbrev dktX0_look_0 : List UInt8 := dkwX0_look_0 ++ dktX0_look_1
theorem dksX0_look_0 : cX0_look.data.toList.drop 0 = dktX0_look_0 := by decide +kernel
theorem dksX0_look_1 : cX0_look.data.toList.drop 23 = dktX0_look_1 := dk_seg dksX0_look_0 23 rfl rfl
theorem dksX0_look_2 : cX0_look.data.toList.drop 46 = dktX0_look_2 := dk_seg dksX0_look_1 23 rfl rfl
theorem dksX0_look_3 : cX0_look.data.toList.drop 70 = dktX0_look_3 := dk_seg dksX0_look_2 24 rfl rfl
theorem dksX0_look_4 : cX0_look.data.toList.drop 93 = dktX0_look_4 := dk_seg dksX0_look_3 23 rfl rfl
theorem dksX0_look_5 : cX0_look.data.toList.drop 115 = dktX0_look_5 := dk_seg dksX0_look_4 22 rfl rfl
theorem dksX0_look_6 : cX0_look.data.toList.drop 137 = dktX0_look_6 := dk_seg dksX0_look_5 22 rfl rfl
theorem dX0_look_0 : decode cX0_look 0 = .ok (.iload_n 1, 1) := dk_27 (dk_at dksX0_look_0 0 rfl rfl)
theorem dX0_look_1 : decode cX0_look 1 = .ok (.iconst 0, 1) := dk_3 (dk_at dksX0_look_0 1 rfl rfl)
theorem dX0_look_2 : decode cX0_look 2 = .ok (.aload_n 0, 1) := dk_42 (dk_at dksX0_look_0 2 rfl rfl)
theorem dX0_look_3 : decode cX0_look 3 = .ok (.getfield 125, 3) := dk_180 0 125 (dk_at dksX0_look_0 3 rfl rfl)
theorem dX0_look_6 : decode cX0_look 6 = .ok (.invokestatic 147, 3) := dk_184 0 147 (dk_at dksX0_look_0 6 rfl rfl)
theorem dX0_look_9 : decode cX0_look 9 = .ok (.ifCond .ne 5, 3) := dk_154 0 5 (dk_at dksX0_look_0 9 rfl rfl)
theorem dX0_look_12 : decode cX0_look 12 = .ok (.iconst (-1), 1) := dk_2 (dk_at dksX0_look_0 12 rfl rfl)
theorem dX0_look_13 : decode cX0_look 13 = .ok (.ireturn, 1) := dk_172 (dk_at dksX0_look_0 13 rfl rfl)
theorem dX0_look_14 : decode cX0_look 14 = .ok (.aload_n 0, 1) := dk_42 (dk_at dksX0_look_0 14 rfl rfl)
theorem dX0_look_15 : decode cX0_look 15 = .ok (.iload_n 1, 1) := dk_27 (dk_at dksX0_look_0 15 rfl rfl)
theorem dX0_look_16 : decode cX0_look 16 = .ok (.invokevirtual 321, 3) := dk_182 1 65 (dk_at dksX0_look_0 16 rfl rfl)
theorem dX0_look_19 : decode cX0_look 19 = .ok (.istore_n 2, 1) := dk_61 (dk_at dksX0_look_0 19 rfl rfl)
theorem dX0_look_20 : decode cX0_look 20 = .ok (.bipush (-2), 2) := dk_16 254 (dk_at dksX0_look_0 20 rfl rfl)
theorem dX0_look_22 : decode cX0_look 22 = .ok (.istore_n 3, 1) := dk_62 (dk_at dksX0_look_0 22 rfl rfl)
theorem dX0_look_23 : decode cX0_look 23 = .ok (.ldc_w 305, 3) := dk_19 1 49 (dk_at dksX0_look_1 0 rfl rfl)
theorem dX0_look_26 : decode cX0_look 26 = .ok (.istore 4, 2) := dk_54 4 (dk_at dksX0_look_1 3 rfl rfl)
theorem dX0_look_28 : decode cX0_look 28 = .ok (.iconst 0, 1) := dk_3 (dk_at dksX0_look_1 5 rfl rfl)
theorem dX0_look_29 : decode cX0_look 29 = .ok (.istore 5, 2) := dk_54 5 (dk_at dksX0_look_1 6 rfl rfl)
theorem dX0_look_31 : decode cX0_look 31 = .ok (.iload 5, 2) := dk_21 5 (dk_at dksX0_look_1 8 rfl rfl)
theorem dX0_look_33 : decode cX0_look 33 = .ok (.bipush 24, 2) := dk_16 24 (dk_at dksX0_look_1 10 rfl rfl)
theorem dX0_look_35 : decode cX0_look 35 = .ok (.if_icmp .ge 108, 3) := dk_162 0 108 (dk_at dksX0_look_1 12 rfl rfl)
theorem dX0_look_38 : decode cX0_look 38 = .ok (.iload_n 2, 1) := dk_28 (dk_at dksX0_look_1 15 rfl rfl)
theorem dX0_look_39 : decode cX0_look 39 = .ok (.ifCond .eq 104, 3) := dk_153 0 104 (dk_at dksX0_look_1 16 rfl rfl)
theorem dX0_look_42 : decode cX0_look 42 = .ok (.iconst 0, 1) := dk_3 (dk_at dksX0_look_1 19 rfl rfl)
theorem dX0_look_43 : decode cX0_look 43 = .ok (.istore 6, 2) := dk_54 6 (dk_at dksX0_look_1 20 rfl rfl)
theorem dX0_look_45 : decode cX0_look 45 = .ok (.iconst 0, 1) := dk_3 (dk_at dksX0_look_1 22 rfl rfl)
theorem dX0_look_46 : decode cX0_look 46 = .ok (.istore 7, 2) := dk_54 7 (dk_at dksX0_look_2 0 rfl rfl)
theorem dX0_look_48 : decode cX0_look 48 = .ok (.iload 7, 2) := dk_21 7 (dk_at dksX0_look_2 2 rfl rfl)
theorem dX0_look_50 : decode cX0_look 50 = .ok (.aload_n 0, 1) := dk_42 (dk_at dksX0_look_2 4 rfl rfl)
theorem dX0_look_51 : decode cX0_look 51 = .ok (.invokevirtual 151, 3) := dk_182 0 151 (dk_at dksX0_look_2 5 rfl rfl)
theorem dX0_look_54 : decode cX0_look 54 = .ok (.if_icmp .ge 52, 3) := dk_162 0 52 (dk_at dksX0_look_2 8 rfl rfl)
theorem dX0_look_57 : decode cX0_look 57 = .ok (.iload 6, 2) := dk_21 6 (dk_at dksX0_look_2 11 rfl rfl)
theorem dX0_look_59 : decode cX0_look 59 = .ok (.iload_n 2, 1) := dk_28 (dk_at dksX0_look_2 13 rfl rfl)
theorem dX0_look_60 : decode cX0_look 60 = .ok (.iload 7, 2) := dk_21 7 (dk_at dksX0_look_2 14 rfl rfl)
theorem dX0_look_62 : decode cX0_look 62 = .ok (.ishr, 1) := dk_122 (dk_at dksX0_look_2 16 rfl rfl)
theorem dX0_look_63 : decode cX0_look 63 = .ok (.iconst 1, 1) := dk_4 (dk_at dksX0_look_2 17 rfl rfl)
theorem dX0_look_64 : decode cX0_look 64 = .ok (.iand, 1) := dk_126 (dk_at dksX0_look_2 18 rfl rfl)
theorem dX0_look_65 : decode cX0_look 65 = .ok (.iconst 1, 1) := dk_4 (dk_at dksX0_look_2 19 rfl rfl)
theorem dX0_look_66 : decode cX0_look 66 = .ok (.if_icmp .ne 30, 3) := dk_160 0 30 (dk_at dksX0_look_2 20 rfl rfl)
theorem dX0_look_69 : decode cX0_look 69 = .ok (.aload_n 0, 1) := dk_42 (dk_at dksX0_look_2 23 rfl rfl)
theorem dX0_look_70 : decode cX0_look 70 = .ok (.getfield 40, 3) := dk_180 0 40 (dk_at dksX0_look_3 0 rfl rfl)
theorem dX0_look_73 : decode cX0_look 73 = .ok (.getfield 142, 3) := dk_180 0 142 (dk_at dksX0_look_3 3 rfl rfl)
theorem dX0_look_76 : decode cX0_look 76 = .ok (.iload 7, 2) := dk_21 7 (dk_at dksX0_look_3 6 rfl rfl)
theorem dX0_look_78 : decode cX0_look 78 = .ok (.invokevirtual 160, 3) := dk_182 0 160 (dk_at dksX0_look_3 8 rfl rfl)
theorem dX0_look_81 : decode cX0_look 81 = .ok (.checkcast 188, 3) := dk_192 0 188 (dk_at dksX0_look_3 11 rfl rfl)
theorem dX0_look_84 : decode cX0_look 84 = .ok (.iload 5, 2) := dk_21 5 (dk_at dksX0_look_3 14 rfl rfl)
theorem dX0_look_86 : decode cX0_look 86 = .ok (.invokevirtual 212, 3) := dk_182 0 212 (dk_at dksX0_look_3 16 rfl rfl)
theorem dX0_look_89 : decode cX0_look 89 = .ok (.ifCond .eq 7, 3) := dk_153 0 7 (dk_at dksX0_look_3 19 rfl rfl)
theorem dX0_look_92 : decode cX0_look 92 = .ok (.iconst 1, 1) := dk_4 (dk_at dksX0_look_3 22 rfl rfl)
theorem dX0_look_93 : decode cX0_look 93 = .ok (.goto 4, 3) := dk_167 0 4 (dk_at dksX0_look_4 0 rfl rfl)
theorem dX0_look_96 : decode cX0_look 96 = .ok (.iconst 0, 1) := dk_3 (dk_at dksX0_look_4 3 rfl rfl)
theorem dX0_look_97 : decode cX0_look 97 = .ok (.iadd, 1) := dk_96 (dk_at dksX0_look_4 4 rfl rfl)
theorem dX0_look_98 : decode cX0_look 98 = .ok (.istore 6, 2) := dk_54 6 (dk_at dksX0_look_4 5 rfl rfl)
theorem dX0_look_100 : decode cX0_look 100 = .ok (.iinc 7 1, 3) := dk_132 7 1 (dk_at dksX0_look_4 7 rfl rfl)
theorem dX0_look_103 : decode cX0_look 103 = .ok (.goto (-55), 3) := dk_167 255 201 (dk_at dksX0_look_4 10 rfl rfl)
theorem dX0_look_106 : decode cX0_look 106 = .ok (.iload 6, 2) := dk_21 6 (dk_at dksX0_look_4 13 rfl rfl)
theorem dX0_look_108 : decode cX0_look 108 = .ok (.iload_n 2, 1) := dk_28 (dk_at dksX0_look_4 15 rfl rfl)
theorem dX0_look_109 : decode cX0_look 109 = .ok (.invokestatic 297, 3) := dk_184 1 41 (dk_at dksX0_look_4 16 rfl rfl)
theorem dX0_look_112 : decode cX0_look 112 = .ok (.iload 6, 2) := dk_21 6 (dk_at dksX0_look_4 19 rfl rfl)
theorem dX0_look_114 : decode cX0_look 114 = .ok (.isub, 1) := dk_100 (dk_at dksX0_look_4 21 rfl rfl)
theorem dX0_look_115 : decode cX0_look 115 = .ok (.invokestatic 245, 3) := dk_184 0 245 (dk_at dksX0_look_5 0 rfl rfl)
theorem dX0_look_118 : decode cX0_look 118 = .ok (.istore 7, 2) := dk_54 7 (dk_at dksX0_look_5 3 rfl rfl)
theorem dX0_look_120 : decode cX0_look 120 = .ok (.iload 7, 2) := dk_21 7 (dk_at dksX0_look_5 5 rfl rfl)
theorem dX0_look_122 : decode cX0_look 122 = .ok (.iload 4, 2) := dk_21 4 (dk_at dksX0_look_5 7 rfl rfl)
theorem dX0_look_124 : decode cX0_look 124 = .ok (.if_icmp .lt 6, 3) := dk_161 0 6 (dk_at dksX0_look_5 9 rfl rfl)
theorem dX0_look_127 : decode cX0_look 127 = .ok (.goto 10, 3) := dk_167 0 10 (dk_at dksX0_look_5 12 rfl rfl)
theorem dX0_look_130 : decode cX0_look 130 = .ok (.iload 5, 2) := dk_21 5 (dk_at dksX0_look_5 15 rfl rfl)
theorem dX0_look_132 : decode cX0_look 132 = .ok (.istore_n 3, 1) := dk_62 (dk_at dksX0_look_5 17 rfl rfl)
theorem dX0_look_133 : decode cX0_look 133 = .ok (.iload 7, 2) := dk_21 7 (dk_at dksX0_look_5 18 rfl rfl)
theorem dX0_look_135 : decode cX0_look 135 = .ok (.istore 4, 2) := dk_54 4 (dk_at dksX0_look_5 20 rfl rfl)
theorem dX0_look_137 : decode cX0_look 137 = .ok (.iinc 5 1, 3) := dk_132 5 1 (dk_at dksX0_look_6 0 rfl rfl)
theorem dX0_look_140 : decode cX0_look 140 = .ok (.goto (-109), 3) := dk_167 255 147 (dk_at dksX0_look_6 3 rfl rfl)
theorem dX0_look_143 : decode cX0_look 143 = .ok (.iload_n 3, 1) := dk_29 (dk_at dksX0_look_6 6 rfl rfl)
theorem dX0_look_144 : decode cX0_look 144 = .ok (.ireturn, 1) := dk_172 (dk_at dksX0_look_6 7 rfl rfl)
abbrev cX0_hold : ByteArray := prog_1_method_64_code
def yX0_hold : MethodName := ⟨RX0, "hold", "(I)Z"⟩
def dkwX0_hold_1 : List UInt8 := [42, 180, 0, 78, 27, 4, 84, 4, 172]
abbrev dktX0_hold_1 : List UInt8 := dkwX0_hold_1 ++ []
def dkwX0_hold_0 : List UInt8 := [27, 3, 5, 184, 0, 147, 154, 0, 5, 3, 172, 42, 180, 0, 62, 27, 50, 42, 180, 0, 51, 182, 0, 221]
abbrev dktX0_hold_0 : List UInt8 := dkwX0_hold_0 ++ dktX0_hold_1
theorem dksX0_hold_0 : cX0_hold.data.toList.drop 0 = dktX0_hold_0 := by decide +kernel
theorem dksX0_hold_1 : cX0_hold.data.toList.drop 24 = dktX0_hold_1 := dk_seg dksX0_hold_0 24 rfl rfl
theorem dX0_hold_0 : decode cX0_hold 0 = .ok (.iload_n 1, 1) := dk_27 (dk_at dksX0_hold_0 0 rfl rfl)
theorem dX0_hold_1 : decode cX0_hold 1 = .ok (.iconst 0, 1) := dk_3 (dk_at dksX0_hold_0 1 rfl rfl)
theorem dX0_hold_2 : decode cX0_hold 2 = .ok (.iconst 2, 1) := dk_5 (dk_at dksX0_hold_0 2 rfl rfl)
theorem dX0_hold_3 : decode cX0_hold 3 = .ok (.invokestatic 147, 3) := dk_184 0 147 (dk_at dksX0_hold_0 3 rfl rfl)
theorem dX0_hold_6 : decode cX0_hold 6 = .ok (.ifCond .ne 5, 3) := dk_154 0 5 (dk_at dksX0_hold_0 6 rfl rfl)
theorem dX0_hold_9 : decode cX0_hold 9 = .ok (.iconst 0, 1) := dk_3 (dk_at dksX0_hold_0 9 rfl rfl)
theorem dX0_hold_10 : decode cX0_hold 10 = .ok (.ireturn, 1) := dk_172 (dk_at dksX0_hold_0 10 rfl rfl)
theorem dX0_hold_11 : decode cX0_hold 11 = .ok (.aload_n 0, 1) := dk_42 (dk_at dksX0_hold_0 11 rfl rfl)
theorem dX0_hold_12 : decode cX0_hold 12 = .ok (.getfield 62, 3) := dk_180 0 62 (dk_at dksX0_hold_0 12 rfl rfl)
theorem dX0_hold_15 : decode cX0_hold 15 = .ok (.iload_n 1, 1) := dk_27 (dk_at dksX0_hold_0 15 rfl rfl)
theorem dX0_hold_16 : decode cX0_hold 16 = .ok (.aaload, 1) := dk_50 (dk_at dksX0_hold_0 16 rfl rfl)
theorem dX0_hold_17 : decode cX0_hold 17 = .ok (.aload_n 0, 1) := dk_42 (dk_at dksX0_hold_0 17 rfl rfl)
theorem dX0_hold_18 : decode cX0_hold 18 = .ok (.getfield 51, 3) := dk_180 0 51 (dk_at dksX0_hold_0 18 rfl rfl)
theorem dX0_hold_21 : decode cX0_hold 21 = .ok (.invokevirtual 221, 3) := dk_182 0 221 (dk_at dksX0_hold_0 21 rfl rfl)
theorem dX0_hold_24 : decode cX0_hold 24 = .ok (.aload_n 0, 1) := dk_42 (dk_at dksX0_hold_1 0 rfl rfl)
theorem dX0_hold_25 : decode cX0_hold 25 = .ok (.getfield 78, 3) := dk_180 0 78 (dk_at dksX0_hold_1 1 rfl rfl)
theorem dX0_hold_28 : decode cX0_hold 28 = .ok (.iload_n 1, 1) := dk_27 (dk_at dksX0_hold_1 4 rfl rfl)
theorem dX0_hold_29 : decode cX0_hold 29 = .ok (.iconst 1, 1) := dk_4 (dk_at dksX0_hold_1 5 rfl rfl)
theorem dX0_hold_30 : decode cX0_hold 30 = .ok (.bastore, 1) := dk_84 (dk_at dksX0_hold_1 6 rfl rfl)
theorem dX0_hold_31 : decode cX0_hold 31 = .ok (.iconst 1, 1) := dk_4 (dk_at dksX0_hold_1 7 rfl rfl)
theorem dX0_hold_32 : decode cX0_hold 32 = .ok (.ireturn, 1) := dk_172 (dk_at dksX0_hold_1 8 rfl rfl)
abbrev cX0_restore : ByteArray := prog_1_method_65_code
def yX0_restore : MethodName := ⟨RX0, "restore", "(I)Z"⟩
def dkwX0_restore_1 : List UInt8 := [42, 180, 0, 62, 27, 50, 182, 0, 221, 42, 3, 181, 0, 122, 4, 172]
abbrev dktX0_restore_1 : List UInt8 := dkwX0_restore_1 ++ []
def dkwX0_restore_0 : List UInt8 := [27, 3, 5, 184, 0, 147, 153, 0, 12, 42, 180, 0, 78, 27, 51, 154, 0, 5, 3, 172, 42, 180, 0, 51]
abbrev dktX0_restore_0 : List UInt8 := dkwX0_restore_0 ++ dktX0_restore_1
theorem dksX0_restore_0 : cX0_restore.data.toList.drop 0 = dktX0_restore_0 := by decide +kernel
theorem dksX0_restore_1 : cX0_restore.data.toList.drop 24 = dktX0_restore_1 := dk_seg dksX0_restore_0 24 rfl rfl
theorem dX0_restore_0 : decode cX0_restore 0 = .ok (.iload_n 1, 1) := dk_27 (dk_at dksX0_restore_0 0 rfl rfl)
theorem dX0_restore_1 : decode cX0_restore 1 = .ok (.iconst 0, 1) := dk_3 (dk_at dksX0_restore_0 1 rfl rfl)
theorem dX0_restore_2 : decode cX0_restore 2 = .ok (.iconst 2, 1) := dk_5 (dk_at dksX0_restore_0 2 rfl rfl)
theorem dX0_restore_3 : decode cX0_restore 3 = .ok (.invokestatic 147, 3) := dk_184 0 147 (dk_at dksX0_restore_0 3 rfl rfl)
theorem dX0_restore_6 : decode cX0_restore 6 = .ok (.ifCond .eq 12, 3) := dk_153 0 12 (dk_at dksX0_restore_0 6 rfl rfl)
theorem dX0_restore_9 : decode cX0_restore 9 = .ok (.aload_n 0, 1) := dk_42 (dk_at dksX0_restore_0 9 rfl rfl)
theorem dX0_restore_10 : decode cX0_restore 10 = .ok (.getfield 78, 3) := dk_180 0 78 (dk_at dksX0_restore_0 10 rfl rfl)
theorem dX0_restore_13 : decode cX0_restore 13 = .ok (.iload_n 1, 1) := dk_27 (dk_at dksX0_restore_0 13 rfl rfl)
theorem dX0_restore_14 : decode cX0_restore 14 = .ok (.baload, 1) := dk_51 (dk_at dksX0_restore_0 14 rfl rfl)
theorem dX0_restore_15 : decode cX0_restore 15 = .ok (.ifCond .ne 5, 3) := dk_154 0 5 (dk_at dksX0_restore_0 15 rfl rfl)
theorem dX0_restore_18 : decode cX0_restore 18 = .ok (.iconst 0, 1) := dk_3 (dk_at dksX0_restore_0 18 rfl rfl)
theorem dX0_restore_19 : decode cX0_restore 19 = .ok (.ireturn, 1) := dk_172 (dk_at dksX0_restore_0 19 rfl rfl)
theorem dX0_restore_20 : decode cX0_restore 20 = .ok (.aload_n 0, 1) := dk_42 (dk_at dksX0_restore_0 20 rfl rfl)
theorem dX0_restore_21 : decode cX0_restore 21 = .ok (.getfield 51, 3) := dk_180 0 51 (dk_at dksX0_restore_0 21 rfl rfl)
theorem dX0_restore_24 : decode cX0_restore 24 = .ok (.aload_n 0, 1) := dk_42 (dk_at dksX0_restore_1 0 rfl rfl)
theorem dX0_restore_25 : decode cX0_restore 25 = .ok (.getfield 62, 3) := dk_180 0 62 (dk_at dksX0_restore_1 1 rfl rfl)
theorem dX0_restore_28 : decode cX0_restore 28 = .ok (.iload_n 1, 1) := dk_27 (dk_at dksX0_restore_1 4 rfl rfl)
theorem dX0_restore_29 : decode cX0_restore 29 = .ok (.aaload, 1) := dk_50 (dk_at dksX0_restore_1 5 rfl rfl)
theorem dX0_restore_30 : decode cX0_restore 30 = .ok (.invokevirtual 221, 3) := dk_182 0 221 (dk_at dksX0_restore_1 6 rfl rfl)
theorem dX0_restore_33 : decode cX0_restore 33 = .ok (.aload_n 0, 1) := dk_42 (dk_at dksX0_restore_1 9 rfl rfl)
theorem dX0_restore_34 : decode cX0_restore 34 = .ok (.iconst 0, 1) := dk_3 (dk_at dksX0_restore_1 10 rfl rfl)
theorem dX0_restore_35 : decode cX0_restore 35 = .ok (.putfield 122, 3) := dk_181 0 122 (dk_at dksX0_restore_1 11 rfl rfl)
theorem dX0_restore_38 : decode cX0_restore 38 = .ok (.iconst 1, 1) := dk_4 (dk_at dksX0_restore_1 14 rfl rfl)
theorem dX0_restore_39 : decode cX0_restore 39 = .ok (.ireturn, 1) := dk_172 (dk_at dksX0_restore_1 15 rfl rfl)
abbrev cX0_count : ByteArray := prog_1_method_67_code
def yX0_count : MethodName := ⟨RX0, "count", "(I)I"⟩
def dkwX0_count_18 : List UInt8 := [182, 0, 160, 192, 0, 188, 180, 0, 194, 96, 61, 132, 3, 1, 167, 255, 210, 28, 172, 2, 172]
abbrev dktX0_count_18 : List UInt8 := dkwX0_count_18 ++ []
def dkwX0_count_17 : List UInt8 := [42, 180, 0, 51, 29, 182, 0, 203, 153, 0, 7, 3, 167, 0, 20, 42, 180, 0, 40, 180, 0, 142, 29]
abbrev dktX0_count_17 : List UInt8 := dkwX0_count_17 ++ dktX0_count_18
def dkwX0_count_16 : List UInt8 := [180, 0, 166, 96, 61, 132, 3, 1, 167, 255, 210, 28, 172, 3, 62, 29, 42, 182, 0, 151, 162, 0, 44, 28]
abbrev dktX0_count_16 : List UInt8 := dkwX0_count_16 ++ dktX0_count_17
def dkwX0_count_15 : List UInt8 := [182, 0, 157, 153, 0, 7, 3, 167, 0, 20, 42, 180, 0, 40, 180, 0, 132, 29, 182, 0, 160, 192, 0, 164]
abbrev dktX0_count_15 : List UInt8 := dkwX0_count_15 ++ dktX0_count_16
def dkwX0_count_14 : List UInt8 := [132, 3, 1, 167, 255, 227, 28, 172, 3, 62, 29, 42, 182, 0, 145, 162, 0, 44, 28, 42, 180, 0, 51, 29]
abbrev dktX0_count_14 : List UInt8 := dkwX0_count_14 ++ dktX0_count_15
def dkwX0_count_13 : List UInt8 := [182, 0, 151, 162, 0, 27, 28, 42, 29, 182, 1, 76, 153, 0, 9, 4, 29, 120, 167, 0, 4, 3, 128, 61]
abbrev dktX0_count_13 : List UInt8 := dkwX0_count_13 ++ dktX0_count_14
def dkwX0_count_12 : List UInt8 := [153, 0, 9, 4, 29, 120, 167, 0, 4, 3, 128, 61, 132, 3, 1, 167, 255, 224, 28, 172, 3, 62, 29, 42]
abbrev dktX0_count_12 : List UInt8 := dkwX0_count_12 ++ dktX0_count_13
def dkwX0_count_11 : List UInt8 := [5, 108, 172, 3, 62, 29, 42, 182, 0, 145, 162, 0, 30, 28, 42, 180, 0, 51, 29, 182, 0, 175]
abbrev dktX0_count_11 : List UInt8 := dkwX0_count_11 ++ dktX0_count_12
def dkwX0_count_10 : List UInt8 := [162, 0, 23, 28, 42, 180, 0, 40, 29, 182, 1, 6, 184, 1, 41, 96, 61, 132, 3, 1, 167, 255, 231, 28]
abbrev dktX0_count_10 : List UInt8 := dkwX0_count_10 ++ dktX0_count_11
def dkwX0_count_9 : List UInt8 := [184, 1, 72, 172, 42, 180, 0, 51, 180, 0, 200, 184, 1, 72, 172, 3, 62, 29, 42, 182, 0, 151]
abbrev dktX0_count_9 : List UInt8 := dkwX0_count_9 ++ dktX0_count_10
def dkwX0_count_8 : List UInt8 := [180, 0, 78, 5, 51, 153, 0, 7, 4, 167, 0, 4, 3, 96, 172, 42, 180, 0, 51, 180, 0, 172]
abbrev dktX0_count_8 : List UInt8 := dkwX0_count_8 ++ dktX0_count_9
def dkwX0_count_7 : List UInt8 := [153, 0, 7, 4, 167, 0, 4, 3, 42, 180, 0, 78, 4, 51, 153, 0, 7, 4, 167, 0, 4, 3, 96, 42]
abbrev dktX0_count_7 : List UInt8 := dkwX0_count_7 ++ dktX0_count_8
def dkwX0_count_6 : List UInt8 := [42, 180, 0, 24, 180, 0, 107, 172, 42, 180, 0, 122, 172, 42, 180, 0, 125, 172, 42, 180, 0, 78, 3, 51]
abbrev dktX0_count_6 : List UInt8 := dkwX0_count_6 ++ dktX0_count_7
def dkwX0_count_5 : List UInt8 := [180, 1, 9, 172, 42, 180, 0, 51, 180, 0, 242, 172, 42, 180, 0, 51, 42, 180, 0, 40, 182, 1, 68, 172]
abbrev dktX0_count_5 : List UInt8 := dkwX0_count_5 ++ dktX0_count_6
def dkwX0_count_4 : List UInt8 := [155, 0, 9, 4, 29, 120, 167, 0, 4, 3, 128, 61, 132, 3, 1, 167, 255, 223, 28, 172, 42, 180, 0, 51]
abbrev dktX0_count_4 : List UInt8 := dkwX0_count_4 ++ dktX0_count_5
def dkwX0_count_3 : List UInt8 := [180, 0, 239, 172, 3, 62, 29, 42, 182, 0, 151, 162, 0, 31, 28, 42, 180, 0, 51, 180, 0, 197, 29, 46]
abbrev dktX0_count_3 : List UInt8 := dkwX0_count_3 ++ dktX0_count_4
def dkwX0_count_2 : List UInt8 := [42, 182, 0, 145, 172, 42, 182, 0, 151, 172, 42, 180, 0, 51, 180, 1, 3, 172, 42, 180, 0, 51]
abbrev dktX0_count_2 : List UInt8 := dkwX0_count_2 ++ dktX0_count_3
def dkwX0_count_1 : List UInt8 := [170, 0, 0, 1, 227, 0, 0, 0, 0, 0, 0, 0, 18, 0, 0, 0, 89, 0, 0, 0, 94, 0, 0, 0, 99, 0, 0, 0, 107, 0, 0, 0, 115, 0, 0, 0, 155, 0, 0, 0, 163, 0, 0, 0, 171, 0, 0, 0, 183, 0, 0, 0, 191, 0, 0, 0, 196, 0, 0, 0, 201, 0, 0, 0, 246, 0, 0, 1, 1, 0, 0, 1, 12, 0, 0, 1, 46, 0, 0, 1, 85, 0, 0, 1, 121, 0, 0, 1, 174]
abbrev dktX0_count_1 : List UInt8 := dkwX0_count_1 ++ dktX0_count_2
def dkwX0_count_0 : List UInt8 := [3, 61, 27]
abbrev dktX0_count_0 : List UInt8 := dkwX0_count_0 ++ dktX0_count_1
theorem dksX0_count_0 : cX0_count.data.toList.drop 0 = dktX0_count_0 := by decide +kernel
theorem dksX0_count_1 : cX0_count.data.toList.drop 3 = dktX0_count_1 := dk_seg dksX0_count_0 3 rfl rfl
theorem dksX0_count_2 : cX0_count.data.toList.drop 92 = dktX0_count_2 := dk_seg dksX0_count_1 89 rfl rfl
theorem dksX0_count_3 : cX0_count.data.toList.drop 114 = dktX0_count_3 := dk_seg dksX0_count_2 22 rfl rfl
theorem dksX0_count_4 : cX0_count.data.toList.drop 138 = dktX0_count_4 := dk_seg dksX0_count_3 24 rfl rfl
theorem dksX0_count_5 : cX0_count.data.toList.drop 162 = dktX0_count_5 := dk_seg dksX0_count_4 24 rfl rfl
theorem dksX0_count_6 : cX0_count.data.toList.drop 186 = dktX0_count_6 := dk_seg dksX0_count_5 24 rfl rfl
theorem dksX0_count_7 : cX0_count.data.toList.drop 210 = dktX0_count_7 := dk_seg dksX0_count_6 24 rfl rfl
theorem dksX0_count_8 : cX0_count.data.toList.drop 234 = dktX0_count_8 := dk_seg dksX0_count_7 24 rfl rfl
theorem dksX0_count_9 : cX0_count.data.toList.drop 256 = dktX0_count_9 := dk_seg dksX0_count_8 22 rfl rfl
theorem dksX0_count_10 : cX0_count.data.toList.drop 278 = dktX0_count_10 := dk_seg dksX0_count_9 22 rfl rfl
theorem dksX0_count_11 : cX0_count.data.toList.drop 302 = dktX0_count_11 := dk_seg dksX0_count_10 24 rfl rfl
theorem dksX0_count_12 : cX0_count.data.toList.drop 324 = dktX0_count_12 := dk_seg dksX0_count_11 22 rfl rfl
theorem dksX0_count_13 : cX0_count.data.toList.drop 348 = dktX0_count_13 := dk_seg dksX0_count_12 24 rfl rfl
theorem dksX0_count_14 : cX0_count.data.toList.drop 372 = dktX0_count_14 := dk_seg dksX0_count_13 24 rfl rfl
theorem dksX0_count_15 : cX0_count.data.toList.drop 396 = dktX0_count_15 := dk_seg dksX0_count_14 24 rfl rfl
theorem dksX0_count_16 : cX0_count.data.toList.drop 420 = dktX0_count_16 := dk_seg dksX0_count_15 24 rfl rfl
theorem dksX0_count_17 : cX0_count.data.toList.drop 444 = dktX0_count_17 := dk_seg dksX0_count_16 24 rfl rfl
theorem dksX0_count_18 : cX0_count.data.toList.drop 467 = dktX0_count_18 := dk_seg dksX0_count_17 23 rfl rfl
theorem dX0_count_0 : decode cX0_count 0 = .ok (.iconst 0, 1) := dk_3 (dk_at dksX0_count_0 0 rfl rfl)
theorem dX0_count_1 : decode cX0_count 1 = .ok (.istore_n 2, 1) := dk_61 (dk_at dksX0_count_0 1 rfl rfl)
theorem dX0_count_2 : decode cX0_count 2 = .ok (.iload_n 1, 1) := dk_27 (dk_at dksX0_count_0 2 rfl rfl)
theorem dX0_count_3 : decode cX0_count 3 = .ok (.tableswitch 483 0 18 #[89, 94, 99, 107, 115, 155, 163, 171, 183, 191, 196, 201, 246, 257, 268, 302, 341, 377, 430], 89) := by decide +kernel
theorem dX0_count_92 : decode cX0_count 92 = .ok (.aload_n 0, 1) := dk_42 (dk_at dksX0_count_2 0 rfl rfl)
theorem dX0_count_93 : decode cX0_count 93 = .ok (.invokevirtual 145, 3) := dk_182 0 145 (dk_at dksX0_count_2 1 rfl rfl)
theorem dX0_count_96 : decode cX0_count 96 = .ok (.ireturn, 1) := dk_172 (dk_at dksX0_count_2 4 rfl rfl)
theorem dX0_count_97 : decode cX0_count 97 = .ok (.aload_n 0, 1) := dk_42 (dk_at dksX0_count_2 5 rfl rfl)
theorem dX0_count_98 : decode cX0_count 98 = .ok (.invokevirtual 151, 3) := dk_182 0 151 (dk_at dksX0_count_2 6 rfl rfl)
theorem dX0_count_101 : decode cX0_count 101 = .ok (.ireturn, 1) := dk_172 (dk_at dksX0_count_2 9 rfl rfl)
theorem dX0_count_102 : decode cX0_count 102 = .ok (.aload_n 0, 1) := dk_42 (dk_at dksX0_count_2 10 rfl rfl)
theorem dX0_count_103 : decode cX0_count 103 = .ok (.getfield 51, 3) := dk_180 0 51 (dk_at dksX0_count_2 11 rfl rfl)
theorem dX0_count_106 : decode cX0_count 106 = .ok (.getfield 259, 3) := dk_180 1 3 (dk_at dksX0_count_2 14 rfl rfl)
theorem dX0_count_109 : decode cX0_count 109 = .ok (.ireturn, 1) := dk_172 (dk_at dksX0_count_2 17 rfl rfl)
theorem dX0_count_110 : decode cX0_count 110 = .ok (.aload_n 0, 1) := dk_42 (dk_at dksX0_count_2 18 rfl rfl)
theorem dX0_count_111 : decode cX0_count 111 = .ok (.getfield 51, 3) := dk_180 0 51 (dk_at dksX0_count_2 19 rfl rfl)
theorem dX0_count_114 : decode cX0_count 114 = .ok (.getfield 239, 3) := dk_180 0 239 (dk_at dksX0_count_3 0 rfl rfl)
theorem dX0_count_117 : decode cX0_count 117 = .ok (.ireturn, 1) := dk_172 (dk_at dksX0_count_3 3 rfl rfl)
theorem dX0_count_118 : decode cX0_count 118 = .ok (.iconst 0, 1) := dk_3 (dk_at dksX0_count_3 4 rfl rfl)
theorem dX0_count_119 : decode cX0_count 119 = .ok (.istore_n 3, 1) := dk_62 (dk_at dksX0_count_3 5 rfl rfl)
theorem dX0_count_120 : decode cX0_count 120 = .ok (.iload_n 3, 1) := dk_29 (dk_at dksX0_count_3 6 rfl rfl)
theorem dX0_count_121 : decode cX0_count 121 = .ok (.aload_n 0, 1) := dk_42 (dk_at dksX0_count_3 7 rfl rfl)
theorem dX0_count_122 : decode cX0_count 122 = .ok (.invokevirtual 151, 3) := dk_182 0 151 (dk_at dksX0_count_3 8 rfl rfl)
theorem dX0_count_125 : decode cX0_count 125 = .ok (.if_icmp .ge 31, 3) := dk_162 0 31 (dk_at dksX0_count_3 11 rfl rfl)
theorem dX0_count_128 : decode cX0_count 128 = .ok (.iload_n 2, 1) := dk_28 (dk_at dksX0_count_3 14 rfl rfl)
theorem dX0_count_129 : decode cX0_count 129 = .ok (.aload_n 0, 1) := dk_42 (dk_at dksX0_count_3 15 rfl rfl)
theorem dX0_count_130 : decode cX0_count 130 = .ok (.getfield 51, 3) := dk_180 0 51 (dk_at dksX0_count_3 16 rfl rfl)
theorem dX0_count_133 : decode cX0_count 133 = .ok (.getfield 197, 3) := dk_180 0 197 (dk_at dksX0_count_3 19 rfl rfl)
theorem dX0_count_136 : decode cX0_count 136 = .ok (.iload_n 3, 1) := dk_29 (dk_at dksX0_count_3 22 rfl rfl)
theorem dX0_count_137 : decode cX0_count 137 = .ok (.iaload, 1) := dk_46 (dk_at dksX0_count_3 23 rfl rfl)
theorem dX0_count_138 : decode cX0_count 138 = .ok (.ifCond .lt 9, 3) := dk_155 0 9 (dk_at dksX0_count_4 0 rfl rfl)
theorem dX0_count_141 : decode cX0_count 141 = .ok (.iconst 1, 1) := dk_4 (dk_at dksX0_count_4 3 rfl rfl)
theorem dX0_count_142 : decode cX0_count 142 = .ok (.iload_n 3, 1) := dk_29 (dk_at dksX0_count_4 4 rfl rfl)
theorem dX0_count_143 : decode cX0_count 143 = .ok (.ishl, 1) := dk_120 (dk_at dksX0_count_4 5 rfl rfl)
theorem dX0_count_144 : decode cX0_count 144 = .ok (.goto 4, 3) := dk_167 0 4 (dk_at dksX0_count_4 6 rfl rfl)
theorem dX0_count_147 : decode cX0_count 147 = .ok (.iconst 0, 1) := dk_3 (dk_at dksX0_count_4 9 rfl rfl)
theorem dX0_count_148 : decode cX0_count 148 = .ok (.ior, 1) := dk_128 (dk_at dksX0_count_4 10 rfl rfl)
theorem dX0_count_149 : decode cX0_count 149 = .ok (.istore_n 2, 1) := dk_61 (dk_at dksX0_count_4 11 rfl rfl)
theorem dX0_count_150 : decode cX0_count 150 = .ok (.iinc 3 1, 3) := dk_132 3 1 (dk_at dksX0_count_4 12 rfl rfl)
theorem dX0_count_153 : decode cX0_count 153 = .ok (.goto (-33), 3) := dk_167 255 223 (dk_at dksX0_count_4 15 rfl rfl)
theorem dX0_count_156 : decode cX0_count 156 = .ok (.iload_n 2, 1) := dk_28 (dk_at dksX0_count_4 18 rfl rfl)
theorem dX0_count_157 : decode cX0_count 157 = .ok (.ireturn, 1) := dk_172 (dk_at dksX0_count_4 19 rfl rfl)
theorem dX0_count_158 : decode cX0_count 158 = .ok (.aload_n 0, 1) := dk_42 (dk_at dksX0_count_4 20 rfl rfl)
theorem dX0_count_159 : decode cX0_count 159 = .ok (.getfield 51, 3) := dk_180 0 51 (dk_at dksX0_count_4 21 rfl rfl)
theorem dX0_count_162 : decode cX0_count 162 = .ok (.getfield 265, 3) := dk_180 1 9 (dk_at dksX0_count_5 0 rfl rfl)
theorem dX0_count_165 : decode cX0_count 165 = .ok (.ireturn, 1) := dk_172 (dk_at dksX0_count_5 3 rfl rfl)
theorem dX0_count_166 : decode cX0_count 166 = .ok (.aload_n 0, 1) := dk_42 (dk_at dksX0_count_5 4 rfl rfl)
theorem dX0_count_167 : decode cX0_count 167 = .ok (.getfield 51, 3) := dk_180 0 51 (dk_at dksX0_count_5 5 rfl rfl)
theorem dX0_count_170 : decode cX0_count 170 = .ok (.getfield 242, 3) := dk_180 0 242 (dk_at dksX0_count_5 8 rfl rfl)
theorem dX0_count_173 : decode cX0_count 173 = .ok (.ireturn, 1) := dk_172 (dk_at dksX0_count_5 11 rfl rfl)
theorem dX0_count_174 : decode cX0_count 174 = .ok (.aload_n 0, 1) := dk_42 (dk_at dksX0_count_5 12 rfl rfl)
theorem dX0_count_175 : decode cX0_count 175 = .ok (.getfield 51, 3) := dk_180 0 51 (dk_at dksX0_count_5 13 rfl rfl)
theorem dX0_count_178 : decode cX0_count 178 = .ok (.aload_n 0, 1) := dk_42 (dk_at dksX0_count_5 16 rfl rfl)
theorem dX0_count_179 : decode cX0_count 179 = .ok (.getfield 40, 3) := dk_180 0 40 (dk_at dksX0_count_5 17 rfl rfl)
theorem dX0_count_182 : decode cX0_count 182 = .ok (.invokevirtual 324, 3) := dk_182 1 68 (dk_at dksX0_count_5 20 rfl rfl)
theorem dX0_count_185 : decode cX0_count 185 = .ok (.ireturn, 1) := dk_172 (dk_at dksX0_count_5 23 rfl rfl)
theorem dX0_count_186 : decode cX0_count 186 = .ok (.aload_n 0, 1) := dk_42 (dk_at dksX0_count_6 0 rfl rfl)
theorem dX0_count_187 : decode cX0_count 187 = .ok (.getfield 24, 3) := dk_180 0 24 (dk_at dksX0_count_6 1 rfl rfl)
theorem dX0_count_190 : decode cX0_count 190 = .ok (.getfield 107, 3) := dk_180 0 107 (dk_at dksX0_count_6 4 rfl rfl)
theorem dX0_count_193 : decode cX0_count 193 = .ok (.ireturn, 1) := dk_172 (dk_at dksX0_count_6 7 rfl rfl)
theorem dX0_count_194 : decode cX0_count 194 = .ok (.aload_n 0, 1) := dk_42 (dk_at dksX0_count_6 8 rfl rfl)
theorem dX0_count_195 : decode cX0_count 195 = .ok (.getfield 122, 3) := dk_180 0 122 (dk_at dksX0_count_6 9 rfl rfl)
theorem dX0_count_198 : decode cX0_count 198 = .ok (.ireturn, 1) := dk_172 (dk_at dksX0_count_6 12 rfl rfl)
theorem dX0_count_199 : decode cX0_count 199 = .ok (.aload_n 0, 1) := dk_42 (dk_at dksX0_count_6 13 rfl rfl)
theorem dX0_count_200 : decode cX0_count 200 = .ok (.getfield 125, 3) := dk_180 0 125 (dk_at dksX0_count_6 14 rfl rfl)
theorem dX0_count_203 : decode cX0_count 203 = .ok (.ireturn, 1) := dk_172 (dk_at dksX0_count_6 17 rfl rfl)
theorem dX0_count_204 : decode cX0_count 204 = .ok (.aload_n 0, 1) := dk_42 (dk_at dksX0_count_6 18 rfl rfl)
theorem dX0_count_205 : decode cX0_count 205 = .ok (.getfield 78, 3) := dk_180 0 78 (dk_at dksX0_count_6 19 rfl rfl)
theorem dX0_count_208 : decode cX0_count 208 = .ok (.iconst 0, 1) := dk_3 (dk_at dksX0_count_6 22 rfl rfl)
theorem dX0_count_209 : decode cX0_count 209 = .ok (.baload, 1) := dk_51 (dk_at dksX0_count_6 23 rfl rfl)
theorem dX0_count_210 : decode cX0_count 210 = .ok (.ifCond .eq 7, 3) := dk_153 0 7 (dk_at dksX0_count_7 0 rfl rfl)
theorem dX0_count_213 : decode cX0_count 213 = .ok (.iconst 1, 1) := dk_4 (dk_at dksX0_count_7 3 rfl rfl)
theorem dX0_count_214 : decode cX0_count 214 = .ok (.goto 4, 3) := dk_167 0 4 (dk_at dksX0_count_7 4 rfl rfl)
theorem dX0_count_217 : decode cX0_count 217 = .ok (.iconst 0, 1) := dk_3 (dk_at dksX0_count_7 7 rfl rfl)
theorem dX0_count_218 : decode cX0_count 218 = .ok (.aload_n 0, 1) := dk_42 (dk_at dksX0_count_7 8 rfl rfl)
theorem dX0_count_219 : decode cX0_count 219 = .ok (.getfield 78, 3) := dk_180 0 78 (dk_at dksX0_count_7 9 rfl rfl)
theorem dX0_count_222 : decode cX0_count 222 = .ok (.iconst 1, 1) := dk_4 (dk_at dksX0_count_7 12 rfl rfl)
theorem dX0_count_223 : decode cX0_count 223 = .ok (.baload, 1) := dk_51 (dk_at dksX0_count_7 13 rfl rfl)
theorem dX0_count_224 : decode cX0_count 224 = .ok (.ifCond .eq 7, 3) := dk_153 0 7 (dk_at dksX0_count_7 14 rfl rfl)
theorem dX0_count_227 : decode cX0_count 227 = .ok (.iconst 1, 1) := dk_4 (dk_at dksX0_count_7 17 rfl rfl)
theorem dX0_count_228 : decode cX0_count 228 = .ok (.goto 4, 3) := dk_167 0 4 (dk_at dksX0_count_7 18 rfl rfl)
theorem dX0_count_231 : decode cX0_count 231 = .ok (.iconst 0, 1) := dk_3 (dk_at dksX0_count_7 21 rfl rfl)
theorem dX0_count_232 : decode cX0_count 232 = .ok (.iadd, 1) := dk_96 (dk_at dksX0_count_7 22 rfl rfl)
theorem dX0_count_233 : decode cX0_count 233 = .ok (.aload_n 0, 1) := dk_42 (dk_at dksX0_count_7 23 rfl rfl)
theorem dX0_count_234 : decode cX0_count 234 = .ok (.getfield 78, 3) := dk_180 0 78 (dk_at dksX0_count_8 0 rfl rfl)
theorem dX0_count_237 : decode cX0_count 237 = .ok (.iconst 2, 1) := dk_5 (dk_at dksX0_count_8 3 rfl rfl)
theorem dX0_count_238 : decode cX0_count 238 = .ok (.baload, 1) := dk_51 (dk_at dksX0_count_8 4 rfl rfl)
theorem dX0_count_239 : decode cX0_count 239 = .ok (.ifCond .eq 7, 3) := dk_153 0 7 (dk_at dksX0_count_8 5 rfl rfl)
theorem dX0_count_242 : decode cX0_count 242 = .ok (.iconst 1, 1) := dk_4 (dk_at dksX0_count_8 8 rfl rfl)
theorem dX0_count_243 : decode cX0_count 243 = .ok (.goto 4, 3) := dk_167 0 4 (dk_at dksX0_count_8 9 rfl rfl)
theorem dX0_count_246 : decode cX0_count 246 = .ok (.iconst 0, 1) := dk_3 (dk_at dksX0_count_8 12 rfl rfl)
theorem dX0_count_247 : decode cX0_count 247 = .ok (.iadd, 1) := dk_96 (dk_at dksX0_count_8 13 rfl rfl)
theorem dX0_count_248 : decode cX0_count 248 = .ok (.ireturn, 1) := dk_172 (dk_at dksX0_count_8 14 rfl rfl)
theorem dX0_count_249 : decode cX0_count 249 = .ok (.aload_n 0, 1) := dk_42 (dk_at dksX0_count_8 15 rfl rfl)
theorem dX0_count_250 : decode cX0_count 250 = .ok (.getfield 51, 3) := dk_180 0 51 (dk_at dksX0_count_8 16 rfl rfl)
theorem dX0_count_253 : decode cX0_count 253 = .ok (.getfield 172, 3) := dk_180 0 172 (dk_at dksX0_count_8 19 rfl rfl)
theorem dX0_count_256 : decode cX0_count 256 = .ok (.invokestatic 328, 3) := dk_184 1 72 (dk_at dksX0_count_9 0 rfl rfl)
theorem dX0_count_259 : decode cX0_count 259 = .ok (.ireturn, 1) := dk_172 (dk_at dksX0_count_9 3 rfl rfl)
theorem dX0_count_260 : decode cX0_count 260 = .ok (.aload_n 0, 1) := dk_42 (dk_at dksX0_count_9 4 rfl rfl)
theorem dX0_count_261 : decode cX0_count 261 = .ok (.getfield 51, 3) := dk_180 0 51 (dk_at dksX0_count_9 5 rfl rfl)
theorem dX0_count_264 : decode cX0_count 264 = .ok (.getfield 200, 3) := dk_180 0 200 (dk_at dksX0_count_9 8 rfl rfl)
theorem dX0_count_267 : decode cX0_count 267 = .ok (.invokestatic 328, 3) := dk_184 1 72 (dk_at dksX0_count_9 11 rfl rfl)
theorem dX0_count_270 : decode cX0_count 270 = .ok (.ireturn, 1) := dk_172 (dk_at dksX0_count_9 14 rfl rfl)
theorem dX0_count_271 : decode cX0_count 271 = .ok (.iconst 0, 1) := dk_3 (dk_at dksX0_count_9 15 rfl rfl)
theorem dX0_count_272 : decode cX0_count 272 = .ok (.istore_n 3, 1) := dk_62 (dk_at dksX0_count_9 16 rfl rfl)
theorem dX0_count_273 : decode cX0_count 273 = .ok (.iload_n 3, 1) := dk_29 (dk_at dksX0_count_9 17 rfl rfl)
theorem dX0_count_274 : decode cX0_count 274 = .ok (.aload_n 0, 1) := dk_42 (dk_at dksX0_count_9 18 rfl rfl)
theorem dX0_count_275 : decode cX0_count 275 = .ok (.invokevirtual 151, 3) := dk_182 0 151 (dk_at dksX0_count_9 19 rfl rfl)
theorem dX0_count_278 : decode cX0_count 278 = .ok (.if_icmp .ge 23, 3) := dk_162 0 23 (dk_at dksX0_count_10 0 rfl rfl)
theorem dX0_count_281 : decode cX0_count 281 = .ok (.iload_n 2, 1) := dk_28 (dk_at dksX0_count_10 3 rfl rfl)
theorem dX0_count_282 : decode cX0_count 282 = .ok (.aload_n 0, 1) := dk_42 (dk_at dksX0_count_10 4 rfl rfl)
theorem dX0_count_283 : decode cX0_count 283 = .ok (.getfield 40, 3) := dk_180 0 40 (dk_at dksX0_count_10 5 rfl rfl)
theorem dX0_count_286 : decode cX0_count 286 = .ok (.iload_n 3, 1) := dk_29 (dk_at dksX0_count_10 8 rfl rfl)
theorem dX0_count_287 : decode cX0_count 287 = .ok (.invokevirtual 262, 3) := dk_182 1 6 (dk_at dksX0_count_10 9 rfl rfl)
theorem dX0_count_290 : decode cX0_count 290 = .ok (.invokestatic 297, 3) := dk_184 1 41 (dk_at dksX0_count_10 12 rfl rfl)
theorem dX0_count_293 : decode cX0_count 293 = .ok (.iadd, 1) := dk_96 (dk_at dksX0_count_10 15 rfl rfl)
theorem dX0_count_294 : decode cX0_count 294 = .ok (.istore_n 2, 1) := dk_61 (dk_at dksX0_count_10 16 rfl rfl)
theorem dX0_count_295 : decode cX0_count 295 = .ok (.iinc 3 1, 3) := dk_132 3 1 (dk_at dksX0_count_10 17 rfl rfl)
theorem dX0_count_298 : decode cX0_count 298 = .ok (.goto (-25), 3) := dk_167 255 231 (dk_at dksX0_count_10 20 rfl rfl)
theorem dX0_count_301 : decode cX0_count 301 = .ok (.iload_n 2, 1) := dk_28 (dk_at dksX0_count_10 23 rfl rfl)
theorem dX0_count_302 : decode cX0_count 302 = .ok (.iconst 2, 1) := dk_5 (dk_at dksX0_count_11 0 rfl rfl)
theorem dX0_count_303 : decode cX0_count 303 = .ok (.idiv, 1) := dk_108 (dk_at dksX0_count_11 1 rfl rfl)
theorem dX0_count_304 : decode cX0_count 304 = .ok (.ireturn, 1) := dk_172 (dk_at dksX0_count_11 2 rfl rfl)
theorem dX0_count_305 : decode cX0_count 305 = .ok (.iconst 0, 1) := dk_3 (dk_at dksX0_count_11 3 rfl rfl)
theorem dX0_count_306 : decode cX0_count 306 = .ok (.istore_n 3, 1) := dk_62 (dk_at dksX0_count_11 4 rfl rfl)
theorem dX0_count_307 : decode cX0_count 307 = .ok (.iload_n 3, 1) := dk_29 (dk_at dksX0_count_11 5 rfl rfl)
theorem dX0_count_308 : decode cX0_count 308 = .ok (.aload_n 0, 1) := dk_42 (dk_at dksX0_count_11 6 rfl rfl)
theorem dX0_count_309 : decode cX0_count 309 = .ok (.invokevirtual 145, 3) := dk_182 0 145 (dk_at dksX0_count_11 7 rfl rfl)
theorem dX0_count_312 : decode cX0_count 312 = .ok (.if_icmp .ge 30, 3) := dk_162 0 30 (dk_at dksX0_count_11 10 rfl rfl)
theorem dX0_count_315 : decode cX0_count 315 = .ok (.iload_n 2, 1) := dk_28 (dk_at dksX0_count_11 13 rfl rfl)
theorem dX0_count_316 : decode cX0_count 316 = .ok (.aload_n 0, 1) := dk_42 (dk_at dksX0_count_11 14 rfl rfl)
theorem dX0_count_317 : decode cX0_count 317 = .ok (.getfield 51, 3) := dk_180 0 51 (dk_at dksX0_count_11 15 rfl rfl)
theorem dX0_count_320 : decode cX0_count 320 = .ok (.iload_n 3, 1) := dk_29 (dk_at dksX0_count_11 18 rfl rfl)
theorem dX0_count_321 : decode cX0_count 321 = .ok (.invokevirtual 175, 3) := dk_182 0 175 (dk_at dksX0_count_11 19 rfl rfl)
theorem dX0_count_324 : decode cX0_count 324 = .ok (.ifCond .eq 9, 3) := dk_153 0 9 (dk_at dksX0_count_12 0 rfl rfl)
theorem dX0_count_327 : decode cX0_count 327 = .ok (.iconst 1, 1) := dk_4 (dk_at dksX0_count_12 3 rfl rfl)
theorem dX0_count_328 : decode cX0_count 328 = .ok (.iload_n 3, 1) := dk_29 (dk_at dksX0_count_12 4 rfl rfl)
theorem dX0_count_329 : decode cX0_count 329 = .ok (.ishl, 1) := dk_120 (dk_at dksX0_count_12 5 rfl rfl)
theorem dX0_count_330 : decode cX0_count 330 = .ok (.goto 4, 3) := dk_167 0 4 (dk_at dksX0_count_12 6 rfl rfl)
theorem dX0_count_333 : decode cX0_count 333 = .ok (.iconst 0, 1) := dk_3 (dk_at dksX0_count_12 9 rfl rfl)
theorem dX0_count_334 : decode cX0_count 334 = .ok (.ior, 1) := dk_128 (dk_at dksX0_count_12 10 rfl rfl)
theorem dX0_count_335 : decode cX0_count 335 = .ok (.istore_n 2, 1) := dk_61 (dk_at dksX0_count_12 11 rfl rfl)
theorem dX0_count_336 : decode cX0_count 336 = .ok (.iinc 3 1, 3) := dk_132 3 1 (dk_at dksX0_count_12 12 rfl rfl)
theorem dX0_count_339 : decode cX0_count 339 = .ok (.goto (-32), 3) := dk_167 255 224 (dk_at dksX0_count_12 15 rfl rfl)
theorem dX0_count_342 : decode cX0_count 342 = .ok (.iload_n 2, 1) := dk_28 (dk_at dksX0_count_12 18 rfl rfl)
theorem dX0_count_343 : decode cX0_count 343 = .ok (.ireturn, 1) := dk_172 (dk_at dksX0_count_12 19 rfl rfl)
theorem dX0_count_344 : decode cX0_count 344 = .ok (.iconst 0, 1) := dk_3 (dk_at dksX0_count_12 20 rfl rfl)
theorem dX0_count_345 : decode cX0_count 345 = .ok (.istore_n 3, 1) := dk_62 (dk_at dksX0_count_12 21 rfl rfl)
theorem dX0_count_346 : decode cX0_count 346 = .ok (.iload_n 3, 1) := dk_29 (dk_at dksX0_count_12 22 rfl rfl)
theorem dX0_count_347 : decode cX0_count 347 = .ok (.aload_n 0, 1) := dk_42 (dk_at dksX0_count_12 23 rfl rfl)
theorem dX0_count_348 : decode cX0_count 348 = .ok (.invokevirtual 151, 3) := dk_182 0 151 (dk_at dksX0_count_13 0 rfl rfl)
theorem dX0_count_351 : decode cX0_count 351 = .ok (.if_icmp .ge 27, 3) := dk_162 0 27 (dk_at dksX0_count_13 3 rfl rfl)
theorem dX0_count_354 : decode cX0_count 354 = .ok (.iload_n 2, 1) := dk_28 (dk_at dksX0_count_13 6 rfl rfl)
theorem dX0_count_355 : decode cX0_count 355 = .ok (.aload_n 0, 1) := dk_42 (dk_at dksX0_count_13 7 rfl rfl)
theorem dX0_count_356 : decode cX0_count 356 = .ok (.iload_n 3, 1) := dk_29 (dk_at dksX0_count_13 8 rfl rfl)
theorem dX0_count_357 : decode cX0_count 357 = .ok (.invokevirtual 332, 3) := dk_182 1 76 (dk_at dksX0_count_13 9 rfl rfl)
theorem dX0_count_360 : decode cX0_count 360 = .ok (.ifCond .eq 9, 3) := dk_153 0 9 (dk_at dksX0_count_13 12 rfl rfl)
theorem dX0_count_363 : decode cX0_count 363 = .ok (.iconst 1, 1) := dk_4 (dk_at dksX0_count_13 15 rfl rfl)
theorem dX0_count_364 : decode cX0_count 364 = .ok (.iload_n 3, 1) := dk_29 (dk_at dksX0_count_13 16 rfl rfl)
theorem dX0_count_365 : decode cX0_count 365 = .ok (.ishl, 1) := dk_120 (dk_at dksX0_count_13 17 rfl rfl)
theorem dX0_count_366 : decode cX0_count 366 = .ok (.goto 4, 3) := dk_167 0 4 (dk_at dksX0_count_13 18 rfl rfl)
theorem dX0_count_369 : decode cX0_count 369 = .ok (.iconst 0, 1) := dk_3 (dk_at dksX0_count_13 21 rfl rfl)
theorem dX0_count_370 : decode cX0_count 370 = .ok (.ior, 1) := dk_128 (dk_at dksX0_count_13 22 rfl rfl)
theorem dX0_count_371 : decode cX0_count 371 = .ok (.istore_n 2, 1) := dk_61 (dk_at dksX0_count_13 23 rfl rfl)
theorem dX0_count_372 : decode cX0_count 372 = .ok (.iinc 3 1, 3) := dk_132 3 1 (dk_at dksX0_count_14 0 rfl rfl)
theorem dX0_count_375 : decode cX0_count 375 = .ok (.goto (-29), 3) := dk_167 255 227 (dk_at dksX0_count_14 3 rfl rfl)
theorem dX0_count_378 : decode cX0_count 378 = .ok (.iload_n 2, 1) := dk_28 (dk_at dksX0_count_14 6 rfl rfl)
theorem dX0_count_379 : decode cX0_count 379 = .ok (.ireturn, 1) := dk_172 (dk_at dksX0_count_14 7 rfl rfl)
theorem dX0_count_380 : decode cX0_count 380 = .ok (.iconst 0, 1) := dk_3 (dk_at dksX0_count_14 8 rfl rfl)
theorem dX0_count_381 : decode cX0_count 381 = .ok (.istore_n 3, 1) := dk_62 (dk_at dksX0_count_14 9 rfl rfl)
theorem dX0_count_382 : decode cX0_count 382 = .ok (.iload_n 3, 1) := dk_29 (dk_at dksX0_count_14 10 rfl rfl)
theorem dX0_count_383 : decode cX0_count 383 = .ok (.aload_n 0, 1) := dk_42 (dk_at dksX0_count_14 11 rfl rfl)
theorem dX0_count_384 : decode cX0_count 384 = .ok (.invokevirtual 145, 3) := dk_182 0 145 (dk_at dksX0_count_14 12 rfl rfl)
theorem dX0_count_387 : decode cX0_count 387 = .ok (.if_icmp .ge 44, 3) := dk_162 0 44 (dk_at dksX0_count_14 15 rfl rfl)
theorem dX0_count_390 : decode cX0_count 390 = .ok (.iload_n 2, 1) := dk_28 (dk_at dksX0_count_14 18 rfl rfl)
theorem dX0_count_391 : decode cX0_count 391 = .ok (.aload_n 0, 1) := dk_42 (dk_at dksX0_count_14 19 rfl rfl)
theorem dX0_count_392 : decode cX0_count 392 = .ok (.getfield 51, 3) := dk_180 0 51 (dk_at dksX0_count_14 20 rfl rfl)
theorem dX0_count_395 : decode cX0_count 395 = .ok (.iload_n 3, 1) := dk_29 (dk_at dksX0_count_14 23 rfl rfl)
theorem dX0_count_396 : decode cX0_count 396 = .ok (.invokevirtual 157, 3) := dk_182 0 157 (dk_at dksX0_count_15 0 rfl rfl)
theorem dX0_count_399 : decode cX0_count 399 = .ok (.ifCond .eq 7, 3) := dk_153 0 7 (dk_at dksX0_count_15 3 rfl rfl)
theorem dX0_count_402 : decode cX0_count 402 = .ok (.iconst 0, 1) := dk_3 (dk_at dksX0_count_15 6 rfl rfl)
theorem dX0_count_403 : decode cX0_count 403 = .ok (.goto 20, 3) := dk_167 0 20 (dk_at dksX0_count_15 7 rfl rfl)
theorem dX0_count_406 : decode cX0_count 406 = .ok (.aload_n 0, 1) := dk_42 (dk_at dksX0_count_15 10 rfl rfl)
theorem dX0_count_407 : decode cX0_count 407 = .ok (.getfield 40, 3) := dk_180 0 40 (dk_at dksX0_count_15 11 rfl rfl)
theorem dX0_count_410 : decode cX0_count 410 = .ok (.getfield 132, 3) := dk_180 0 132 (dk_at dksX0_count_15 14 rfl rfl)
theorem dX0_count_413 : decode cX0_count 413 = .ok (.iload_n 3, 1) := dk_29 (dk_at dksX0_count_15 17 rfl rfl)
theorem dX0_count_414 : decode cX0_count 414 = .ok (.invokevirtual 160, 3) := dk_182 0 160 (dk_at dksX0_count_15 18 rfl rfl)
theorem dX0_count_417 : decode cX0_count 417 = .ok (.checkcast 164, 3) := dk_192 0 164 (dk_at dksX0_count_15 21 rfl rfl)
theorem dX0_count_420 : decode cX0_count 420 = .ok (.getfield 166, 3) := dk_180 0 166 (dk_at dksX0_count_16 0 rfl rfl)
theorem dX0_count_423 : decode cX0_count 423 = .ok (.iadd, 1) := dk_96 (dk_at dksX0_count_16 3 rfl rfl)
theorem dX0_count_424 : decode cX0_count 424 = .ok (.istore_n 2, 1) := dk_61 (dk_at dksX0_count_16 4 rfl rfl)
theorem dX0_count_425 : decode cX0_count 425 = .ok (.iinc 3 1, 3) := dk_132 3 1 (dk_at dksX0_count_16 5 rfl rfl)
theorem dX0_count_428 : decode cX0_count 428 = .ok (.goto (-46), 3) := dk_167 255 210 (dk_at dksX0_count_16 8 rfl rfl)
theorem dX0_count_431 : decode cX0_count 431 = .ok (.iload_n 2, 1) := dk_28 (dk_at dksX0_count_16 11 rfl rfl)
theorem dX0_count_432 : decode cX0_count 432 = .ok (.ireturn, 1) := dk_172 (dk_at dksX0_count_16 12 rfl rfl)
theorem dX0_count_433 : decode cX0_count 433 = .ok (.iconst 0, 1) := dk_3 (dk_at dksX0_count_16 13 rfl rfl)
theorem dX0_count_434 : decode cX0_count 434 = .ok (.istore_n 3, 1) := dk_62 (dk_at dksX0_count_16 14 rfl rfl)
theorem dX0_count_435 : decode cX0_count 435 = .ok (.iload_n 3, 1) := dk_29 (dk_at dksX0_count_16 15 rfl rfl)
theorem dX0_count_436 : decode cX0_count 436 = .ok (.aload_n 0, 1) := dk_42 (dk_at dksX0_count_16 16 rfl rfl)
theorem dX0_count_437 : decode cX0_count 437 = .ok (.invokevirtual 151, 3) := dk_182 0 151 (dk_at dksX0_count_16 17 rfl rfl)
theorem dX0_count_440 : decode cX0_count 440 = .ok (.if_icmp .ge 44, 3) := dk_162 0 44 (dk_at dksX0_count_16 20 rfl rfl)
theorem dX0_count_443 : decode cX0_count 443 = .ok (.iload_n 2, 1) := dk_28 (dk_at dksX0_count_16 23 rfl rfl)
theorem dX0_count_444 : decode cX0_count 444 = .ok (.aload_n 0, 1) := dk_42 (dk_at dksX0_count_17 0 rfl rfl)
theorem dX0_count_445 : decode cX0_count 445 = .ok (.getfield 51, 3) := dk_180 0 51 (dk_at dksX0_count_17 1 rfl rfl)
theorem dX0_count_448 : decode cX0_count 448 = .ok (.iload_n 3, 1) := dk_29 (dk_at dksX0_count_17 4 rfl rfl)
theorem dX0_count_449 : decode cX0_count 449 = .ok (.invokevirtual 203, 3) := dk_182 0 203 (dk_at dksX0_count_17 5 rfl rfl)
theorem dX0_count_452 : decode cX0_count 452 = .ok (.ifCond .eq 7, 3) := dk_153 0 7 (dk_at dksX0_count_17 8 rfl rfl)
theorem dX0_count_455 : decode cX0_count 455 = .ok (.iconst 0, 1) := dk_3 (dk_at dksX0_count_17 11 rfl rfl)
theorem dX0_count_456 : decode cX0_count 456 = .ok (.goto 20, 3) := dk_167 0 20 (dk_at dksX0_count_17 12 rfl rfl)
theorem dX0_count_459 : decode cX0_count 459 = .ok (.aload_n 0, 1) := dk_42 (dk_at dksX0_count_17 15 rfl rfl)
theorem dX0_count_460 : decode cX0_count 460 = .ok (.getfield 40, 3) := dk_180 0 40 (dk_at dksX0_count_17 16 rfl rfl)
theorem dX0_count_463 : decode cX0_count 463 = .ok (.getfield 142, 3) := dk_180 0 142 (dk_at dksX0_count_17 19 rfl rfl)
theorem dX0_count_466 : decode cX0_count 466 = .ok (.iload_n 3, 1) := dk_29 (dk_at dksX0_count_17 22 rfl rfl)
theorem dX0_count_467 : decode cX0_count 467 = .ok (.invokevirtual 160, 3) := dk_182 0 160 (dk_at dksX0_count_18 0 rfl rfl)
theorem dX0_count_470 : decode cX0_count 470 = .ok (.checkcast 188, 3) := dk_192 0 188 (dk_at dksX0_count_18 3 rfl rfl)
theorem dX0_count_473 : decode cX0_count 473 = .ok (.getfield 194, 3) := dk_180 0 194 (dk_at dksX0_count_18 6 rfl rfl)
theorem dX0_count_476 : decode cX0_count 476 = .ok (.iadd, 1) := dk_96 (dk_at dksX0_count_18 9 rfl rfl)
theorem dX0_count_477 : decode cX0_count 477 = .ok (.istore_n 2, 1) := dk_61 (dk_at dksX0_count_18 10 rfl rfl)
theorem dX0_count_478 : decode cX0_count 478 = .ok (.iinc 3 1, 3) := dk_132 3 1 (dk_at dksX0_count_18 11 rfl rfl)
theorem dX0_count_481 : decode cX0_count 481 = .ok (.goto (-46), 3) := dk_167 255 210 (dk_at dksX0_count_18 14 rfl rfl)
theorem dX0_count_484 : decode cX0_count 484 = .ok (.iload_n 2, 1) := dk_28 (dk_at dksX0_count_18 17 rfl rfl)
theorem dX0_count_485 : decode cX0_count 485 = .ok (.ireturn, 1) := dk_172 (dk_at dksX0_count_18 18 rfl rfl)
theorem dX0_count_486 : decode cX0_count 486 = .ok (.iconst (-1), 1) := dk_2 (dk_at dksX0_count_18 19 rfl rfl)
theorem dX0_count_487 : decode cX0_count 487 = .ok (.ireturn, 1) := dk_172 (dk_at dksX0_count_18 20 rfl rfl)
abbrev cX0_sum : ByteArray := prog_1_method_66_code
def yX0_sum : MethodName := ⟨RX0, "sum", "([I)I"⟩
def dkwX0_sum_0 : List UInt8 := [3, 60, 3, 61, 28, 42, 190, 162, 0, 15, 27, 42, 28, 46, 96, 60, 132, 2, 1, 167, 255, 241, 27, 172]
abbrev dktX0_sum_0 : List UInt8 := dkwX0_sum_0 ++ []
theorem dksX0_sum_0 : cX0_sum.data.toList.drop 0 = dktX0_sum_0 := by decide +kernel
theorem dX0_sum_0 : decode cX0_sum 0 = .ok (.iconst 0, 1) := dk_3 (dk_at dksX0_sum_0 0 rfl rfl)
theorem dX0_sum_1 : decode cX0_sum 1 = .ok (.istore_n 1, 1) := dk_60 (dk_at dksX0_sum_0 1 rfl rfl)
theorem dX0_sum_2 : decode cX0_sum 2 = .ok (.iconst 0, 1) := dk_3 (dk_at dksX0_sum_0 2 rfl rfl)
theorem dX0_sum_3 : decode cX0_sum 3 = .ok (.istore_n 2, 1) := dk_61 (dk_at dksX0_sum_0 3 rfl rfl)
theorem dX0_sum_4 : decode cX0_sum 4 = .ok (.iload_n 2, 1) := dk_28 (dk_at dksX0_sum_0 4 rfl rfl)
theorem dX0_sum_5 : decode cX0_sum 5 = .ok (.aload_n 0, 1) := dk_42 (dk_at dksX0_sum_0 5 rfl rfl)
theorem dX0_sum_6 : decode cX0_sum 6 = .ok (.arraylength, 1) := dk_190 (dk_at dksX0_sum_0 6 rfl rfl)
theorem dX0_sum_7 : decode cX0_sum 7 = .ok (.if_icmp .ge 15, 3) := dk_162 0 15 (dk_at dksX0_sum_0 7 rfl rfl)
theorem dX0_sum_10 : decode cX0_sum 10 = .ok (.iload_n 1, 1) := dk_27 (dk_at dksX0_sum_0 10 rfl rfl)
theorem dX0_sum_11 : decode cX0_sum 11 = .ok (.aload_n 0, 1) := dk_42 (dk_at dksX0_sum_0 11 rfl rfl)
theorem dX0_sum_12 : decode cX0_sum 12 = .ok (.iload_n 2, 1) := dk_28 (dk_at dksX0_sum_0 12 rfl rfl)
theorem dX0_sum_13 : decode cX0_sum 13 = .ok (.iaload, 1) := dk_46 (dk_at dksX0_sum_0 13 rfl rfl)
theorem dX0_sum_14 : decode cX0_sum 14 = .ok (.iadd, 1) := dk_96 (dk_at dksX0_sum_0 14 rfl rfl)
theorem dX0_sum_15 : decode cX0_sum 15 = .ok (.istore_n 1, 1) := dk_60 (dk_at dksX0_sum_0 15 rfl rfl)
theorem dX0_sum_16 : decode cX0_sum 16 = .ok (.iinc 2 1, 3) := dk_132 2 1 (dk_at dksX0_sum_0 16 rfl rfl)
theorem dX0_sum_19 : decode cX0_sum 19 = .ok (.goto (-15), 3) := dk_167 255 241 (dk_at dksX0_sum_0 19 rfl rfl)
theorem dX0_sum_22 : decode cX0_sum 22 = .ok (.iload_n 1, 1) := dk_27 (dk_at dksX0_sum_0 22 rfl rfl)
theorem dX0_sum_23 : decode cX0_sum 23 = .ok (.ireturn, 1) := dk_172 (dk_at dksX0_sum_0 23 rfl rfl)
theorem q128 : (Jvm.Cond.initialized "LentSundays") ∈ lw_all := lw_g (lw_at lw_m1 1 rfl) rfl
theorem q166 : (Jvm.Cond.instantiable "LentSundays" (21 : Nat)) ∈ lw_all := lw_g (lw_at lw_m1 39 rfl) rfl
theorem q168 : (Jvm.Cond.instanceMethod ({ cls := "LentSundays", name := "<init>", desc := "()V" } : Jvm.MethodName)) ∈ lw_all := lw_g (lw_at lw_m1 41 rfl) rfl
theorem q169 : (Jvm.Cond.code ({ cls := "LentSundays", name := "<init>", desc := "()V" } : Jvm.MethodName) prog_1_method_3_code (2 : Nat) (Option.none : Option Jvm.ClassFile.FieldType)) ∈ lw_all := lw_g (lw_at lw_m1 42 rfl) rfl
theorem q170 : (Jvm.Cond.methodLink "LentSundays" (8 : Nat) ({ cls := "java/lang/Object", name := "<init>", desc := "()V" } : Jvm.MethodName)) ∈ lw_all := lw_g (lw_at lw_m1 43 rfl) rfl
theorem q173 : (Jvm.Cond.classLink "LentSundays" (14 : Nat) "LentSundays$Fault") ∈ lw_all := lw_g (lw_at lw_m1 46 rfl) rfl
theorem q212 : (Jvm.Cond.methodLink "LentSundays" (16 : Nat) ({ cls := "LentSundays$Fault", name := "<init>", desc := "()V" } : Jvm.MethodName)) ∈ lw_all := lw_g (lw_at lw_m1 85 rfl) rfl
theorem q226 : (Jvm.Cond.fieldLink "LentSundays" (128 : Nat) "LentSundays$Fault" "number" "I") ∈ lw_all := lw_g (lw_at lw_m1 99 rfl) rfl
theorem q228 : (Jvm.Cond.fieldLink "LentSundays" (131 : Nat) "LentSundays$Fault" "place" "I") ∈ lw_all := lw_g (lw_at lw_m1 101 rfl) rfl
theorem q247 : (Jvm.Cond.classLink "LentSundays" (21 : Nat) "LentSundays$Tokens") ∈ lw_all := lw_g (lw_at lw_m1 120 rfl) rfl
theorem q249 : (Jvm.Cond.methodLinkNest "LentSundays" (23 : Nat) ({ cls := "LentSundays$Tokens", name := "<init>", desc := "()V" } : Jvm.MethodName) "LentSundays") ∈ lw_tbl := lw_at lw_m1 122 rfl
theorem q278 : (Jvm.Cond.fieldLink "LentSundays" (114 : Nat) "LentSundays$Tokens" "tape" "[B") ∈ lw_all := lw_g (lw_at lw_m1 151 rfl) rfl
theorem q280 : (Jvm.Cond.fieldLink "LentSundays" (107 : Nat) "LentSundays$Tokens" "taped" "I") ∈ lw_all := lw_g (lw_at lw_m1 153 rfl) rfl
theorem q307 : (Jvm.Cond.classLink "LentSundays" (28 : Nat) "LentSundays$Parser") ∈ lw_all := lw_g (lw_at lw_m1 180 rfl) rfl
theorem q309 : (Jvm.Cond.methodLink "LentSundays" (30 : Nat) ({ cls := "LentSundays$Parser", name := "<init>", desc := "(LLentSundays$Tokens;LLentSundays$Fault;)V" } : Jvm.MethodName)) ∈ lw_all := lw_g (lw_at lw_m1 182 rfl) rfl
theorem q335 : (Jvm.Cond.classLink "LentSundays" (37 : Nat) "LentSundays$Text") ∈ lw_all := lw_g (lw_at lw_m1 208 rfl) rfl
theorem q337 : (Jvm.Cond.methodLinkNest "LentSundays" (39 : Nat) ({ cls := "LentSundays$Text", name := "<init>", desc := "()V" } : Jvm.MethodName) "LentSundays") ∈ lw_tbl := lw_at lw_m1 210 rfl
theorem q371 : (Jvm.Cond.fieldLink "LentSundays" (132 : Nat) "LentSundays$Text" "sundays" "Ljava/util/ArrayList;") ∈ lw_all := lw_g (lw_at lw_m2 4 rfl) rfl
theorem q375 : (Jvm.Cond.fieldLink "LentSundays" (142 : Nat) "LentSundays$Text" "guests" "Ljava/util/ArrayList;") ∈ lw_all := lw_g (lw_at lw_m2 8 rfl) rfl
theorem q385 : (Jvm.Cond.fieldLink "LentSundays" (311 : Nat) "LentSundays$Text" "death" "I") ∈ lw_all := lw_g (lw_at lw_m2 18 rfl) rfl
theorem q388 : (Jvm.Cond.fieldLink "LentSundays" (317 : Nat) "LentSundays$Text" "seed" "I") ∈ lw_all := lw_g (lw_at lw_m2 21 rfl) rfl
theorem q402 : (Jvm.Cond.classLink "LentSundays" (48 : Nat) "LentSundays$House") ∈ lw_all := lw_g (lw_at lw_m2 35 rfl) rfl
theorem q404 : (Jvm.Cond.methodLinkNest "LentSundays" (50 : Nat) ({ cls := "LentSundays$House", name := "<init>", desc := "()V" } : Jvm.MethodName) "LentSundays") ∈ lw_tbl := lw_at lw_m2 37 rfl
theorem q426 : (Jvm.Cond.fieldLink "LentSundays" (197 : Nat) "LentSundays$House" "in" "[I") ∈ lw_all := lw_g (lw_at lw_m2 59 rfl) rfl
theorem q429 : (Jvm.Cond.fieldLink "LentSundays" (200 : Nat) "LentSundays$House" "rested" "[I") ∈ lw_all := lw_g (lw_at lw_m2 62 rfl) rfl
theorem q431 : (Jvm.Cond.fieldLink "LentSundays" (172 : Nat) "LentSundays$House" "worn" "[I") ∈ lw_all := lw_g (lw_at lw_m2 64 rfl) rfl
theorem q433 : (Jvm.Cond.fieldLink "LentSundays" (265 : Nat) "LentSundays$House" "dead" "I") ∈ lw_all := lw_g (lw_at lw_m2 66 rfl) rfl
theorem q435 : (Jvm.Cond.fieldLink "LentSundays" (242 : Nat) "LentSundays$House" "sold" "I") ∈ lw_all := lw_g (lw_at lw_m2 68 rfl) rfl
theorem q438 : (Jvm.Cond.fieldLink "LentSundays" (259 : Nat) "LentSundays$House" "week" "I") ∈ lw_all := lw_g (lw_at lw_m2 71 rfl) rfl
theorem q440 : (Jvm.Cond.fieldLink "LentSundays" (239 : Nat) "LentSundays$House" "money" "I") ∈ lw_all := lw_g (lw_at lw_m2 73 rfl) rfl
theorem q443 : (Jvm.Cond.fieldLink "LentSundays" (320 : Nat) "LentSundays$House" "seed" "I") ∈ lw_all := lw_g (lw_at lw_m2 76 rfl) rfl
theorem q471 : (Jvm.Cond.classLink "LentSundays" (65 : Nat) "LentSundays$Drawn") ∈ lw_all := lw_g (lw_at lw_m2 104 rfl) rfl
theorem q473 : (Jvm.Cond.methodLinkNest "LentSundays" (67 : Nat) ({ cls := "LentSundays$Drawn", name := "<init>", desc := "()V" } : Jvm.MethodName) "LentSundays") ∈ lw_tbl := lw_at lw_m2 106 rfl
theorem q481 : (Jvm.Cond.classLink "LentSundays" (72 : Nat) "LentSundays$Spared") ∈ lw_all := lw_g (lw_at lw_m2 114 rfl) rfl
theorem q483 : (Jvm.Cond.methodLinkNest "LentSundays" (74 : Nat) ({ cls := "LentSundays$Spared", name := "<init>", desc := "()V" } : Jvm.MethodName) "LentSundays") ∈ lw_tbl := lw_at lw_m2 116 rfl
theorem q488 : (Jvm.Cond.classLink "LentSundays" (82 : Nat) "[[I") ∈ lw_all := lw_g (lw_at lw_m2 121 rfl) rfl
theorem q490 : (Jvm.Cond.methodLink "LentSundays" (103 : Nat) ({ cls := "LentSundays$House", name := "begins", desc := "(LLentSundays$Text;)V" } : Jvm.MethodName)) ∈ lw_all := lw_g (lw_at lw_m2 123 rfl) rfl
theorem q494 : (Jvm.Cond.fieldLink "LentSundays" (17 : Nat) "LentSundays" "fault" "LLentSundays$Fault;") ∈ lw_all := lw_g (lw_at lw_m2 127 rfl) rfl
theorem q495 : (Jvm.Cond.fieldLink "LentSundays" (24 : Nat) "LentSundays" "tokens" "LLentSundays$Tokens;") ∈ lw_all := lw_g (lw_at lw_m2 128 rfl) rfl
theorem q496 : (Jvm.Cond.fieldLink "LentSundays" (33 : Nat) "LentSundays" "parser" "LLentSundays$Parser;") ∈ lw_all := lw_g (lw_at lw_m2 129 rfl) rfl
theorem q497 : (Jvm.Cond.fieldLink "LentSundays" (40 : Nat) "LentSundays" "text" "LLentSundays$Text;") ∈ lw_all := lw_g (lw_at lw_m2 130 rfl) rfl
theorem q498 : (Jvm.Cond.fieldLink "LentSundays" (44 : Nat) "LentSundays" "place" "I") ∈ lw_all := lw_g (lw_at lw_m2 131 rfl) rfl
theorem q499 : (Jvm.Cond.fieldLink "LentSundays" (122 : Nat) "LentSundays" "undos" "I") ∈ lw_all := lw_g (lw_at lw_m2 132 rfl) rfl
theorem q500 : (Jvm.Cond.fieldLink "LentSundays" (218 : Nat) "LentSundays" "undoAt" "I") ∈ lw_all := lw_g (lw_at lw_m2 133 rfl) rfl
theorem q501 : (Jvm.Cond.fieldLink "LentSundays" (51 : Nat) "LentSundays" "house" "LLentSundays$House;") ∈ lw_all := lw_g (lw_at lw_m2 134 rfl) rfl
theorem q502 : (Jvm.Cond.fieldLink "LentSundays" (55 : Nat) "LentSundays" "trial" "LLentSundays$House;") ∈ lw_all := lw_g (lw_at lw_m2 135 rfl) rfl
theorem q503 : (Jvm.Cond.fieldLink "LentSundays" (58 : Nat) "LentSundays" "past" "[LLentSundays$House;") ∈ lw_all := lw_g (lw_at lw_m2 136 rfl) rfl
theorem q504 : (Jvm.Cond.fieldLink "LentSundays" (62 : Nat) "LentSundays" "slots" "[LLentSundays$House;") ∈ lw_all := lw_g (lw_at lw_m2 137 rfl) rfl
theorem q505 : (Jvm.Cond.fieldLink "LentSundays" (68 : Nat) "LentSundays" "drawn" "LLentSundays$Fate;") ∈ lw_all := lw_g (lw_at lw_m2 138 rfl) rfl
theorem q506 : (Jvm.Cond.fieldLink "LentSundays" (75 : Nat) "LentSundays" "spared" "LLentSundays$Fate;") ∈ lw_all := lw_g (lw_at lw_m2 139 rfl) rfl
theorem q507 : (Jvm.Cond.fieldLink "LentSundays" (78 : Nat) "LentSundays" "held" "[Z") ∈ lw_all := lw_g (lw_at lw_m2 140 rfl) rfl
theorem q508 : (Jvm.Cond.fieldLink "LentSundays" (84 : Nat) "LentSundays" "pay" "[[I") ∈ lw_all := lw_g (lw_at lw_m2 141 rfl) rfl
theorem q509 : (Jvm.Cond.fieldLink "LentSundays" (87 : Nat) "LentSundays" "most" "[[I") ∈ lw_all := lw_g (lw_at lw_m2 142 rfl) rfl
theorem q510 : (Jvm.Cond.fieldLink "LentSundays" (90 : Nat) "LentSundays" "placed" "[Z") ∈ lw_all := lw_g (lw_at lw_m2 143 rfl) rfl
theorem q511 : (Jvm.Cond.fieldLink "LentSundays" (93 : Nat) "LentSundays" "parts" "[I") ∈ lw_all := lw_g (lw_at lw_m2 144 rfl) rfl
theorem q512 : (Jvm.Cond.fieldLink "LentSundays" (125 : Nat) "LentSundays" "tolds" "I") ∈ lw_all := lw_g (lw_at lw_m2 145 rfl) rfl
theorem q513 : (Jvm.Cond.fieldLink "LentSundays" (97 : Nat) "LentSundays" "toldHour" "[I") ∈ lw_all := lw_g (lw_at lw_m2 146 rfl) rfl
theorem q514 : (Jvm.Cond.fieldLink "LentSundays" (100 : Nat) "LentSundays" "toldThere" "[Z") ∈ lw_all := lw_g (lw_at lw_m2 147 rfl) rfl
theorem q515 : (Jvm.Cond.laysFinal "LentSundays" "LentSundays" "fault" "LLentSundays$Fault;") ∈ lw_all := lw_g (lw_at lw_m2 148 rfl) rfl
theorem q516 : (Jvm.Cond.soleField "LentSundays" "fault") ∈ lw_all := lw_g (lw_at lw_m2 149 rfl) rfl
theorem q517 : (Jvm.Cond.laysFinal "LentSundays" "LentSundays" "tokens" "LLentSundays$Tokens;") ∈ lw_all := lw_g (lw_at lw_m2 150 rfl) rfl
theorem q518 : (Jvm.Cond.soleField "LentSundays" "tokens") ∈ lw_all := lw_g (lw_at lw_m2 151 rfl) rfl
theorem q519 : (Jvm.Cond.laysFinal "LentSundays" "LentSundays" "parser" "LLentSundays$Parser;") ∈ lw_all := lw_g (lw_at lw_m2 152 rfl) rfl
theorem q520 : (Jvm.Cond.soleField "LentSundays" "parser") ∈ lw_all := lw_g (lw_at lw_m2 153 rfl) rfl
theorem q521 : (Jvm.Cond.lays "LentSundays" "LentSundays" "text" "LLentSundays$Text;") ∈ lw_all := lw_g (lw_at lw_m2 154 rfl) rfl
theorem q522 : (Jvm.Cond.soleField "LentSundays" "text") ∈ lw_all := lw_g (lw_at lw_m2 155 rfl) rfl
theorem q523 : (Jvm.Cond.lays "LentSundays" "LentSundays" "place" "I") ∈ lw_all := lw_g (lw_at lw_m2 156 rfl) rfl
theorem q524 : (Jvm.Cond.soleField "LentSundays" "place") ∈ lw_all := lw_g (lw_at lw_m2 157 rfl) rfl
theorem q525 : (Jvm.Cond.lays "LentSundays" "LentSundays" "undos" "I") ∈ lw_all := lw_g (lw_at lw_m2 158 rfl) rfl
theorem q526 : (Jvm.Cond.soleField "LentSundays" "undos") ∈ lw_all := lw_g (lw_at lw_m2 159 rfl) rfl
theorem q527 : (Jvm.Cond.lays "LentSundays" "LentSundays" "undoAt" "I") ∈ lw_all := lw_g (lw_at lw_m2 160 rfl) rfl
theorem q528 : (Jvm.Cond.soleField "LentSundays" "undoAt") ∈ lw_all := lw_g (lw_at lw_m2 161 rfl) rfl
theorem q529 : (Jvm.Cond.laysFinal "LentSundays" "LentSundays" "house" "LLentSundays$House;") ∈ lw_all := lw_g (lw_at lw_m2 162 rfl) rfl
theorem q530 : (Jvm.Cond.soleField "LentSundays" "house") ∈ lw_all := lw_g (lw_at lw_m2 163 rfl) rfl
theorem q531 : (Jvm.Cond.laysFinal "LentSundays" "LentSundays" "trial" "LLentSundays$House;") ∈ lw_all := lw_g (lw_at lw_m2 164 rfl) rfl
theorem q532 : (Jvm.Cond.soleField "LentSundays" "trial") ∈ lw_all := lw_g (lw_at lw_m2 165 rfl) rfl
theorem q533 : (Jvm.Cond.laysFinal "LentSundays" "LentSundays" "past" "[LLentSundays$House;") ∈ lw_all := lw_g (lw_at lw_m2 166 rfl) rfl
theorem q534 : (Jvm.Cond.soleField "LentSundays" "past") ∈ lw_all := lw_g (lw_at lw_m2 167 rfl) rfl
theorem q535 : (Jvm.Cond.laysFinal "LentSundays" "LentSundays" "slots" "[LLentSundays$House;") ∈ lw_all := lw_g (lw_at lw_m2 168 rfl) rfl
theorem q536 : (Jvm.Cond.soleField "LentSundays" "slots") ∈ lw_all := lw_g (lw_at lw_m2 169 rfl) rfl
theorem q537 : (Jvm.Cond.laysFinal "LentSundays" "LentSundays" "drawn" "LLentSundays$Fate;") ∈ lw_all := lw_g (lw_at lw_m2 170 rfl) rfl
theorem q538 : (Jvm.Cond.soleField "LentSundays" "drawn") ∈ lw_all := lw_g (lw_at lw_m2 171 rfl) rfl
theorem q539 : (Jvm.Cond.laysFinal "LentSundays" "LentSundays" "spared" "LLentSundays$Fate;") ∈ lw_all := lw_g (lw_at lw_m2 172 rfl) rfl
theorem q540 : (Jvm.Cond.soleField "LentSundays" "spared") ∈ lw_all := lw_g (lw_at lw_m2 173 rfl) rfl
theorem q541 : (Jvm.Cond.laysFinal "LentSundays" "LentSundays" "held" "[Z") ∈ lw_all := lw_g (lw_at lw_m2 174 rfl) rfl
theorem q542 : (Jvm.Cond.soleField "LentSundays" "held") ∈ lw_all := lw_g (lw_at lw_m2 175 rfl) rfl
theorem q543 : (Jvm.Cond.laysFinal "LentSundays" "LentSundays" "pay" "[[I") ∈ lw_all := lw_g (lw_at lw_m2 176 rfl) rfl
theorem q544 : (Jvm.Cond.soleField "LentSundays" "pay") ∈ lw_all := lw_g (lw_at lw_m2 177 rfl) rfl
theorem q545 : (Jvm.Cond.laysFinal "LentSundays" "LentSundays" "most" "[[I") ∈ lw_all := lw_g (lw_at lw_m2 178 rfl) rfl
theorem q546 : (Jvm.Cond.soleField "LentSundays" "most") ∈ lw_all := lw_g (lw_at lw_m2 179 rfl) rfl
theorem q547 : (Jvm.Cond.laysFinal "LentSundays" "LentSundays" "placed" "[Z") ∈ lw_all := lw_g (lw_at lw_m2 180 rfl) rfl
theorem q548 : (Jvm.Cond.soleField "LentSundays" "placed") ∈ lw_all := lw_g (lw_at lw_m2 181 rfl) rfl
theorem q549 : (Jvm.Cond.laysFinal "LentSundays" "LentSundays" "parts" "[I") ∈ lw_all := lw_g (lw_at lw_m2 182 rfl) rfl
theorem q550 : (Jvm.Cond.soleField "LentSundays" "parts") ∈ lw_all := lw_g (lw_at lw_m2 183 rfl) rfl
theorem q551 : (Jvm.Cond.lays "LentSundays" "LentSundays" "tolds" "I") ∈ lw_all := lw_g (lw_at lw_m2 184 rfl) rfl
theorem q552 : (Jvm.Cond.soleField "LentSundays" "tolds") ∈ lw_all := lw_g (lw_at lw_m2 185 rfl) rfl
theorem q553 : (Jvm.Cond.laysFinal "LentSundays" "LentSundays" "toldHour" "[I") ∈ lw_all := lw_g (lw_at lw_m2 186 rfl) rfl
theorem q554 : (Jvm.Cond.soleField "LentSundays" "toldHour") ∈ lw_all := lw_g (lw_at lw_m2 187 rfl) rfl
theorem q555 : (Jvm.Cond.laysFinal "LentSundays" "LentSundays" "toldThere" "[Z") ∈ lw_all := lw_g (lw_at lw_m2 188 rfl) rfl
theorem q556 : (Jvm.Cond.soleField "LentSundays" "toldThere") ∈ lw_all := lw_g (lw_at lw_m2 189 rfl) rfl
theorem q557 : (Jvm.Cond.superclass "LentSundays" "java/lang/Object") ∈ lw_all := lw_g (lw_at lw_m2 190 rfl) rfl
theorem q560 : (Jvm.Cond.instanceMethod ({ cls := "LentSundays", name := "feed", desc := "(IIIII)I" } : Jvm.MethodName)) ∈ lw_all := lw_g (lw_at lw_m2 193 rfl) rfl
theorem q561 : (Jvm.Cond.selects "LentSundays" ({ cls := "LentSundays", name := "feed", desc := "(IIIII)I" } : Jvm.MethodName) ({ cls := "LentSundays", name := "feed", desc := "(IIIII)I" } : Jvm.MethodName)) ∈ lw_all := lw_g (lw_at lw_m2 194 rfl) rfl
theorem q562 : (Jvm.Cond.code ({ cls := "LentSundays", name := "feed", desc := "(IIIII)I" } : Jvm.MethodName) prog_1_method_4_code (6 : Nat) (Option.some Jvm.ClassFile.FieldType.int)) ∈ lw_all := lw_g (lw_at lw_m2 195 rfl) rfl
theorem q563 : (Jvm.Cond.methodLink "LentSundays" (110 : Nat) ({ cls := "LentSundays", name := "typed", desc := "(I)V" } : Jvm.MethodName)) ∈ lw_all := lw_g (lw_at lw_m2 196 rfl) rfl
theorem q564 : (Jvm.Cond.privateMethod ({ cls := "LentSundays", name := "typed", desc := "(I)V" } : Jvm.MethodName)) ∈ lw_tbl := lw_at lw_m2 197 rfl
theorem q565 : (Jvm.Cond.instanceMethod ({ cls := "LentSundays", name := "typed", desc := "(I)V" } : Jvm.MethodName)) ∈ lw_all := lw_g (lw_at lw_m2 198 rfl) rfl
theorem q566 : (Jvm.Cond.code ({ cls := "LentSundays", name := "typed", desc := "(I)V" } : Jvm.MethodName) prog_1_method_5_code (3 : Nat) (Option.none : Option Jvm.ClassFile.FieldType)) ∈ lw_all := lw_g (lw_at lw_m2 199 rfl) rfl
theorem q568 : (Jvm.Cond.instanceMethod ({ cls := "LentSundays", name := "back", desc := "(I)I" } : Jvm.MethodName)) ∈ lw_all := lw_g (lw_at lw_m2 201 rfl) rfl
theorem q569 : (Jvm.Cond.selects "LentSundays" ({ cls := "LentSundays", name := "back", desc := "(I)I" } : Jvm.MethodName) ({ cls := "LentSundays", name := "back", desc := "(I)I" } : Jvm.MethodName)) ∈ lw_all := lw_g (lw_at lw_m2 202 rfl) rfl
theorem q570 : (Jvm.Cond.code ({ cls := "LentSundays", name := "back", desc := "(I)I" } : Jvm.MethodName) prog_1_method_6_code (2 : Nat) (Option.some Jvm.ClassFile.FieldType.int)) ∈ lw_all := lw_g (lw_at lw_m2 203 rfl) rfl
theorem q572 : (Jvm.Cond.instanceMethod ({ cls := "LentSundays", name := "read", desc := "()I" } : Jvm.MethodName)) ∈ lw_all := lw_g (lw_at lw_m2 205 rfl) rfl
theorem q573 : (Jvm.Cond.selects "LentSundays" ({ cls := "LentSundays", name := "read", desc := "()I" } : Jvm.MethodName) ({ cls := "LentSundays", name := "read", desc := "()I" } : Jvm.MethodName)) ∈ lw_all := lw_g (lw_at lw_m2 206 rfl) rfl
theorem q574 : (Jvm.Cond.codeWith ({ cls := "LentSundays", name := "read", desc := "()I" } : Jvm.MethodName) prog_1_method_7_code (3 : Nat) (Option.some Jvm.ClassFile.FieldType.int) [((7 : Nat), (59 : Nat), (62 : Nat), (14 : Nat))]) ∈ lw_all := lw_g (lw_at lw_m2 207 rfl) rfl
theorem q575 : (Jvm.Cond.methodLink "LentSundays" (118 : Nat) ({ cls := "LentSundays$Parser", name := "read", desc := "()LLentSundays$Text;" } : Jvm.MethodName)) ∈ lw_all := lw_g (lw_at lw_m2 208 rfl) rfl
theorem q1006 : (Jvm.Cond.fieldLink "LentSundays" (166 : Nat) "LentSundays$Sunday" "hours" "I") ∈ lw_all := lw_g (lw_at lw_m4 159 rfl) rfl
theorem q1009 : (Jvm.Cond.fieldLink "LentSundays" (169 : Nat) "LentSundays$Sunday" "worth" "I") ∈ lw_all := lw_g (lw_at lw_m4 162 rfl) rfl
theorem q1047 : (Jvm.Cond.selects "LentSundays" ({ cls := "java/lang/Object", name := "getClass", desc := "()Ljava/lang/Class;" } : Jvm.MethodName) ({ cls := "java/lang/Object", name := "getClass", desc := "()Ljava/lang/Class;" } : Jvm.MethodName)) ∈ lw_all := lw_g (lw_at lw_m4 200 rfl) rfl
theorem q1084 : (Jvm.Cond.fieldLink "LentSundays" (190 : Nat) "LentSundays$Guest" "hour" "I") ∈ lw_all := lw_g (lw_at lw_m4 237 rfl) rfl
theorem q1089 : (Jvm.Cond.fieldLink "LentSundays" (193 : Nat) "LentSundays$Guest" "hours" "I") ∈ lw_all := lw_g (lw_at lw_m5 2 rfl) rfl
theorem q1092 : (Jvm.Cond.fieldLink "LentSundays" (194 : Nat) "LentSundays$Guest" "fee" "I") ∈ lw_all := lw_g (lw_at lw_m5 5 rfl) rfl
theorem q1117 : (Jvm.Cond.instanceMethod ({ cls := "LentSundays", name := "place", desc := "()I" } : Jvm.MethodName)) ∈ lw_all := lw_g (lw_at lw_m5 30 rfl) rfl
theorem q1118 : (Jvm.Cond.selects "LentSundays" ({ cls := "LentSundays", name := "place", desc := "()I" } : Jvm.MethodName) ({ cls := "LentSundays", name := "place", desc := "()I" } : Jvm.MethodName)) ∈ lw_all := lw_g (lw_at lw_m5 31 rfl) rfl
theorem q1119 : (Jvm.Cond.code ({ cls := "LentSundays", name := "place", desc := "()I" } : Jvm.MethodName) prog_1_method_8_code (1 : Nat) (Option.some Jvm.ClassFile.FieldType.int)) ∈ lw_all := lw_g (lw_at lw_m5 32 rfl) rfl
theorem q1121 : (Jvm.Cond.instanceMethod ({ cls := "LentSundays", name := "sunday", desc := "(II)I" } : Jvm.MethodName)) ∈ lw_all := lw_g (lw_at lw_m5 34 rfl) rfl
theorem q1122 : (Jvm.Cond.selects "LentSundays" ({ cls := "LentSundays", name := "sunday", desc := "(II)I" } : Jvm.MethodName) ({ cls := "LentSundays", name := "sunday", desc := "(II)I" } : Jvm.MethodName)) ∈ lw_all := lw_g (lw_at lw_m5 35 rfl) rfl
theorem q1123 : (Jvm.Cond.code ({ cls := "LentSundays", name := "sunday", desc := "(II)I" } : Jvm.MethodName) prog_1_method_16_code (3 : Nat) (Option.some Jvm.ClassFile.FieldType.int)) ∈ lw_all := lw_g (lw_at lw_m5 36 rfl) rfl
theorem q1124 : (Jvm.Cond.methodLink "LentSundays" (153 : Nat) ({ cls := "LentSundays", name := "isSunday", desc := "(I)Z" } : Jvm.MethodName)) ∈ lw_all := lw_g (lw_at lw_m5 37 rfl) rfl
theorem q1125 : (Jvm.Cond.privateMethod ({ cls := "LentSundays", name := "isSunday", desc := "(I)Z" } : Jvm.MethodName)) ∈ lw_tbl := lw_at lw_m5 38 rfl
theorem q1126 : (Jvm.Cond.instanceMethod ({ cls := "LentSundays", name := "isSunday", desc := "(I)Z" } : Jvm.MethodName)) ∈ lw_all := lw_g (lw_at lw_m5 39 rfl) rfl
theorem q1127 : (Jvm.Cond.code ({ cls := "LentSundays", name := "isSunday", desc := "(I)Z" } : Jvm.MethodName) prog_1_method_12_code (2 : Nat) (Option.some Jvm.ClassFile.FieldType.boolean)) ∈ lw_all := lw_g (lw_at lw_m5 40 rfl) rfl
theorem q1128 : (Jvm.Cond.methodLink "LentSundays" (145 : Nat) ({ cls := "LentSundays", name := "sundays", desc := "()I" } : Jvm.MethodName)) ∈ lw_all := lw_g (lw_at lw_m5 41 rfl) rfl
theorem q1129 : (Jvm.Cond.privateMethod ({ cls := "LentSundays", name := "sundays", desc := "()I" } : Jvm.MethodName)) ∈ lw_tbl := lw_at lw_m5 42 rfl
theorem q1130 : (Jvm.Cond.instanceMethod ({ cls := "LentSundays", name := "sundays", desc := "()I" } : Jvm.MethodName)) ∈ lw_all := lw_g (lw_at lw_m5 43 rfl) rfl
theorem q1131 : (Jvm.Cond.code ({ cls := "LentSundays", name := "sundays", desc := "()I" } : Jvm.MethodName) prog_1_method_10_code (1 : Nat) (Option.some Jvm.ClassFile.FieldType.int)) ∈ lw_all := lw_g (lw_at lw_m5 44 rfl) rfl
theorem q1132 : (Jvm.Cond.methodLink "LentSundays" (136 : Nat) ({ cls := "java/util/ArrayList", name := "size", desc := "()I" } : Jvm.MethodName)) ∈ lw_all := lw_g (lw_at lw_m5 45 rfl) rfl
theorem q1133 : (Jvm.Cond.methodLink "LentSundays" (147 : Nat) ({ cls := "LentSundays", name := "isIn", desc := "(III)Z" } : Jvm.MethodName)) ∈ lw_all := lw_g (lw_at lw_m5 46 rfl) rfl
theorem q1134 : (Jvm.Cond.static ({ cls := "LentSundays", name := "isIn", desc := "(III)Z" } : Jvm.MethodName)) ∈ lw_all := lw_g (lw_at lw_m5 47 rfl) rfl
theorem q1135 : (Jvm.Cond.code ({ cls := "LentSundays", name := "isIn", desc := "(III)Z" } : Jvm.MethodName) prog_1_method_9_code (3 : Nat) (Option.some Jvm.ClassFile.FieldType.boolean)) ∈ lw_all := lw_g (lw_at lw_m5 48 rfl) rfl
theorem q1136 : (Jvm.Cond.methodLink "LentSundays" (160 : Nat) ({ cls := "java/util/ArrayList", name := "get", desc := "(I)Ljava/lang/Object;" } : Jvm.MethodName)) ∈ lw_all := lw_g (lw_at lw_m5 49 rfl) rfl
theorem q1137 : (Jvm.Cond.classLink "LentSundays" (164 : Nat) "LentSundays$Sunday") ∈ lw_all := lw_g (lw_at lw_m5 50 rfl) rfl
theorem q1138 : (Jvm.Cond.methodLink "LentSundays" (157 : Nat) ({ cls := "LentSundays$House", name := "isSold", desc := "(I)Z" } : Jvm.MethodName)) ∈ lw_all := lw_g (lw_at lw_m5 51 rfl) rfl
theorem q1142 : (Jvm.Cond.methodLink "LentSundays" (175 : Nat) ({ cls := "LentSundays$House", name := "guests", desc := "(I)I" } : Jvm.MethodName)) ∈ lw_all := lw_g (lw_at lw_m5 55 rfl) rfl
theorem q1146 : (Jvm.Cond.methodLink "LentSundays" (178 : Nat) ({ cls := "LentSundays$House", name := "wears", desc := "(LLentSundays$Text;I)I" } : Jvm.MethodName)) ∈ lw_all := lw_g (lw_at lw_m5 59 rfl) rfl
theorem q1188 : (Jvm.Cond.methodLink "LentSundays" (182 : Nat) ({ cls := "LentSundays$House", name := "sells", desc := "(LLentSundays$Text;I)I" } : Jvm.MethodName)) ∈ lw_all := lw_g (lw_at lw_m5 101 rfl) rfl
theorem q1193 : (Jvm.Cond.instanceMethod ({ cls := "LentSundays", name := "guest", desc := "(II)I" } : Jvm.MethodName)) ∈ lw_all := lw_g (lw_at lw_m5 106 rfl) rfl
theorem q1194 : (Jvm.Cond.selects "LentSundays" ({ cls := "LentSundays", name := "guest", desc := "(II)I" } : Jvm.MethodName) ({ cls := "LentSundays", name := "guest", desc := "(II)I" } : Jvm.MethodName)) ∈ lw_all := lw_g (lw_at lw_m5 107 rfl) rfl
theorem q1195 : (Jvm.Cond.code ({ cls := "LentSundays", name := "guest", desc := "(II)I" } : Jvm.MethodName) prog_1_method_17_code (4 : Nat) (Option.some Jvm.ClassFile.FieldType.int)) ∈ lw_all := lw_g (lw_at lw_m5 108 rfl) rfl
theorem q1196 : (Jvm.Cond.methodLink "LentSundays" (185 : Nat) ({ cls := "LentSundays", name := "isGuest", desc := "(I)Z" } : Jvm.MethodName)) ∈ lw_all := lw_g (lw_at lw_m5 109 rfl) rfl
theorem q1197 : (Jvm.Cond.privateMethod ({ cls := "LentSundays", name := "isGuest", desc := "(I)Z" } : Jvm.MethodName)) ∈ lw_tbl := lw_at lw_m5 110 rfl
theorem q1198 : (Jvm.Cond.instanceMethod ({ cls := "LentSundays", name := "isGuest", desc := "(I)Z" } : Jvm.MethodName)) ∈ lw_all := lw_g (lw_at lw_m5 111 rfl) rfl
theorem q1199 : (Jvm.Cond.code ({ cls := "LentSundays", name := "isGuest", desc := "(I)Z" } : Jvm.MethodName) prog_1_method_13_code (2 : Nat) (Option.some Jvm.ClassFile.FieldType.boolean)) ∈ lw_all := lw_g (lw_at lw_m5 112 rfl) rfl
theorem q1200 : (Jvm.Cond.methodLink "LentSundays" (151 : Nat) ({ cls := "LentSundays", name := "guests", desc := "()I" } : Jvm.MethodName)) ∈ lw_all := lw_g (lw_at lw_m5 113 rfl) rfl
theorem q1201 : (Jvm.Cond.privateMethod ({ cls := "LentSundays", name := "guests", desc := "()I" } : Jvm.MethodName)) ∈ lw_tbl := lw_at lw_m5 114 rfl
theorem q1202 : (Jvm.Cond.instanceMethod ({ cls := "LentSundays", name := "guests", desc := "()I" } : Jvm.MethodName)) ∈ lw_all := lw_g (lw_at lw_m5 115 rfl) rfl
theorem q1203 : (Jvm.Cond.code ({ cls := "LentSundays", name := "guests", desc := "()I" } : Jvm.MethodName) prog_1_method_11_code (1 : Nat) (Option.some Jvm.ClassFile.FieldType.int)) ∈ lw_all := lw_g (lw_at lw_m5 116 rfl) rfl
theorem q1204 : (Jvm.Cond.classLink "LentSundays" (188 : Nat) "LentSundays$Guest") ∈ lw_all := lw_g (lw_at lw_m5 117 rfl) rfl
theorem q1205 : (Jvm.Cond.methodLink "LentSundays" (203 : Nat) ({ cls := "LentSundays$House", name := "isDead", desc := "(I)Z" } : Jvm.MethodName)) ∈ lw_all := lw_g (lw_at lw_m5 118 rfl) rfl
theorem q1209 : (Jvm.Cond.methodLink "LentSundays" (206 : Nat) ({ cls := "LentSundays$House", name := "pays", desc := "(LLentSundays$Text;I)I" } : Jvm.MethodName)) ∈ lw_all := lw_g (lw_at lw_m5 122 rfl) rfl
theorem q1225 : (Jvm.Cond.methodLink "LentSundays" (209 : Nat) ({ cls := "LentSundays$House", name := "rests", desc := "(LLentSundays$Text;I)I" } : Jvm.MethodName)) ∈ lw_all := lw_g (lw_at lw_m5 138 rfl) rfl
theorem q1230 : (Jvm.Cond.instanceMethod ({ cls := "LentSundays", name := "at", desc := "(II)I" } : Jvm.MethodName)) ∈ lw_all := lw_g (lw_at lw_m5 143 rfl) rfl
theorem q1231 : (Jvm.Cond.selects "LentSundays" ({ cls := "LentSundays", name := "at", desc := "(II)I" } : Jvm.MethodName) ({ cls := "LentSundays", name := "at", desc := "(II)I" } : Jvm.MethodName)) ∈ lw_all := lw_g (lw_at lw_m5 144 rfl) rfl
theorem q1232 : (Jvm.Cond.code ({ cls := "LentSundays", name := "at", desc := "(II)I" } : Jvm.MethodName) prog_1_method_19_code (3 : Nat) (Option.some Jvm.ClassFile.FieldType.int)) ∈ lw_all := lw_g (lw_at lw_m5 145 rfl) rfl
theorem q1233 : (Jvm.Cond.methodLink "LentSundays" (215 : Nat) ({ cls := "LentSundays", name := "whoAt", desc := "(II)I" } : Jvm.MethodName)) ∈ lw_all := lw_g (lw_at lw_m5 146 rfl) rfl
theorem q1234 : (Jvm.Cond.privateMethod ({ cls := "LentSundays", name := "whoAt", desc := "(II)I" } : Jvm.MethodName)) ∈ lw_tbl := lw_at lw_m5 147 rfl
theorem q1235 : (Jvm.Cond.instanceMethod ({ cls := "LentSundays", name := "whoAt", desc := "(II)I" } : Jvm.MethodName)) ∈ lw_all := lw_g (lw_at lw_m5 148 rfl) rfl
theorem q1236 : (Jvm.Cond.code ({ cls := "LentSundays", name := "whoAt", desc := "(II)I" } : Jvm.MethodName) prog_1_method_18_code (4 : Nat) (Option.some Jvm.ClassFile.FieldType.int)) ∈ lw_all := lw_g (lw_at lw_m5 149 rfl) rfl
theorem q1237 : (Jvm.Cond.methodLink "LentSundays" (212 : Nat) ({ cls := "LentSundays$Guest", name := "isThere", desc := "(I)Z" } : Jvm.MethodName)) ∈ lw_all := lw_g (lw_at lw_m5 150 rfl) rfl
theorem q1242 : (Jvm.Cond.instanceMethod ({ cls := "LentSundays", name := "letIn", desc := "(II)Z" } : Jvm.MethodName)) ∈ lw_all := lw_g (lw_at lw_m5 155 rfl) rfl
theorem q1243 : (Jvm.Cond.selects "LentSundays" ({ cls := "LentSundays", name := "letIn", desc := "(II)Z" } : Jvm.MethodName) ({ cls := "LentSundays", name := "letIn", desc := "(II)Z" } : Jvm.MethodName)) ∈ lw_all := lw_g (lw_at lw_m5 156 rfl) rfl
theorem q1244 : (Jvm.Cond.code ({ cls := "LentSundays", name := "letIn", desc := "(II)Z" } : Jvm.MethodName) prog_1_method_21_code (3 : Nat) (Option.some Jvm.ClassFile.FieldType.boolean)) ∈ lw_all := lw_g (lw_at lw_m5 157 rfl) rfl
theorem q1245 : (Jvm.Cond.methodLink "LentSundays" (230 : Nat) ({ cls := "LentSundays$House", name := "room", desc := "(LLentSundays$Text;I)I" } : Jvm.MethodName)) ∈ lw_all := lw_g (lw_at lw_m5 158 rfl) rfl
theorem q1269 : (Jvm.Cond.methodLink "LentSundays" (233 : Nat) ({ cls := "LentSundays", name := "keeps", desc := "()V" } : Jvm.MethodName)) ∈ lw_all := lw_g (lw_at lw_m5 182 rfl) rfl
theorem q1270 : (Jvm.Cond.privateMethod ({ cls := "LentSundays", name := "keeps", desc := "()V" } : Jvm.MethodName)) ∈ lw_tbl := lw_at lw_m5 183 rfl
theorem q1271 : (Jvm.Cond.instanceMethod ({ cls := "LentSundays", name := "keeps", desc := "()V" } : Jvm.MethodName)) ∈ lw_all := lw_g (lw_at lw_m5 184 rfl) rfl
theorem q1272 : (Jvm.Cond.code ({ cls := "LentSundays", name := "keeps", desc := "()V" } : Jvm.MethodName) prog_1_method_20_code (1 : Nat) (Option.none : Option Jvm.ClassFile.FieldType)) ∈ lw_all := lw_g (lw_at lw_m5 185 rfl) rfl
theorem q1273 : (Jvm.Cond.methodLink "LentSundays" (221 : Nat) ({ cls := "LentSundays$House", name := "takes", desc := "(LLentSundays$House;)V" } : Jvm.MethodName)) ∈ lw_all := lw_g (lw_at lw_m5 186 rfl) rfl
theorem q1281 : (Jvm.Cond.methodLink "LentSundays" (225 : Nat) ({ cls := "java/lang/Math", name := "min", desc := "(II)I" } : Jvm.MethodName)) ∈ lw_all := lw_g (lw_at lw_m5 194 rfl) rfl
theorem q1283 : (Jvm.Cond.instanceMethod ({ cls := "LentSundays", name := "putOut", desc := "(I)Z" } : Jvm.MethodName)) ∈ lw_all := lw_g (lw_at lw_m5 196 rfl) rfl
theorem q1284 : (Jvm.Cond.selects "LentSundays" ({ cls := "LentSundays", name := "putOut", desc := "(I)Z" } : Jvm.MethodName) ({ cls := "LentSundays", name := "putOut", desc := "(I)Z" } : Jvm.MethodName)) ∈ lw_all := lw_g (lw_at lw_m5 197 rfl) rfl
theorem q1285 : (Jvm.Cond.code ({ cls := "LentSundays", name := "putOut", desc := "(I)Z" } : Jvm.MethodName) prog_1_method_22_code (2 : Nat) (Option.some Jvm.ClassFile.FieldType.boolean)) ∈ lw_all := lw_g (lw_at lw_m5 198 rfl) rfl
theorem q1287 : (Jvm.Cond.instanceMethod ({ cls := "LentSundays", name := "sell", desc := "(I)I" } : Jvm.MethodName)) ∈ lw_all := lw_g (lw_at lw_m5 200 rfl) rfl
theorem q1288 : (Jvm.Cond.selects "LentSundays" ({ cls := "LentSundays", name := "sell", desc := "(I)I" } : Jvm.MethodName) ({ cls := "LentSundays", name := "sell", desc := "(I)I" } : Jvm.MethodName)) ∈ lw_all := lw_g (lw_at lw_m5 201 rfl) rfl
theorem q1289 : (Jvm.Cond.code ({ cls := "LentSundays", name := "sell", desc := "(I)I" } : Jvm.MethodName) prog_1_method_23_code (3 : Nat) (Option.some Jvm.ClassFile.FieldType.int)) ∈ lw_all := lw_g (lw_at lw_m5 202 rfl) rfl
theorem q1290 : (Jvm.Cond.methodLink "LentSundays" (236 : Nat) ({ cls := "LentSundays", name := "isKept", desc := "(I)Z" } : Jvm.MethodName)) ∈ lw_all := lw_g (lw_at lw_m5 203 rfl) rfl
theorem q1291 : (Jvm.Cond.privateMethod ({ cls := "LentSundays", name := "isKept", desc := "(I)Z" } : Jvm.MethodName)) ∈ lw_tbl := lw_at lw_m5 204 rfl
theorem q1292 : (Jvm.Cond.instanceMethod ({ cls := "LentSundays", name := "isKept", desc := "(I)Z" } : Jvm.MethodName)) ∈ lw_all := lw_g (lw_at lw_m5 205 rfl) rfl
theorem q1293 : (Jvm.Cond.code ({ cls := "LentSundays", name := "isKept", desc := "(I)Z" } : Jvm.MethodName) prog_1_method_14_code (2 : Nat) (Option.some Jvm.ClassFile.FieldType.boolean)) ∈ lw_all := lw_g (lw_at lw_m5 206 rfl) rfl
theorem q1295 : (Jvm.Cond.instanceMethod ({ cls := "LentSundays", name := "air", desc := "(I)Z" } : Jvm.MethodName)) ∈ lw_all := lw_g (lw_at lw_m5 208 rfl) rfl
theorem q1296 : (Jvm.Cond.selects "LentSundays" ({ cls := "LentSundays", name := "air", desc := "(I)Z" } : Jvm.MethodName) ({ cls := "LentSundays", name := "air", desc := "(I)Z" } : Jvm.MethodName)) ∈ lw_all := lw_g (lw_at lw_m5 209 rfl) rfl
theorem q1297 : (Jvm.Cond.code ({ cls := "LentSundays", name := "air", desc := "(I)Z" } : Jvm.MethodName) prog_1_method_24_code (2 : Nat) (Option.some Jvm.ClassFile.FieldType.boolean)) ∈ lw_all := lw_g (lw_at lw_m5 210 rfl) rfl
theorem q1298 : (Jvm.Cond.methodLink "LentSundays" (245 : Nat) ({ cls := "java/lang/Math", name := "max", desc := "(II)I" } : Jvm.MethodName)) ∈ lw_all := lw_g (lw_at lw_m5 211 rfl) rfl
theorem q1300 : (Jvm.Cond.instanceMethod ({ cls := "LentSundays", name := "weeks", desc := "(I)I" } : Jvm.MethodName)) ∈ lw_all := lw_g (lw_at lw_m5 213 rfl) rfl
theorem q1301 : (Jvm.Cond.selects "LentSundays" ({ cls := "LentSundays", name := "weeks", desc := "(I)I" } : Jvm.MethodName) ({ cls := "LentSundays", name := "weeks", desc := "(I)I" } : Jvm.MethodName)) ∈ lw_all := lw_g (lw_at lw_m5 214 rfl) rfl
theorem q1302 : (Jvm.Cond.code ({ cls := "LentSundays", name := "weeks", desc := "(I)I" } : Jvm.MethodName) prog_1_method_26_code (2 : Nat) (Option.some Jvm.ClassFile.FieldType.int)) ∈ lw_all := lw_g (lw_at lw_m5 215 rfl) rfl
theorem q1303 : (Jvm.Cond.methodLink "LentSundays" (252 : Nat) ({ cls := "LentSundays", name := "isAhead", desc := "(I)Z" } : Jvm.MethodName)) ∈ lw_all := lw_g (lw_at lw_m5 216 rfl) rfl
theorem q1304 : (Jvm.Cond.static ({ cls := "LentSundays", name := "isAhead", desc := "(I)Z" } : Jvm.MethodName)) ∈ lw_all := lw_g (lw_at lw_m5 217 rfl) rfl
theorem q1305 : (Jvm.Cond.code ({ cls := "LentSundays", name := "isAhead", desc := "(I)Z" } : Jvm.MethodName) prog_1_method_15_code (1 : Nat) (Option.some Jvm.ClassFile.FieldType.boolean)) ∈ lw_all := lw_g (lw_at lw_m5 218 rfl) rfl
theorem q1306 : (Jvm.Cond.methodLink "LentSundays" (255 : Nat) ({ cls := "LentSundays", name := "runs", desc := "(LLentSundays$House;ILLentSundays$Fate;)V" } : Jvm.MethodName)) ∈ lw_all := lw_g (lw_at lw_m5 219 rfl) rfl
theorem q1307 : (Jvm.Cond.privateMethod ({ cls := "LentSundays", name := "runs", desc := "(LLentSundays$House;ILLentSundays$Fate;)V" } : Jvm.MethodName)) ∈ lw_tbl := lw_at lw_m5 220 rfl
theorem q1308 : (Jvm.Cond.instanceMethod ({ cls := "LentSundays", name := "runs", desc := "(LLentSundays$House;ILLentSundays$Fate;)V" } : Jvm.MethodName)) ∈ lw_all := lw_g (lw_at lw_m5 221 rfl) rfl
theorem q1309 : (Jvm.Cond.code ({ cls := "LentSundays", name := "runs", desc := "(LLentSundays$House;ILLentSundays$Fate;)V" } : Jvm.MethodName) prog_1_method_25_code (5 : Nat) (Option.none : Option Jvm.ClassFile.FieldType)) ∈ lw_all := lw_g (lw_at lw_m5 222 rfl) rfl
theorem q1310 : (Jvm.Cond.methodLink "LentSundays" (248 : Nat) ({ cls := "LentSundays$House", name := "goesBy", desc := "(LLentSundays$Text;LLentSundays$Fate;)V" } : Jvm.MethodName)) ∈ lw_all := lw_g (lw_at lw_m5 223 rfl) rfl
theorem q1329 : (Jvm.Cond.static ({ cls := "LentSundays", name := "lot", desc := "(III)I" } : Jvm.MethodName)) ∈ lw_all := lw_g (lw_at lw_m6 2 rfl) rfl
theorem q1330 : (Jvm.Cond.code ({ cls := "LentSundays", name := "lot", desc := "(III)I" } : Jvm.MethodName) prog_1_method_2_code (3 : Nat) (Option.some Jvm.ClassFile.FieldType.int)) ∈ lw_all := lw_g (lw_at lw_m6 3 rfl) rfl
theorem q1331 : (Jvm.Cond.methodLink "LentSundays" (2 : Nat) ({ cls := "LentSundays", name := "mixed", desc := "(II)I" } : Jvm.MethodName)) ∈ lw_all := lw_g (lw_at lw_m6 4 rfl) rfl
theorem q1332 : (Jvm.Cond.static ({ cls := "LentSundays", name := "mixed", desc := "(II)I" } : Jvm.MethodName)) ∈ lw_all := lw_g (lw_at lw_m6 5 rfl) rfl
theorem q1333 : (Jvm.Cond.code ({ cls := "LentSundays", name := "mixed", desc := "(II)I" } : Jvm.MethodName) prog_1_method_1_code (3 : Nat) (Option.some Jvm.ClassFile.FieldType.int)) ∈ lw_all := lw_g (lw_at lw_m6 6 rfl) rfl
theorem q1334 : (Jvm.Cond.constant "LentSundays" (1 : Nat) (1103515245 : Int32)) ∈ lw_all := lw_g (lw_at lw_m6 7 rfl) rfl
theorem q1339 : (Jvm.Cond.instanceMethod ({ cls := "LentSundays", name := "undo", desc := "()Z" } : Jvm.MethodName)) ∈ lw_all := lw_g (lw_at lw_m6 12 rfl) rfl
theorem q1340 : (Jvm.Cond.selects "LentSundays" ({ cls := "LentSundays", name := "undo", desc := "()Z" } : Jvm.MethodName) ({ cls := "LentSundays", name := "undo", desc := "()Z" } : Jvm.MethodName)) ∈ lw_all := lw_g (lw_at lw_m6 13 rfl) rfl
theorem q1341 : (Jvm.Cond.code ({ cls := "LentSundays", name := "undo", desc := "()Z" } : Jvm.MethodName) prog_1_method_27_code (1 : Nat) (Option.some Jvm.ClassFile.FieldType.boolean)) ∈ lw_all := lw_g (lw_at lw_m6 14 rfl) rfl
theorem q1343 : (Jvm.Cond.instanceMethod ({ cls := "LentSundays", name := "alone", desc := "(II)I" } : Jvm.MethodName)) ∈ lw_all := lw_g (lw_at lw_m6 16 rfl) rfl
theorem q1344 : (Jvm.Cond.selects "LentSundays" ({ cls := "LentSundays", name := "alone", desc := "(II)I" } : Jvm.MethodName) ({ cls := "LentSundays", name := "alone", desc := "(II)I" } : Jvm.MethodName)) ∈ lw_all := lw_g (lw_at lw_m6 17 rfl) rfl
theorem q1345 : (Jvm.Cond.code ({ cls := "LentSundays", name := "alone", desc := "(II)I" } : Jvm.MethodName) prog_1_method_32_code (5 : Nat) (Option.some Jvm.ClassFile.FieldType.int)) ∈ lw_all := lw_g (lw_at lw_m6 18 rfl) rfl
theorem q1346 : (Jvm.Cond.methodLink "LentSundays" (285 : Nat) ({ cls := "LentSundays", name := "laysPay", desc := "()V" } : Jvm.MethodName)) ∈ lw_all := lw_g (lw_at lw_m6 19 rfl) rfl
theorem q1347 : (Jvm.Cond.privateMethod ({ cls := "LentSundays", name := "laysPay", desc := "()V" } : Jvm.MethodName)) ∈ lw_tbl := lw_at lw_m6 20 rfl
theorem q1348 : (Jvm.Cond.instanceMethod ({ cls := "LentSundays", name := "laysPay", desc := "()V" } : Jvm.MethodName)) ∈ lw_all := lw_g (lw_at lw_m6 21 rfl) rfl
theorem q1349 : (Jvm.Cond.code ({ cls := "LentSundays", name := "laysPay", desc := "()V" } : Jvm.MethodName) prog_1_method_31_code (3 : Nat) (Option.none : Option Jvm.ClassFile.FieldType)) ∈ lw_all := lw_g (lw_at lw_m6 22 rfl) rfl
theorem q1350 : (Jvm.Cond.methodLink "LentSundays" (279 : Nat) ({ cls := "LentSundays", name := "sets", desc := "()I" } : Jvm.MethodName)) ∈ lw_all := lw_g (lw_at lw_m6 23 rfl) rfl
theorem q1351 : (Jvm.Cond.privateMethod ({ cls := "LentSundays", name := "sets", desc := "()I" } : Jvm.MethodName)) ∈ lw_tbl := lw_at lw_m6 24 rfl
theorem q1352 : (Jvm.Cond.instanceMethod ({ cls := "LentSundays", name := "sets", desc := "()I" } : Jvm.MethodName)) ∈ lw_all := lw_g (lw_at lw_m6 25 rfl) rfl
theorem q1353 : (Jvm.Cond.code ({ cls := "LentSundays", name := "sets", desc := "()I" } : Jvm.MethodName) prog_1_method_28_code (1 : Nat) (Option.some Jvm.ClassFile.FieldType.int)) ∈ lw_all := lw_g (lw_at lw_m6 26 rfl) rfl
theorem q1354 : (Jvm.Cond.methodLink "LentSundays" (282 : Nat) ({ cls := "LentSundays", name := "payOf", desc := "(II)I" } : Jvm.MethodName)) ∈ lw_all := lw_g (lw_at lw_m6 27 rfl) rfl
theorem q1355 : (Jvm.Cond.privateMethod ({ cls := "LentSundays", name := "payOf", desc := "(II)I" } : Jvm.MethodName)) ∈ lw_tbl := lw_at lw_m6 28 rfl
theorem q1356 : (Jvm.Cond.instanceMethod ({ cls := "LentSundays", name := "payOf", desc := "(II)I" } : Jvm.MethodName)) ∈ lw_all := lw_g (lw_at lw_m6 29 rfl) rfl
theorem q1357 : (Jvm.Cond.code ({ cls := "LentSundays", name := "payOf", desc := "(II)I" } : Jvm.MethodName) prog_1_method_30_code (5 : Nat) (Option.some Jvm.ClassFile.FieldType.int)) ∈ lw_all := lw_g (lw_at lw_m6 30 rfl) rfl
theorem q1358 : (Jvm.Cond.methodLink "LentSundays" (268 : Nat) ({ cls := "LentSundays", name := "isCalm", desc := "(I)Z" } : Jvm.MethodName)) ∈ lw_all := lw_g (lw_at lw_m6 31 rfl) rfl
theorem q1359 : (Jvm.Cond.privateMethod ({ cls := "LentSundays", name := "isCalm", desc := "(I)Z" } : Jvm.MethodName)) ∈ lw_tbl := lw_at lw_m6 32 rfl
theorem q1360 : (Jvm.Cond.instanceMethod ({ cls := "LentSundays", name := "isCalm", desc := "(I)Z" } : Jvm.MethodName)) ∈ lw_all := lw_g (lw_at lw_m6 33 rfl) rfl
theorem q1361 : (Jvm.Cond.code ({ cls := "LentSundays", name := "isCalm", desc := "(I)Z" } : Jvm.MethodName) prog_1_method_29_code (3 : Nat) (Option.some Jvm.ClassFile.FieldType.boolean)) ∈ lw_all := lw_g (lw_at lw_m6 34 rfl) rfl
theorem q1362 : (Jvm.Cond.methodLink "LentSundays" (262 : Nat) ({ cls := "LentSundays$Text", name := "rivals", desc := "(I)I" } : Jvm.MethodName)) ∈ lw_all := lw_g (lw_at lw_m6 35 rfl) rfl
theorem q1363 : (Jvm.Cond.methodLink "LentSundays" (271 : Nat) ({ cls := "LentSundays$Text", name := "isLong", desc := "(II)Z" } : Jvm.MethodName)) ∈ lw_all := lw_g (lw_at lw_m6 36 rfl) rfl
theorem q1364 : (Jvm.Cond.methodLink "LentSundays" (275 : Nat) ({ cls := "LentSundays$House", name := "paysIn", desc := "(LLentSundays$Text;III)I" } : Jvm.MethodName)) ∈ lw_all := lw_g (lw_at lw_m6 37 rfl) rfl
theorem q1366 : (Jvm.Cond.instanceMethod ({ cls := "LentSundays", name := "letting", desc := "(I)I" } : Jvm.MethodName)) ∈ lw_all := lw_g (lw_at lw_m6 39 rfl) rfl
theorem q1367 : (Jvm.Cond.selects "LentSundays" ({ cls := "LentSundays", name := "letting", desc := "(I)I" } : Jvm.MethodName) ({ cls := "LentSundays", name := "letting", desc := "(I)I" } : Jvm.MethodName)) ∈ lw_all := lw_g (lw_at lw_m6 40 rfl) rfl
theorem q1368 : (Jvm.Cond.code ({ cls := "LentSundays", name := "letting", desc := "(I)I" } : Jvm.MethodName) prog_1_method_35_code (4 : Nat) (Option.some Jvm.ClassFile.FieldType.int)) ∈ lw_all := lw_g (lw_at lw_m6 41 rfl) rfl
theorem q1369 : (Jvm.Cond.methodLink "LentSundays" (288 : Nat) ({ cls := "LentSundays", name := "laysMost", desc := "()V" } : Jvm.MethodName)) ∈ lw_all := lw_g (lw_at lw_m6 42 rfl) rfl
theorem q1370 : (Jvm.Cond.privateMethod ({ cls := "LentSundays", name := "laysMost", desc := "()V" } : Jvm.MethodName)) ∈ lw_tbl := lw_at lw_m6 43 rfl
theorem q1371 : (Jvm.Cond.instanceMethod ({ cls := "LentSundays", name := "laysMost", desc := "()V" } : Jvm.MethodName)) ∈ lw_all := lw_g (lw_at lw_m6 44 rfl) rfl
theorem q1372 : (Jvm.Cond.code ({ cls := "LentSundays", name := "laysMost", desc := "()V" } : Jvm.MethodName) prog_1_method_33_code (4 : Nat) (Option.none : Option Jvm.ClassFile.FieldType)) ∈ lw_all := lw_g (lw_at lw_m6 45 rfl) rfl
theorem q1373 : (Jvm.Cond.methodLink "LentSundays" (291 : Nat) ({ cls := "LentSundays", name := "lastOf", desc := "(II)I" } : Jvm.MethodName)) ∈ lw_all := lw_g (lw_at lw_m6 46 rfl) rfl
theorem q1374 : (Jvm.Cond.privateMethod ({ cls := "LentSundays", name := "lastOf", desc := "(II)I" } : Jvm.MethodName)) ∈ lw_tbl := lw_at lw_m6 47 rfl
theorem q1375 : (Jvm.Cond.instanceMethod ({ cls := "LentSundays", name := "lastOf", desc := "(II)I" } : Jvm.MethodName)) ∈ lw_all := lw_g (lw_at lw_m6 48 rfl) rfl
theorem q1376 : (Jvm.Cond.code ({ cls := "LentSundays", name := "lastOf", desc := "(II)I" } : Jvm.MethodName) prog_1_method_34_code (4 : Nat) (Option.some Jvm.ClassFile.FieldType.int)) ∈ lw_all := lw_g (lw_at lw_m6 49 rfl) rfl
theorem q1378 : (Jvm.Cond.instanceMethod ({ cls := "LentSundays", name := "fewest", desc := "(I)I" } : Jvm.MethodName)) ∈ lw_all := lw_g (lw_at lw_m6 51 rfl) rfl
theorem q1379 : (Jvm.Cond.selects "LentSundays" ({ cls := "LentSundays", name := "fewest", desc := "(I)I" } : Jvm.MethodName) ({ cls := "LentSundays", name := "fewest", desc := "(I)I" } : Jvm.MethodName)) ∈ lw_all := lw_g (lw_at lw_m6 52 rfl) rfl
theorem q1380 : (Jvm.Cond.code ({ cls := "LentSundays", name := "fewest", desc := "(I)I" } : Jvm.MethodName) prog_1_method_38_code (4 : Nat) (Option.some Jvm.ClassFile.FieldType.int)) ∈ lw_all := lw_g (lw_at lw_m6 53 rfl) rfl
theorem q1381 : (Jvm.Cond.methodLink "LentSundays" (297 : Nat) ({ cls := "java/lang/Integer", name := "bitCount", desc := "(I)I" } : Jvm.MethodName)) ∈ lw_all := lw_g (lw_at lw_m6 54 rfl) rfl
theorem q1382 : (Jvm.Cond.methodLink "LentSundays" (302 : Nat) ({ cls := "LentSundays", name := "isEnough", desc := "(I)Z" } : Jvm.MethodName)) ∈ lw_all := lw_g (lw_at lw_m6 55 rfl) rfl
theorem q1383 : (Jvm.Cond.privateMethod ({ cls := "LentSundays", name := "isEnough", desc := "(I)Z" } : Jvm.MethodName)) ∈ lw_tbl := lw_at lw_m6 56 rfl
theorem q1384 : (Jvm.Cond.instanceMethod ({ cls := "LentSundays", name := "isEnough", desc := "(I)Z" } : Jvm.MethodName)) ∈ lw_all := lw_g (lw_at lw_m6 57 rfl) rfl
theorem q1385 : (Jvm.Cond.code ({ cls := "LentSundays", name := "isEnough", desc := "(I)Z" } : Jvm.MethodName) prog_1_method_36_code (5 : Nat) (Option.some Jvm.ClassFile.FieldType.boolean)) ∈ lw_all := lw_g (lw_at lw_m6 58 rfl) rfl
theorem q1386 : (Jvm.Cond.methodLink "LentSundays" (294 : Nat) ({ cls := "LentSundays", name := "isPlacedBy", desc := "(II)Z" } : Jvm.MethodName)) ∈ lw_all := lw_g (lw_at lw_m6 59 rfl) rfl
theorem q1387 : (Jvm.Cond.privateMethod ({ cls := "LentSundays", name := "isPlacedBy", desc := "(II)Z" } : Jvm.MethodName)) ∈ lw_tbl := lw_at lw_m6 60 rfl
theorem q1388 : (Jvm.Cond.instanceMethod ({ cls := "LentSundays", name := "isPlacedBy", desc := "(II)Z" } : Jvm.MethodName)) ∈ lw_all := lw_g (lw_at lw_m6 61 rfl) rfl
theorem q1389 : (Jvm.Cond.code ({ cls := "LentSundays", name := "isPlacedBy", desc := "(II)Z" } : Jvm.MethodName) prog_1_method_37_code (4 : Nat) (Option.some Jvm.ClassFile.FieldType.boolean)) ∈ lw_all := lw_g (lw_at lw_m6 62 rfl) rfl
theorem q1391 : (Jvm.Cond.instanceMethod ({ cls := "LentSundays", name := "colours", desc := "()I" } : Jvm.MethodName)) ∈ lw_all := lw_g (lw_at lw_m6 64 rfl) rfl
theorem q1392 : (Jvm.Cond.selects "LentSundays" ({ cls := "LentSundays", name := "colours", desc := "()I" } : Jvm.MethodName) ({ cls := "LentSundays", name := "colours", desc := "()I" } : Jvm.MethodName)) ∈ lw_all := lw_g (lw_at lw_m6 65 rfl) rfl
theorem q1393 : (Jvm.Cond.code ({ cls := "LentSundays", name := "colours", desc := "()I" } : Jvm.MethodName) prog_1_method_39_code (3 : Nat) (Option.some Jvm.ClassFile.FieldType.int)) ∈ lw_all := lw_g (lw_at lw_m6 66 rfl) rfl
theorem q1394 : (Jvm.Cond.constant "LentSundays" (305 : Nat) (1000000 : Int32)) ∈ lw_all := lw_g (lw_at lw_m6 67 rfl) rfl
theorem q1396 : (Jvm.Cond.instanceMethod ({ cls := "LentSundays", name := "tangle", desc := "(I)I" } : Jvm.MethodName)) ∈ lw_all := lw_g (lw_at lw_m6 69 rfl) rfl
theorem q1397 : (Jvm.Cond.selects "LentSundays" ({ cls := "LentSundays", name := "tangle", desc := "(I)I" } : Jvm.MethodName) ({ cls := "LentSundays", name := "tangle", desc := "(I)I" } : Jvm.MethodName)) ∈ lw_all := lw_g (lw_at lw_m6 70 rfl) rfl
theorem q1398 : (Jvm.Cond.code ({ cls := "LentSundays", name := "tangle", desc := "(I)I" } : Jvm.MethodName) prog_1_method_41_code (4 : Nat) (Option.some Jvm.ClassFile.FieldType.int)) ∈ lw_all := lw_g (lw_at lw_m6 71 rfl) rfl
theorem q1399 : (Jvm.Cond.methodLink "LentSundays" (306 : Nat) ({ cls := "LentSundays", name := "isTangle", desc := "(I)Z" } : Jvm.MethodName)) ∈ lw_all := lw_g (lw_at lw_m6 72 rfl) rfl
theorem q1400 : (Jvm.Cond.privateMethod ({ cls := "LentSundays", name := "isTangle", desc := "(I)Z" } : Jvm.MethodName)) ∈ lw_tbl := lw_at lw_m6 73 rfl
theorem q1401 : (Jvm.Cond.instanceMethod ({ cls := "LentSundays", name := "isTangle", desc := "(I)Z" } : Jvm.MethodName)) ∈ lw_all := lw_g (lw_at lw_m6 74 rfl) rfl
theorem q1402 : (Jvm.Cond.code ({ cls := "LentSundays", name := "isTangle", desc := "(I)Z" } : Jvm.MethodName) prog_1_method_40_code (3 : Nat) (Option.some Jvm.ClassFile.FieldType.boolean)) ∈ lw_all := lw_g (lw_at lw_m6 75 rfl) rfl
theorem q1404 : (Jvm.Cond.instanceMethod ({ cls := "LentSundays", name := "fitting", desc := "(I)I" } : Jvm.MethodName)) ∈ lw_all := lw_g (lw_at lw_m6 77 rfl) rfl
theorem q1405 : (Jvm.Cond.selects "LentSundays" ({ cls := "LentSundays", name := "fitting", desc := "(I)I" } : Jvm.MethodName) ({ cls := "LentSundays", name := "fitting", desc := "(I)I" } : Jvm.MethodName)) ∈ lw_all := lw_g (lw_at lw_m6 78 rfl) rfl
theorem q1406 : (Jvm.Cond.code ({ cls := "LentSundays", name := "fitting", desc := "(I)I" } : Jvm.MethodName) prog_1_method_42_code (4 : Nat) (Option.some Jvm.ClassFile.FieldType.int)) ∈ lw_all := lw_g (lw_at lw_m6 79 rfl) rfl
theorem q1408 : (Jvm.Cond.instanceMethod ({ cls := "LentSundays", name := "row", desc := "(II)I" } : Jvm.MethodName)) ∈ lw_all := lw_g (lw_at lw_m6 81 rfl) rfl
theorem q1409 : (Jvm.Cond.selects "LentSundays" ({ cls := "LentSundays", name := "row", desc := "(II)I" } : Jvm.MethodName) ({ cls := "LentSundays", name := "row", desc := "(II)I" } : Jvm.MethodName)) ∈ lw_all := lw_g (lw_at lw_m6 82 rfl) rfl
theorem q1410 : (Jvm.Cond.code ({ cls := "LentSundays", name := "row", desc := "(II)I" } : Jvm.MethodName) prog_1_method_43_code (7 : Nat) (Option.some Jvm.ClassFile.FieldType.int)) ∈ lw_all := lw_g (lw_at lw_m6 83 rfl) rfl
theorem q1412 : (Jvm.Cond.instanceMethod ({ cls := "LentSundays", name := "change", desc := "(II)I" } : Jvm.MethodName)) ∈ lw_all := lw_g (lw_at lw_m6 85 rfl) rfl
theorem q1413 : (Jvm.Cond.selects "LentSundays" ({ cls := "LentSundays", name := "change", desc := "(II)I" } : Jvm.MethodName) ({ cls := "LentSundays", name := "change", desc := "(II)I" } : Jvm.MethodName)) ∈ lw_all := lw_g (lw_at lw_m6 86 rfl) rfl
theorem q1414 : (Jvm.Cond.code ({ cls := "LentSundays", name := "change", desc := "(II)I" } : Jvm.MethodName) prog_1_method_44_code (3 : Nat) (Option.some Jvm.ClassFile.FieldType.int)) ∈ lw_all := lw_g (lw_at lw_m6 87 rfl) rfl
theorem q1416 : (Jvm.Cond.instanceMethod ({ cls := "LentSundays", name := "payer", desc := "(I)I" } : Jvm.MethodName)) ∈ lw_all := lw_g (lw_at lw_m6 89 rfl) rfl
theorem q1417 : (Jvm.Cond.selects "LentSundays" ({ cls := "LentSundays", name := "payer", desc := "(I)I" } : Jvm.MethodName) ({ cls := "LentSundays", name := "payer", desc := "(I)I" } : Jvm.MethodName)) ∈ lw_all := lw_g (lw_at lw_m6 90 rfl) rfl
theorem q1418 : (Jvm.Cond.code ({ cls := "LentSundays", name := "payer", desc := "(I)I" } : Jvm.MethodName) prog_1_method_45_code (4 : Nat) (Option.some Jvm.ClassFile.FieldType.int)) ∈ lw_all := lw_g (lw_at lw_m6 91 rfl) rfl
theorem q1420 : (Jvm.Cond.instanceMethod ({ cls := "LentSundays", name := "idle", desc := "()I" } : Jvm.MethodName)) ∈ lw_all := lw_g (lw_at lw_m6 93 rfl) rfl
theorem q1421 : (Jvm.Cond.selects "LentSundays" ({ cls := "LentSundays", name := "idle", desc := "()I" } : Jvm.MethodName) ({ cls := "LentSundays", name := "idle", desc := "()I" } : Jvm.MethodName)) ∈ lw_all := lw_g (lw_at lw_m6 94 rfl) rfl
theorem q1422 : (Jvm.Cond.code ({ cls := "LentSundays", name := "idle", desc := "()I" } : Jvm.MethodName) prog_1_method_46_code (3 : Nat) (Option.some Jvm.ClassFile.FieldType.int)) ∈ lw_all := lw_g (lw_at lw_m6 95 rfl) rfl
theorem q1423 : (Jvm.Cond.methodLink "LentSundays" (309 : Nat) ({ cls := "LentSundays$House", name := "hours", desc := "(LLentSundays$Text;I)I" } : Jvm.MethodName)) ∈ lw_all := lw_g (lw_at lw_m6 96 rfl) rfl
theorem q1425 : (Jvm.Cond.instanceMethod ({ cls := "LentSundays", name := "gap", desc := "(II)I" } : Jvm.MethodName)) ∈ lw_all := lw_g (lw_at lw_m6 98 rfl) rfl
theorem q1426 : (Jvm.Cond.selects "LentSundays" ({ cls := "LentSundays", name := "gap", desc := "(II)I" } : Jvm.MethodName) ({ cls := "LentSundays", name := "gap", desc := "(II)I" } : Jvm.MethodName)) ∈ lw_all := lw_g (lw_at lw_m6 99 rfl) rfl
theorem q1427 : (Jvm.Cond.code ({ cls := "LentSundays", name := "gap", desc := "(II)I" } : Jvm.MethodName) prog_1_method_47_code (7 : Nat) (Option.some Jvm.ClassFile.FieldType.int)) ∈ lw_all := lw_g (lw_at lw_m6 100 rfl) rfl
theorem q1429 : (Jvm.Cond.instanceMethod ({ cls := "LentSundays", name := "room", desc := "(I)I" } : Jvm.MethodName)) ∈ lw_all := lw_g (lw_at lw_m6 102 rfl) rfl
theorem q1430 : (Jvm.Cond.selects "LentSundays" ({ cls := "LentSundays", name := "room", desc := "(I)I" } : Jvm.MethodName) ({ cls := "LentSundays", name := "room", desc := "(I)I" } : Jvm.MethodName)) ∈ lw_all := lw_g (lw_at lw_m6 103 rfl) rfl
theorem q1431 : (Jvm.Cond.code ({ cls := "LentSundays", name := "room", desc := "(I)I" } : Jvm.MethodName) prog_1_method_48_code (2 : Nat) (Option.some Jvm.ClassFile.FieldType.int)) ∈ lw_all := lw_g (lw_at lw_m6 104 rfl) rfl
theorem q1433 : (Jvm.Cond.instanceMethod ({ cls := "LentSundays", name := "rivals", desc := "(I)I" } : Jvm.MethodName)) ∈ lw_all := lw_g (lw_at lw_m6 106 rfl) rfl
theorem q1434 : (Jvm.Cond.selects "LentSundays" ({ cls := "LentSundays", name := "rivals", desc := "(I)I" } : Jvm.MethodName) ({ cls := "LentSundays", name := "rivals", desc := "(I)I" } : Jvm.MethodName)) ∈ lw_all := lw_g (lw_at lw_m6 107 rfl) rfl
theorem q1435 : (Jvm.Cond.code ({ cls := "LentSundays", name := "rivals", desc := "(I)I" } : Jvm.MethodName) prog_1_method_49_code (2 : Nat) (Option.some Jvm.ClassFile.FieldType.int)) ∈ lw_all := lw_g (lw_at lw_m6 108 rfl) rfl
theorem q1437 : (Jvm.Cond.instanceMethod ({ cls := "LentSundays", name := "price", desc := "(II)I" } : Jvm.MethodName)) ∈ lw_all := lw_g (lw_at lw_m6 110 rfl) rfl
theorem q1438 : (Jvm.Cond.selects "LentSundays" ({ cls := "LentSundays", name := "price", desc := "(II)I" } : Jvm.MethodName) ({ cls := "LentSundays", name := "price", desc := "(II)I" } : Jvm.MethodName)) ∈ lw_all := lw_g (lw_at lw_m6 111 rfl) rfl
theorem q1439 : (Jvm.Cond.code ({ cls := "LentSundays", name := "price", desc := "(II)I" } : Jvm.MethodName) prog_1_method_50_code (3 : Nat) (Option.some Jvm.ClassFile.FieldType.int)) ∈ lw_all := lw_g (lw_at lw_m6 112 rfl) rfl
theorem q1441 : (Jvm.Cond.instanceMethod ({ cls := "LentSundays", name := "best", desc := "(III)I" } : Jvm.MethodName)) ∈ lw_all := lw_g (lw_at lw_m6 114 rfl) rfl
theorem q1442 : (Jvm.Cond.selects "LentSundays" ({ cls := "LentSundays", name := "best", desc := "(III)I" } : Jvm.MethodName) ({ cls := "LentSundays", name := "best", desc := "(III)I" } : Jvm.MethodName)) ∈ lw_all := lw_g (lw_at lw_m6 115 rfl) rfl
theorem q1443 : (Jvm.Cond.code ({ cls := "LentSundays", name := "best", desc := "(III)I" } : Jvm.MethodName) prog_1_method_51_code (8 : Nat) (Option.some Jvm.ClassFile.FieldType.int)) ∈ lw_all := lw_g (lw_at lw_m6 116 rfl) rfl
theorem q1445 : (Jvm.Cond.instanceMethod ({ cls := "LentSundays", name := "weary", desc := "(I)I" } : Jvm.MethodName)) ∈ lw_all := lw_g (lw_at lw_m6 118 rfl) rfl
theorem q1446 : (Jvm.Cond.selects "LentSundays" ({ cls := "LentSundays", name := "weary", desc := "(I)I" } : Jvm.MethodName) ({ cls := "LentSundays", name := "weary", desc := "(I)I" } : Jvm.MethodName)) ∈ lw_all := lw_g (lw_at lw_m6 119 rfl) rfl
theorem q1447 : (Jvm.Cond.code ({ cls := "LentSundays", name := "weary", desc := "(I)I" } : Jvm.MethodName) prog_1_method_52_code (3 : Nat) (Option.some Jvm.ClassFile.FieldType.int)) ∈ lw_all := lw_g (lw_at lw_m6 120 rfl) rfl
theorem q1449 : (Jvm.Cond.instanceMethod ({ cls := "LentSundays", name := "used", desc := "(II)I" } : Jvm.MethodName)) ∈ lw_all := lw_g (lw_at lw_m6 122 rfl) rfl
theorem q1450 : (Jvm.Cond.selects "LentSundays" ({ cls := "LentSundays", name := "used", desc := "(II)I" } : Jvm.MethodName) ({ cls := "LentSundays", name := "used", desc := "(II)I" } : Jvm.MethodName)) ∈ lw_all := lw_g (lw_at lw_m6 123 rfl) rfl
theorem q1451 : (Jvm.Cond.code ({ cls := "LentSundays", name := "used", desc := "(II)I" } : Jvm.MethodName) prog_1_method_53_code (4 : Nat) (Option.some Jvm.ClassFile.FieldType.int)) ∈ lw_all := lw_g (lw_at lw_m6 124 rfl) rfl
theorem q1453 : (Jvm.Cond.instanceMethod ({ cls := "LentSundays", name := "first", desc := "(I)I" } : Jvm.MethodName)) ∈ lw_all := lw_g (lw_at lw_m6 126 rfl) rfl
theorem q1454 : (Jvm.Cond.selects "LentSundays" ({ cls := "LentSundays", name := "first", desc := "(I)I" } : Jvm.MethodName) ({ cls := "LentSundays", name := "first", desc := "(I)I" } : Jvm.MethodName)) ∈ lw_all := lw_g (lw_at lw_m6 127 rfl) rfl
theorem q1455 : (Jvm.Cond.code ({ cls := "LentSundays", name := "first", desc := "(I)I" } : Jvm.MethodName) prog_1_method_54_code (6 : Nat) (Option.some Jvm.ClassFile.FieldType.int)) ∈ lw_all := lw_g (lw_at lw_m6 128 rfl) rfl
theorem q1456 : (Jvm.Cond.methodLink "LentSundays" (314 : Nat) ({ cls := "LentSundays", name := "weary", desc := "(I)I" } : Jvm.MethodName)) ∈ lw_all := lw_g (lw_at lw_m6 129 rfl) rfl
theorem q1458 : (Jvm.Cond.instanceMethod ({ cls := "LentSundays", name := "earned", desc := "(I)I" } : Jvm.MethodName)) ∈ lw_all := lw_g (lw_at lw_m6 131 rfl) rfl
theorem q1459 : (Jvm.Cond.selects "LentSundays" ({ cls := "LentSundays", name := "earned", desc := "(I)I" } : Jvm.MethodName) ({ cls := "LentSundays", name := "earned", desc := "(I)I" } : Jvm.MethodName)) ∈ lw_all := lw_g (lw_at lw_m6 132 rfl) rfl
theorem q1460 : (Jvm.Cond.code ({ cls := "LentSundays", name := "earned", desc := "(I)I" } : Jvm.MethodName) prog_1_method_55_code (2 : Nat) (Option.some Jvm.ClassFile.FieldType.int)) ∈ lw_all := lw_g (lw_at lw_m6 133 rfl) rfl
theorem q1462 : (Jvm.Cond.instanceMethod ({ cls := "LentSundays", name := "then", desc := "(III)I" } : Jvm.MethodName)) ∈ lw_all := lw_g (lw_at lw_m6 135 rfl) rfl
theorem q1463 : (Jvm.Cond.selects "LentSundays" ({ cls := "LentSundays", name := "then", desc := "(III)I" } : Jvm.MethodName) ({ cls := "LentSundays", name := "then", desc := "(III)I" } : Jvm.MethodName)) ∈ lw_all := lw_g (lw_at lw_m6 136 rfl) rfl
theorem q1464 : (Jvm.Cond.code ({ cls := "LentSundays", name := "then", desc := "(III)I" } : Jvm.MethodName) prog_1_method_56_code (4 : Nat) (Option.some Jvm.ClassFile.FieldType.int)) ∈ lw_all := lw_g (lw_at lw_m6 137 rfl) rfl
theorem q1466 : (Jvm.Cond.instanceMethod ({ cls := "LentSundays", name := "wornIn", desc := "(II)I" } : Jvm.MethodName)) ∈ lw_all := lw_g (lw_at lw_m6 139 rfl) rfl
theorem q1467 : (Jvm.Cond.selects "LentSundays" ({ cls := "LentSundays", name := "wornIn", desc := "(II)I" } : Jvm.MethodName) ({ cls := "LentSundays", name := "wornIn", desc := "(II)I" } : Jvm.MethodName)) ∈ lw_all := lw_g (lw_at lw_m6 140 rfl) rfl
theorem q1468 : (Jvm.Cond.code ({ cls := "LentSundays", name := "wornIn", desc := "(II)I" } : Jvm.MethodName) prog_1_method_57_code (3 : Nat) (Option.some Jvm.ClassFile.FieldType.int)) ∈ lw_all := lw_g (lw_at lw_m6 141 rfl) rfl
theorem q1470 : (Jvm.Cond.instanceMethod ({ cls := "LentSundays", name := "year", desc := "(III)I" } : Jvm.MethodName)) ∈ lw_all := lw_g (lw_at lw_m6 143 rfl) rfl
theorem q1471 : (Jvm.Cond.selects "LentSundays" ({ cls := "LentSundays", name := "year", desc := "(III)I" } : Jvm.MethodName) ({ cls := "LentSundays", name := "year", desc := "(III)I" } : Jvm.MethodName)) ∈ lw_all := lw_g (lw_at lw_m6 144 rfl) rfl
theorem q1472 : (Jvm.Cond.code ({ cls := "LentSundays", name := "year", desc := "(III)I" } : Jvm.MethodName) prog_1_method_58_code (6 : Nat) (Option.some Jvm.ClassFile.FieldType.int)) ∈ lw_all := lw_g (lw_at lw_m6 145 rfl) rfl
theorem q1474 : (Jvm.Cond.instanceMethod ({ cls := "LentSundays", name := "tell", desc := "(IZ)I" } : Jvm.MethodName)) ∈ lw_all := lw_g (lw_at lw_m6 147 rfl) rfl
theorem q1475 : (Jvm.Cond.selects "LentSundays" ({ cls := "LentSundays", name := "tell", desc := "(IZ)I" } : Jvm.MethodName) ({ cls := "LentSundays", name := "tell", desc := "(IZ)I" } : Jvm.MethodName)) ∈ lw_all := lw_g (lw_at lw_m6 148 rfl) rfl
theorem q1476 : (Jvm.Cond.code ({ cls := "LentSundays", name := "tell", desc := "(IZ)I" } : Jvm.MethodName) prog_1_method_59_code (3 : Nat) (Option.some Jvm.ClassFile.FieldType.int)) ∈ lw_all := lw_g (lw_at lw_m6 149 rfl) rfl
theorem q1478 : (Jvm.Cond.instanceMethod ({ cls := "LentSundays", name := "forget", desc := "()I" } : Jvm.MethodName)) ∈ lw_all := lw_g (lw_at lw_m6 151 rfl) rfl
theorem q1479 : (Jvm.Cond.selects "LentSundays" ({ cls := "LentSundays", name := "forget", desc := "()I" } : Jvm.MethodName) ({ cls := "LentSundays", name := "forget", desc := "()I" } : Jvm.MethodName)) ∈ lw_all := lw_g (lw_at lw_m6 152 rfl) rfl
theorem q1480 : (Jvm.Cond.code ({ cls := "LentSundays", name := "forget", desc := "()I" } : Jvm.MethodName) prog_1_method_60_code (2 : Nat) (Option.some Jvm.ClassFile.FieldType.int)) ∈ lw_all := lw_g (lw_at lw_m6 153 rfl) rfl
theorem q1482 : (Jvm.Cond.instanceMethod ({ cls := "LentSundays", name := "whose", desc := "(II)I" } : Jvm.MethodName)) ∈ lw_all := lw_g (lw_at lw_m6 155 rfl) rfl
theorem q1483 : (Jvm.Cond.selects "LentSundays" ({ cls := "LentSundays", name := "whose", desc := "(II)I" } : Jvm.MethodName) ({ cls := "LentSundays", name := "whose", desc := "(II)I" } : Jvm.MethodName)) ∈ lw_all := lw_g (lw_at lw_m6 156 rfl) rfl
theorem q1484 : (Jvm.Cond.code ({ cls := "LentSundays", name := "whose", desc := "(II)I" } : Jvm.MethodName) prog_1_method_62_code (4 : Nat) (Option.some Jvm.ClassFile.FieldType.int)) ∈ lw_all := lw_g (lw_at lw_m6 157 rfl) rfl
theorem q1485 : (Jvm.Cond.methodLink "LentSundays" (321 : Nat) ({ cls := "LentSundays", name := "whoseBy", desc := "(I)I" } : Jvm.MethodName)) ∈ lw_all := lw_g (lw_at lw_m6 158 rfl) rfl
theorem q1486 : (Jvm.Cond.privateMethod ({ cls := "LentSundays", name := "whoseBy", desc := "(I)I" } : Jvm.MethodName)) ∈ lw_tbl := lw_at lw_m6 159 rfl
theorem q1487 : (Jvm.Cond.instanceMethod ({ cls := "LentSundays", name := "whoseBy", desc := "(I)I" } : Jvm.MethodName)) ∈ lw_all := lw_g (lw_at lw_m6 160 rfl) rfl
theorem q1488 : (Jvm.Cond.code ({ cls := "LentSundays", name := "whoseBy", desc := "(I)I" } : Jvm.MethodName) prog_1_method_61_code (6 : Nat) (Option.some Jvm.ClassFile.FieldType.int)) ∈ lw_all := lw_g (lw_at lw_m6 161 rfl) rfl
theorem q1490 : (Jvm.Cond.instanceMethod ({ cls := "LentSundays", name := "look", desc := "(I)I" } : Jvm.MethodName)) ∈ lw_all := lw_g (lw_at lw_m6 163 rfl) rfl
theorem q1491 : (Jvm.Cond.selects "LentSundays" ({ cls := "LentSundays", name := "look", desc := "(I)I" } : Jvm.MethodName) ({ cls := "LentSundays", name := "look", desc := "(I)I" } : Jvm.MethodName)) ∈ lw_all := lw_g (lw_at lw_m6 164 rfl) rfl
theorem q1492 : (Jvm.Cond.code ({ cls := "LentSundays", name := "look", desc := "(I)I" } : Jvm.MethodName) prog_1_method_63_code (8 : Nat) (Option.some Jvm.ClassFile.FieldType.int)) ∈ lw_all := lw_g (lw_at lw_m6 165 rfl) rfl
theorem q1494 : (Jvm.Cond.instanceMethod ({ cls := "LentSundays", name := "hold", desc := "(I)Z" } : Jvm.MethodName)) ∈ lw_all := lw_g (lw_at lw_m6 167 rfl) rfl
theorem q1495 : (Jvm.Cond.selects "LentSundays" ({ cls := "LentSundays", name := "hold", desc := "(I)Z" } : Jvm.MethodName) ({ cls := "LentSundays", name := "hold", desc := "(I)Z" } : Jvm.MethodName)) ∈ lw_all := lw_g (lw_at lw_m6 168 rfl) rfl
theorem q1496 : (Jvm.Cond.code ({ cls := "LentSundays", name := "hold", desc := "(I)Z" } : Jvm.MethodName) prog_1_method_64_code (2 : Nat) (Option.some Jvm.ClassFile.FieldType.boolean)) ∈ lw_all := lw_g (lw_at lw_m6 169 rfl) rfl
theorem q1498 : (Jvm.Cond.instanceMethod ({ cls := "LentSundays", name := "restore", desc := "(I)Z" } : Jvm.MethodName)) ∈ lw_all := lw_g (lw_at lw_m6 171 rfl) rfl
theorem q1499 : (Jvm.Cond.selects "LentSundays" ({ cls := "LentSundays", name := "restore", desc := "(I)Z" } : Jvm.MethodName) ({ cls := "LentSundays", name := "restore", desc := "(I)Z" } : Jvm.MethodName)) ∈ lw_all := lw_g (lw_at lw_m6 172 rfl) rfl
theorem q1500 : (Jvm.Cond.code ({ cls := "LentSundays", name := "restore", desc := "(I)Z" } : Jvm.MethodName) prog_1_method_65_code (2 : Nat) (Option.some Jvm.ClassFile.FieldType.boolean)) ∈ lw_all := lw_g (lw_at lw_m6 173 rfl) rfl
theorem q1502 : (Jvm.Cond.instanceMethod ({ cls := "LentSundays", name := "count", desc := "(I)I" } : Jvm.MethodName)) ∈ lw_all := lw_g (lw_at lw_m6 175 rfl) rfl
theorem q1503 : (Jvm.Cond.selects "LentSundays" ({ cls := "LentSundays", name := "count", desc := "(I)I" } : Jvm.MethodName) ({ cls := "LentSundays", name := "count", desc := "(I)I" } : Jvm.MethodName)) ∈ lw_all := lw_g (lw_at lw_m6 176 rfl) rfl
theorem q1504 : (Jvm.Cond.code ({ cls := "LentSundays", name := "count", desc := "(I)I" } : Jvm.MethodName) prog_1_method_67_code (4 : Nat) (Option.some Jvm.ClassFile.FieldType.int)) ∈ lw_all := lw_g (lw_at lw_m6 177 rfl) rfl
theorem q1505 : (Jvm.Cond.methodLink "LentSundays" (324 : Nat) ({ cls := "LentSundays$House", name := "due", desc := "(LLentSundays$Text;)I" } : Jvm.MethodName)) ∈ lw_all := lw_g (lw_at lw_m6 178 rfl) rfl
theorem q1506 : (Jvm.Cond.methodLink "LentSundays" (328 : Nat) ({ cls := "LentSundays", name := "sum", desc := "([I)I" } : Jvm.MethodName)) ∈ lw_all := lw_g (lw_at lw_m6 179 rfl) rfl
theorem q1507 : (Jvm.Cond.static ({ cls := "LentSundays", name := "sum", desc := "([I)I" } : Jvm.MethodName)) ∈ lw_all := lw_g (lw_at lw_m6 180 rfl) rfl
theorem q1508 : (Jvm.Cond.code ({ cls := "LentSundays", name := "sum", desc := "([I)I" } : Jvm.MethodName) prog_1_method_66_code (3 : Nat) (Option.some Jvm.ClassFile.FieldType.int)) ∈ lw_all := lw_g (lw_at lw_m6 181 rfl) rfl
theorem q1509 : (Jvm.Cond.methodLink "LentSundays" (332 : Nat) ({ cls := "LentSundays", name := "fitting", desc := "(I)I" } : Jvm.MethodName)) ∈ lw_all := lw_g (lw_at lw_m6 182 rfl) rfl
theorem q2233 : (Jvm.Cond.castable "LentSundays" "java/lang/Object") ∈ lw_tbl := lw_at lw_m9 186 rfl
theorem in_X0 : ∀ w ∈ wsX00, w ∈ lw_all := lw_in wsX00 [515, 517, 519, 521, 523, 525, 527, 529, 531, 533, 535, 537, 539, 541, 543, 545, 547, 549, 551, 553, 555] (by decide +kernel) (by decide +kernel)
/-! LentSundays$Fault -/
set_option maxRecDepth 100000
def RX1 : String := "LentSundays$Fault"
def TX1 : u_T := fun k => match k with
  | 0 => ("java/lang/Throwable", "cause", "Ljava/lang/Throwable;", false)
  | 1 => ("java/lang/Throwable", "stackTrace", "[Ljava/lang/StackTraceElement;", false)
  | 2 => ("java/lang/Throwable", "suppressedExceptions", "Ljava/util/List;", false)
  | 3 => ("java/lang/Throwable", "detailMessage", "Ljava/lang/String;", false)
  | 4 => ("java/lang/Throwable", "backtrace", "Ljava/lang/Object;", false)
  | 5 => ("java/lang/Throwable", "depth", "I", false)
  | 6 => ("LentSundays$Fault", "number", "I", false)
  | _ => ("LentSundays$Fault", "place", "I", false)
def tyX1 : Nat → FieldType := fun k => match k with
  | 0 => .object "java/lang/Throwable"
  | 1 => .array (.object "java/lang/StackTraceElement")
  | 2 => .object "java/util/List"
  | 3 => .object "java/lang/String"
  | 4 => .object "java/lang/Object"
  | 5 => .int
  | 6 => .int
  | _ => .int
abbrev wsX10 : List Cond := u_ws RX1 TX1 8
theorem nmX1 : ∀ a, a < 8 → ∀ b, b < 8 → a ≠ b → (TX1 a).2.1 ≠ (TX1 b).2.1 := by decide +kernel
theorem tyX1_ok : ∀ k, k < 8 → parseFieldDescriptor (TX1 k).2.2.1 = some (tyX1 k) := by decide +kernel
abbrev cX1_init : ByteArray := prog_5_method_1_code
def yX1_init : MethodName := ⟨RX1, "<init>", "()V"⟩
def dkwX1_init_0 : List UInt8 := [42, 18, 1, 1, 3, 3, 183, 0, 3, 177]
abbrev dktX1_init_0 : List UInt8 := dkwX1_init_0 ++ []
theorem dksX1_init_0 : cX1_init.data.toList.drop 0 = dktX1_init_0 := by decide +kernel
theorem dX1_init_0 : decode cX1_init 0 = .ok (.aload_n 0, 1) := dk_42 (dk_at dksX1_init_0 0 rfl rfl)
theorem dX1_init_1 : decode cX1_init 1 = .ok (.ldc 1, 2) := dk_18 1 (dk_at dksX1_init_0 1 rfl rfl)
theorem dX1_init_3 : decode cX1_init 3 = .ok (.aconst_null, 1) := dk_1 (dk_at dksX1_init_0 3 rfl rfl)
theorem dX1_init_4 : decode cX1_init 4 = .ok (.iconst 0, 1) := dk_3 (dk_at dksX1_init_0 4 rfl rfl)
theorem dX1_init_5 : decode cX1_init 5 = .ok (.iconst 0, 1) := dk_3 (dk_at dksX1_init_0 5 rfl rfl)
theorem dX1_init_6 : decode cX1_init 6 = .ok (.invokespecial 3, 3) := dk_183 0 3 (dk_at dksX1_init_0 6 rfl rfl)
theorem dX1_init_9 : decode cX1_init 9 = .ok (.return_, 1) := dk_177 (dk_at dksX1_init_0 9 rfl rfl)
abbrev cX1_of : ByteArray := prog_5_method_2_code
def yX1_of : MethodName := ⟨RX1, "of", "(II)LLentSundays$Fault;"⟩
def dkwX1_of_0 : List UInt8 := [42, 27, 181, 0, 9, 42, 28, 181, 0, 15, 42, 176]
abbrev dktX1_of_0 : List UInt8 := dkwX1_of_0 ++ []
theorem dksX1_of_0 : cX1_of.data.toList.drop 0 = dktX1_of_0 := by decide +kernel
theorem dX1_of_0 : decode cX1_of 0 = .ok (.aload_n 0, 1) := dk_42 (dk_at dksX1_of_0 0 rfl rfl)
theorem dX1_of_1 : decode cX1_of 1 = .ok (.iload_n 1, 1) := dk_27 (dk_at dksX1_of_0 1 rfl rfl)
theorem dX1_of_2 : decode cX1_of 2 = .ok (.putfield 9, 3) := dk_181 0 9 (dk_at dksX1_of_0 2 rfl rfl)
theorem dX1_of_5 : decode cX1_of 5 = .ok (.aload_n 0, 1) := dk_42 (dk_at dksX1_of_0 5 rfl rfl)
theorem dX1_of_6 : decode cX1_of 6 = .ok (.iload_n 2, 1) := dk_28 (dk_at dksX1_of_0 6 rfl rfl)
theorem dX1_of_7 : decode cX1_of 7 = .ok (.putfield 15, 3) := dk_181 0 15 (dk_at dksX1_of_0 7 rfl rfl)
theorem dX1_of_10 : decode cX1_of 10 = .ok (.aload_n 0, 1) := dk_42 (dk_at dksX1_of_0 10 rfl rfl)
theorem dX1_of_11 : decode cX1_of 11 = .ok (.areturn, 1) := dk_176 (dk_at dksX1_of_0 11 rfl rfl)
theorem q132 : (Jvm.Cond.initialized "LentSundays$Fault") ∈ lw_all := lw_g (lw_at lw_m1 5 rfl) rfl
theorem q174 : (Jvm.Cond.instantiable "LentSundays$Fault" (8 : Nat)) ∈ lw_all := lw_g (lw_at lw_m1 47 rfl) rfl
theorem q175 : (Jvm.Cond.castable "LentSundays$Fault" "LentSundays$Fault") ∈ lw_tbl := lw_at lw_m1 48 rfl
theorem q182 : (Jvm.Cond.selects "LentSundays$Fault" ({ cls := "java/lang/Throwable", name := "fillInStackTrace", desc := "(I)Ljava/lang/Throwable;" } : Jvm.MethodName) ({ cls := "java/lang/Throwable", name := "fillInStackTrace", desc := "(I)Ljava/lang/Throwable;" } : Jvm.MethodName)) ∈ lw_all := lw_g (lw_at lw_m1 55 rfl) rfl
theorem q183 : (Jvm.Cond.selects "LentSundays$Fault" ({ cls := "java/lang/Throwable", name := "fillInStackTrace", desc := "()Ljava/lang/Throwable;" } : Jvm.MethodName) ({ cls := "java/lang/Throwable", name := "fillInStackTrace", desc := "()Ljava/lang/Throwable;" } : Jvm.MethodName)) ∈ lw_all := lw_g (lw_at lw_m1 56 rfl) rfl
theorem q184 : (Jvm.Cond.lays "LentSundays$Fault" "java/lang/Throwable" "cause" "Ljava/lang/Throwable;") ∈ lw_all := lw_g (lw_at lw_m1 57 rfl) rfl
theorem q186 : (Jvm.Cond.lays "LentSundays$Fault" "java/lang/Throwable" "stackTrace" "[Ljava/lang/StackTraceElement;") ∈ lw_all := lw_g (lw_at lw_m1 59 rfl) rfl
theorem q188 : (Jvm.Cond.lays "LentSundays$Fault" "java/lang/Throwable" "suppressedExceptions" "Ljava/util/List;") ∈ lw_all := lw_g (lw_at lw_m1 61 rfl) rfl
theorem q190 : (Jvm.Cond.lays "LentSundays$Fault" "java/lang/Throwable" "detailMessage" "Ljava/lang/String;") ∈ lw_all := lw_g (lw_at lw_m1 63 rfl) rfl
theorem q192 : (Jvm.Cond.lays "LentSundays$Fault" "java/lang/Throwable" "backtrace" "Ljava/lang/Object;") ∈ lw_all := lw_g (lw_at lw_m1 65 rfl) rfl
theorem q213 : (Jvm.Cond.instanceMethod ({ cls := "LentSundays$Fault", name := "<init>", desc := "()V" } : Jvm.MethodName)) ∈ lw_all := lw_g (lw_at lw_m1 86 rfl) rfl
theorem q214 : (Jvm.Cond.code ({ cls := "LentSundays$Fault", name := "<init>", desc := "()V" } : Jvm.MethodName) prog_5_method_1_code (1 : Nat) (Option.none : Option Jvm.ClassFile.FieldType)) ∈ lw_all := lw_g (lw_at lw_m1 87 rfl) rfl
theorem q215 : (Jvm.Cond.stringRef "LentSundays$Fault" (1 : Nat) "") ∈ lw_tbl := lw_at lw_m1 88 rfl
theorem q216 : (Jvm.Cond.methodLink "LentSundays$Fault" (3 : Nat) ({ cls := "java/lang/RuntimeException", name := "<init>", desc := "(Ljava/lang/String;Ljava/lang/Throwable;ZZ)V" } : Jvm.MethodName)) ∈ lw_all := lw_g (lw_at lw_m1 89 rfl) rfl
theorem q225 : (Jvm.Cond.fieldLink "LentSundays$Fault" (9 : Nat) "LentSundays$Fault" "number" "I") ∈ lw_all := lw_g (lw_at lw_m1 98 rfl) rfl
theorem q227 : (Jvm.Cond.fieldLink "LentSundays$Fault" (15 : Nat) "LentSundays$Fault" "place" "I") ∈ lw_all := lw_g (lw_at lw_m1 100 rfl) rfl
theorem q234 : (Jvm.Cond.lays "LentSundays$Fault" "LentSundays$Fault" "number" "I") ∈ lw_all := lw_g (lw_at lw_m1 107 rfl) rfl
theorem q235 : (Jvm.Cond.soleField "LentSundays$Fault" "number") ∈ lw_all := lw_g (lw_at lw_m1 108 rfl) rfl
theorem q236 : (Jvm.Cond.lays "LentSundays$Fault" "LentSundays$Fault" "place" "I") ∈ lw_all := lw_g (lw_at lw_m1 109 rfl) rfl
theorem q237 : (Jvm.Cond.soleField "LentSundays$Fault" "place") ∈ lw_all := lw_g (lw_at lw_m1 110 rfl) rfl
theorem q242 : (Jvm.Cond.lays "LentSundays$Fault" "java/lang/Throwable" "depth" "I") ∈ lw_all := lw_g (lw_at lw_m1 115 rfl) rfl
theorem q245 : (Jvm.Cond.superclass "LentSundays$Fault" "java/lang/RuntimeException") ∈ lw_all := lw_g (lw_at lw_m1 118 rfl) rfl
theorem q670 : (Jvm.Cond.instanceMethod ({ cls := "LentSundays$Fault", name := "of", desc := "(II)LLentSundays$Fault;" } : Jvm.MethodName)) ∈ lw_all := lw_g (lw_at lw_m3 63 rfl) rfl
theorem q671 : (Jvm.Cond.selects "LentSundays$Fault" ({ cls := "LentSundays$Fault", name := "of", desc := "(II)LLentSundays$Fault;" } : Jvm.MethodName) ({ cls := "LentSundays$Fault", name := "of", desc := "(II)LLentSundays$Fault;" } : Jvm.MethodName)) ∈ lw_all := lw_g (lw_at lw_m3 64 rfl) rfl
theorem q672 : (Jvm.Cond.code ({ cls := "LentSundays$Fault", name := "of", desc := "(II)LLentSundays$Fault;" } : Jvm.MethodName) prog_5_method_2_code (3 : Nat) (Option.some (Jvm.ClassFile.FieldType.object "LentSundays$Fault"))) ∈ lw_all := lw_g (lw_at lw_m3 65 rfl) rfl
theorem q1050 : (Jvm.Cond.selects "LentSundays$Fault" ({ cls := "java/lang/Object", name := "getClass", desc := "()Ljava/lang/Class;" } : Jvm.MethodName) ({ cls := "java/lang/Object", name := "getClass", desc := "()Ljava/lang/Class;" } : Jvm.MethodName)) ∈ lw_all := lw_g (lw_at lw_m4 203 rfl) rfl
theorem q2234 : (Jvm.Cond.castable "LentSundays$Fault" "java/lang/Object") ∈ lw_tbl := lw_at lw_m9 187 rfl
theorem in_X1 : ∀ w ∈ wsX10, w ∈ lw_all := lw_in wsX10 [184, 186, 188, 190, 192, 242, 234, 236] (by decide +kernel) (by decide +kernel)
/-! LentSundays$Law -/
set_option maxRecDepth 100000
def RX11 : String := "LentSundays$Law"
def TX11 : u_T := fun k => match k with
  | 0 => ("LentSundays$Law", "less", "[LLentSundays$Sum;", true)
  | 1 => ("LentSundays$Law", "than", "[LLentSundays$Sum;", true)
  | 2 => ("LentSundays$Law", "then", "[LLentSundays$Sum;", true)
  | _ => ("LentSundays$Law", "ifs", "I", false)
def tyX11 : Nat → FieldType := fun k => match k with
  | 0 => .array (.object "LentSundays$Sum")
  | 1 => .array (.object "LentSundays$Sum")
  | 2 => .array (.object "LentSundays$Sum")
  | _ => .int
abbrev wsX110 : List Cond := u_ws RX11 TX11 4
theorem nmX11 : ∀ a, a < 4 → ∀ b, b < 4 → a ≠ b → (TX11 a).2.1 ≠ (TX11 b).2.1 := by decide +kernel
theorem tyX11_ok : ∀ k, k < 4 → parseFieldDescriptor (TX11 k).2.2.1 = some (tyX11 k) := by decide +kernel
abbrev cX11_init : ByteArray := prog_9_method_1_code
def yX11_init : MethodName := ⟨RX11, "<init>", "()V"⟩
def dkwX11_init_1 : List UInt8 := [189, 0, 9, 181, 0, 20, 177]
abbrev dktX11_init_1 : List UInt8 := dkwX11_init_1 ++ []
def dkwX11_init_0 : List UInt8 := [42, 183, 0, 3, 42, 7, 189, 0, 9, 181, 0, 11, 42, 7, 189, 0, 9, 181, 0, 17, 42, 8]
abbrev dktX11_init_0 : List UInt8 := dkwX11_init_0 ++ dktX11_init_1
theorem dksX11_init_0 : cX11_init.data.toList.drop 0 = dktX11_init_0 := by decide +kernel
theorem dksX11_init_1 : cX11_init.data.toList.drop 22 = dktX11_init_1 := dk_seg dksX11_init_0 22 rfl rfl
theorem dX11_init_0 : decode cX11_init 0 = .ok (.aload_n 0, 1) := dk_42 (dk_at dksX11_init_0 0 rfl rfl)
theorem dX11_init_1 : decode cX11_init 1 = .ok (.invokespecial 3, 3) := dk_183 0 3 (dk_at dksX11_init_0 1 rfl rfl)
theorem dX11_init_4 : decode cX11_init 4 = .ok (.aload_n 0, 1) := dk_42 (dk_at dksX11_init_0 4 rfl rfl)
theorem dX11_init_5 : decode cX11_init 5 = .ok (.iconst 4, 1) := dk_7 (dk_at dksX11_init_0 5 rfl rfl)
theorem dX11_init_6 : decode cX11_init 6 = .ok (.anewarray 9, 3) := dk_189 0 9 (dk_at dksX11_init_0 6 rfl rfl)
theorem dX11_init_9 : decode cX11_init 9 = .ok (.putfield 11, 3) := dk_181 0 11 (dk_at dksX11_init_0 9 rfl rfl)
theorem dX11_init_12 : decode cX11_init 12 = .ok (.aload_n 0, 1) := dk_42 (dk_at dksX11_init_0 12 rfl rfl)
theorem dX11_init_13 : decode cX11_init 13 = .ok (.iconst 4, 1) := dk_7 (dk_at dksX11_init_0 13 rfl rfl)
theorem dX11_init_14 : decode cX11_init 14 = .ok (.anewarray 9, 3) := dk_189 0 9 (dk_at dksX11_init_0 14 rfl rfl)
theorem dX11_init_17 : decode cX11_init 17 = .ok (.putfield 17, 3) := dk_181 0 17 (dk_at dksX11_init_0 17 rfl rfl)
theorem dX11_init_20 : decode cX11_init 20 = .ok (.aload_n 0, 1) := dk_42 (dk_at dksX11_init_0 20 rfl rfl)
theorem dX11_init_21 : decode cX11_init 21 = .ok (.iconst 5, 1) := dk_8 (dk_at dksX11_init_0 21 rfl rfl)
theorem dX11_init_22 : decode cX11_init 22 = .ok (.anewarray 9, 3) := dk_189 0 9 (dk_at dksX11_init_1 0 rfl rfl)
theorem dX11_init_25 : decode cX11_init 25 = .ok (.putfield 20, 3) := dk_181 0 20 (dk_at dksX11_init_1 3 rfl rfl)
theorem dX11_init_28 : decode cX11_init 28 = .ok (.return_, 1) := dk_177 (dk_at dksX11_init_1 6 rfl rfl)
abbrev cX11_of : ByteArray := prog_9_method_2_code
def yX11_of : MethodName := ⟨RX11, "of", "(LLentSundays$Asked;)I"⟩
def dkwX11_of_3 : List UInt8 := [184, 0, 37, 172]
abbrev dktX11_of_3 : List UInt8 := dkwX11_of_3 ++ []
def dkwX11_of_2 : List UInt8 := [180, 0, 20, 28, 50, 43, 182, 0, 33, 62, 43, 180, 0, 23, 153, 0, 7, 3, 167, 0, 8, 3, 29]
abbrev dktX11_of_2 : List UInt8 := dkwX11_of_2 ++ dktX11_of_3
def dkwX11_of_1 : List UInt8 := [182, 0, 33, 42, 180, 0, 17, 28, 50, 43, 182, 0, 33, 161, 0, 9, 132, 2, 1, 167, 255, 222, 42]
abbrev dktX11_of_1 : List UInt8 := dkwX11_of_1 ++ dktX11_of_2
def dkwX11_of_0 : List UInt8 := [43, 3, 181, 0, 23, 3, 61, 28, 42, 180, 0, 29, 162, 0, 32, 42, 180, 0, 11, 28, 50, 43]
abbrev dktX11_of_0 : List UInt8 := dkwX11_of_0 ++ dktX11_of_1
theorem dksX11_of_0 : cX11_of.data.toList.drop 0 = dktX11_of_0 := by decide +kernel
theorem dksX11_of_1 : cX11_of.data.toList.drop 22 = dktX11_of_1 := dk_seg dksX11_of_0 22 rfl rfl
theorem dksX11_of_2 : cX11_of.data.toList.drop 45 = dktX11_of_2 := dk_seg dksX11_of_1 23 rfl rfl
theorem dksX11_of_3 : cX11_of.data.toList.drop 68 = dktX11_of_3 := dk_seg dksX11_of_2 23 rfl rfl
theorem dX11_of_0 : decode cX11_of 0 = .ok (.aload_n 1, 1) := dk_43 (dk_at dksX11_of_0 0 rfl rfl)
theorem dX11_of_1 : decode cX11_of 1 = .ok (.iconst 0, 1) := dk_3 (dk_at dksX11_of_0 1 rfl rfl)
theorem dX11_of_2 : decode cX11_of 2 = .ok (.putfield 23, 3) := dk_181 0 23 (dk_at dksX11_of_0 2 rfl rfl)
theorem dX11_of_5 : decode cX11_of 5 = .ok (.iconst 0, 1) := dk_3 (dk_at dksX11_of_0 5 rfl rfl)
theorem dX11_of_6 : decode cX11_of 6 = .ok (.istore_n 2, 1) := dk_61 (dk_at dksX11_of_0 6 rfl rfl)
theorem dX11_of_7 : decode cX11_of 7 = .ok (.iload_n 2, 1) := dk_28 (dk_at dksX11_of_0 7 rfl rfl)
theorem dX11_of_8 : decode cX11_of 8 = .ok (.aload_n 0, 1) := dk_42 (dk_at dksX11_of_0 8 rfl rfl)
theorem dX11_of_9 : decode cX11_of 9 = .ok (.getfield 29, 3) := dk_180 0 29 (dk_at dksX11_of_0 9 rfl rfl)
theorem dX11_of_12 : decode cX11_of 12 = .ok (.if_icmp .ge 32, 3) := dk_162 0 32 (dk_at dksX11_of_0 12 rfl rfl)
theorem dX11_of_15 : decode cX11_of 15 = .ok (.aload_n 0, 1) := dk_42 (dk_at dksX11_of_0 15 rfl rfl)
theorem dX11_of_16 : decode cX11_of 16 = .ok (.getfield 11, 3) := dk_180 0 11 (dk_at dksX11_of_0 16 rfl rfl)
theorem dX11_of_19 : decode cX11_of 19 = .ok (.iload_n 2, 1) := dk_28 (dk_at dksX11_of_0 19 rfl rfl)
theorem dX11_of_20 : decode cX11_of 20 = .ok (.aaload, 1) := dk_50 (dk_at dksX11_of_0 20 rfl rfl)
theorem dX11_of_21 : decode cX11_of 21 = .ok (.aload_n 1, 1) := dk_43 (dk_at dksX11_of_0 21 rfl rfl)
theorem dX11_of_22 : decode cX11_of 22 = .ok (.invokevirtual 33, 3) := dk_182 0 33 (dk_at dksX11_of_1 0 rfl rfl)
theorem dX11_of_25 : decode cX11_of 25 = .ok (.aload_n 0, 1) := dk_42 (dk_at dksX11_of_1 3 rfl rfl)
theorem dX11_of_26 : decode cX11_of 26 = .ok (.getfield 17, 3) := dk_180 0 17 (dk_at dksX11_of_1 4 rfl rfl)
theorem dX11_of_29 : decode cX11_of 29 = .ok (.iload_n 2, 1) := dk_28 (dk_at dksX11_of_1 7 rfl rfl)
theorem dX11_of_30 : decode cX11_of 30 = .ok (.aaload, 1) := dk_50 (dk_at dksX11_of_1 8 rfl rfl)
theorem dX11_of_31 : decode cX11_of 31 = .ok (.aload_n 1, 1) := dk_43 (dk_at dksX11_of_1 9 rfl rfl)
theorem dX11_of_32 : decode cX11_of 32 = .ok (.invokevirtual 33, 3) := dk_182 0 33 (dk_at dksX11_of_1 10 rfl rfl)
theorem dX11_of_35 : decode cX11_of 35 = .ok (.if_icmp .lt 9, 3) := dk_161 0 9 (dk_at dksX11_of_1 13 rfl rfl)
theorem dX11_of_38 : decode cX11_of 38 = .ok (.iinc 2 1, 3) := dk_132 2 1 (dk_at dksX11_of_1 16 rfl rfl)
theorem dX11_of_41 : decode cX11_of 41 = .ok (.goto (-34), 3) := dk_167 255 222 (dk_at dksX11_of_1 19 rfl rfl)
theorem dX11_of_44 : decode cX11_of 44 = .ok (.aload_n 0, 1) := dk_42 (dk_at dksX11_of_1 22 rfl rfl)
theorem dX11_of_45 : decode cX11_of 45 = .ok (.getfield 20, 3) := dk_180 0 20 (dk_at dksX11_of_2 0 rfl rfl)
theorem dX11_of_48 : decode cX11_of 48 = .ok (.iload_n 2, 1) := dk_28 (dk_at dksX11_of_2 3 rfl rfl)
theorem dX11_of_49 : decode cX11_of 49 = .ok (.aaload, 1) := dk_50 (dk_at dksX11_of_2 4 rfl rfl)
theorem dX11_of_50 : decode cX11_of 50 = .ok (.aload_n 1, 1) := dk_43 (dk_at dksX11_of_2 5 rfl rfl)
theorem dX11_of_51 : decode cX11_of 51 = .ok (.invokevirtual 33, 3) := dk_182 0 33 (dk_at dksX11_of_2 6 rfl rfl)
theorem dX11_of_54 : decode cX11_of 54 = .ok (.istore_n 3, 1) := dk_62 (dk_at dksX11_of_2 9 rfl rfl)
theorem dX11_of_55 : decode cX11_of 55 = .ok (.aload_n 1, 1) := dk_43 (dk_at dksX11_of_2 10 rfl rfl)
theorem dX11_of_56 : decode cX11_of 56 = .ok (.getfield 23, 3) := dk_180 0 23 (dk_at dksX11_of_2 11 rfl rfl)
theorem dX11_of_59 : decode cX11_of 59 = .ok (.ifCond .eq 7, 3) := dk_153 0 7 (dk_at dksX11_of_2 14 rfl rfl)
theorem dX11_of_62 : decode cX11_of 62 = .ok (.iconst 0, 1) := dk_3 (dk_at dksX11_of_2 17 rfl rfl)
theorem dX11_of_63 : decode cX11_of 63 = .ok (.goto 8, 3) := dk_167 0 8 (dk_at dksX11_of_2 18 rfl rfl)
theorem dX11_of_66 : decode cX11_of 66 = .ok (.iconst 0, 1) := dk_3 (dk_at dksX11_of_2 21 rfl rfl)
theorem dX11_of_67 : decode cX11_of 67 = .ok (.iload_n 3, 1) := dk_29 (dk_at dksX11_of_2 22 rfl rfl)
theorem dX11_of_68 : decode cX11_of 68 = .ok (.invokestatic 37, 3) := dk_184 0 37 (dk_at dksX11_of_3 0 rfl rfl)
theorem dX11_of_71 : decode cX11_of 71 = .ok (.ireturn, 1) := dk_172 (dk_at dksX11_of_3 3 rfl rfl)
theorem q149 : (Jvm.Cond.initialized "LentSundays$Law") ∈ lw_all := lw_g (lw_at lw_m1 22 rfl) rfl
theorem q417 : (Jvm.Cond.fieldLink "LentSundays$Law" (23 : Nat) "LentSundays$Asked" "nought" "Z") ∈ lw_all := lw_g (lw_at lw_m2 50 rfl) rfl
theorem q686 : (Jvm.Cond.instantiable "LentSundays$Law" (4 : Nat)) ∈ lw_all := lw_g (lw_at lw_m3 79 rfl) rfl
theorem q688 : (Jvm.Cond.instanceMethod ({ cls := "LentSundays$Law", name := "<init>", desc := "()V" } : Jvm.MethodName)) ∈ lw_all := lw_g (lw_at lw_m3 81 rfl) rfl
theorem q689 : (Jvm.Cond.code ({ cls := "LentSundays$Law", name := "<init>", desc := "()V" } : Jvm.MethodName) prog_9_method_1_code (1 : Nat) (Option.none : Option Jvm.ClassFile.FieldType)) ∈ lw_all := lw_g (lw_at lw_m3 82 rfl) rfl
theorem q690 : (Jvm.Cond.methodLink "LentSundays$Law" (3 : Nat) ({ cls := "java/lang/Object", name := "<init>", desc := "()V" } : Jvm.MethodName)) ∈ lw_all := lw_g (lw_at lw_m3 83 rfl) rfl
theorem q691 : (Jvm.Cond.classLink "LentSundays$Law" (9 : Nat) "LentSundays$Sum") ∈ lw_all := lw_g (lw_at lw_m3 84 rfl) rfl
theorem q693 : (Jvm.Cond.fieldLink "LentSundays$Law" (11 : Nat) "LentSundays$Law" "less" "[LLentSundays$Sum;") ∈ lw_all := lw_g (lw_at lw_m3 86 rfl) rfl
theorem q695 : (Jvm.Cond.fieldLink "LentSundays$Law" (17 : Nat) "LentSundays$Law" "than" "[LLentSundays$Sum;") ∈ lw_all := lw_g (lw_at lw_m3 88 rfl) rfl
theorem q697 : (Jvm.Cond.fieldLink "LentSundays$Law" (20 : Nat) "LentSundays$Law" "then" "[LLentSundays$Sum;") ∈ lw_all := lw_g (lw_at lw_m3 90 rfl) rfl
theorem q699 : (Jvm.Cond.fieldLink "LentSundays$Law" (29 : Nat) "LentSundays$Law" "ifs" "I") ∈ lw_all := lw_g (lw_at lw_m3 92 rfl) rfl
theorem q701 : (Jvm.Cond.laysFinal "LentSundays$Law" "LentSundays$Law" "less" "[LLentSundays$Sum;") ∈ lw_all := lw_g (lw_at lw_m3 94 rfl) rfl
theorem q702 : (Jvm.Cond.soleField "LentSundays$Law" "less") ∈ lw_all := lw_g (lw_at lw_m3 95 rfl) rfl
theorem q703 : (Jvm.Cond.laysFinal "LentSundays$Law" "LentSundays$Law" "than" "[LLentSundays$Sum;") ∈ lw_all := lw_g (lw_at lw_m3 96 rfl) rfl
theorem q704 : (Jvm.Cond.soleField "LentSundays$Law" "than") ∈ lw_all := lw_g (lw_at lw_m3 97 rfl) rfl
theorem q705 : (Jvm.Cond.laysFinal "LentSundays$Law" "LentSundays$Law" "then" "[LLentSundays$Sum;") ∈ lw_all := lw_g (lw_at lw_m3 98 rfl) rfl
theorem q706 : (Jvm.Cond.soleField "LentSundays$Law" "then") ∈ lw_all := lw_g (lw_at lw_m3 99 rfl) rfl
theorem q707 : (Jvm.Cond.lays "LentSundays$Law" "LentSundays$Law" "ifs" "I") ∈ lw_all := lw_g (lw_at lw_m3 100 rfl) rfl
theorem q708 : (Jvm.Cond.soleField "LentSundays$Law" "ifs") ∈ lw_all := lw_g (lw_at lw_m3 101 rfl) rfl
theorem q709 : (Jvm.Cond.superclass "LentSundays$Law" "java/lang/Object") ∈ lw_all := lw_g (lw_at lw_m3 102 rfl) rfl
theorem q1054 : (Jvm.Cond.selects "LentSundays$Law" ({ cls := "java/lang/Object", name := "getClass", desc := "()Ljava/lang/Class;" } : Jvm.MethodName) ({ cls := "java/lang/Object", name := "getClass", desc := "()Ljava/lang/Class;" } : Jvm.MethodName)) ∈ lw_all := lw_g (lw_at lw_m4 207 rfl) rfl
theorem q1170 : (Jvm.Cond.instanceMethod ({ cls := "LentSundays$Law", name := "of", desc := "(LLentSundays$Asked;)I" } : Jvm.MethodName)) ∈ lw_all := lw_g (lw_at lw_m5 83 rfl) rfl
theorem q1171 : (Jvm.Cond.selects "LentSundays$Law" ({ cls := "LentSundays$Law", name := "of", desc := "(LLentSundays$Asked;)I" } : Jvm.MethodName) ({ cls := "LentSundays$Law", name := "of", desc := "(LLentSundays$Asked;)I" } : Jvm.MethodName)) ∈ lw_all := lw_g (lw_at lw_m5 84 rfl) rfl
theorem q1172 : (Jvm.Cond.code ({ cls := "LentSundays$Law", name := "of", desc := "(LLentSundays$Asked;)I" } : Jvm.MethodName) prog_9_method_2_code (4 : Nat) (Option.some Jvm.ClassFile.FieldType.int)) ∈ lw_all := lw_g (lw_at lw_m5 85 rfl) rfl
theorem q1173 : (Jvm.Cond.methodLink "LentSundays$Law" (33 : Nat) ({ cls := "LentSundays$Sum", name := "of", desc := "(LLentSundays$Asked;)I" } : Jvm.MethodName)) ∈ lw_all := lw_g (lw_at lw_m5 86 rfl) rfl
theorem q1186 : (Jvm.Cond.methodLink "LentSundays$Law" (37 : Nat) ({ cls := "java/lang/Math", name := "max", desc := "(II)I" } : Jvm.MethodName)) ∈ lw_all := lw_g (lw_at lw_m5 99 rfl) rfl
theorem q2230 : (Jvm.Cond.castable "LentSundays$Law" "java/lang/Object") ∈ lw_tbl := lw_at lw_m9 183 rfl
theorem in_X11 : ∀ w ∈ wsX110, w ∈ lw_all := lw_in wsX110 [701, 703, 705, 707] (by decide +kernel) (by decide +kernel)
/-! LentSundays$Sum -/
set_option maxRecDepth 100000
def RX12 : String := "LentSundays$Sum"
abbrev cX12_init : ByteArray := prog_14_method_1_code
def yX12_init : MethodName := ⟨RX12, "<init>", "()V"⟩
theorem dX12_init_0 : decode cX12_init 0 = .ok (.aload_n 0, 1) := by decide +kernel
theorem dX12_init_1 : decode cX12_init 1 = .ok (.invokespecial 1, 3) := by decide +kernel
theorem dX12_init_4 : decode cX12_init 4 = .ok (.return_, 1) := by decide +kernel
theorem q150 : (Jvm.Cond.initialized "LentSundays$Sum") ∈ lw_all := lw_g (lw_at lw_m1 23 rfl) rfl
theorem q748 : (Jvm.Cond.instanceMethod ({ cls := "LentSundays$Sum", name := "<init>", desc := "()V" } : Jvm.MethodName)) ∈ lw_all := lw_g (lw_at lw_m3 141 rfl) rfl
theorem q749 : (Jvm.Cond.code ({ cls := "LentSundays$Sum", name := "<init>", desc := "()V" } : Jvm.MethodName) prog_14_method_1_code (1 : Nat) (Option.none : Option Jvm.ClassFile.FieldType)) ∈ lw_all := lw_g (lw_at lw_m3 142 rfl) rfl
theorem q750 : (Jvm.Cond.methodLink "LentSundays$Sum" (1 : Nat) ({ cls := "java/lang/Object", name := "<init>", desc := "()V" } : Jvm.MethodName)) ∈ lw_all := lw_g (lw_at lw_m3 143 rfl) rfl
theorem q1174 : (Jvm.Cond.declares ({ cls := "LentSundays$Sum", name := "of", desc := "(LLentSundays$Asked;)I" } : Jvm.MethodName)) ∈ lw_tbl := lw_at lw_m5 87 rfl
theorem q1175 : (Jvm.Cond.sameMethod "LentSundays$Sum" "LentSundays$Sum" "of" "(LLentSundays$Asked;)I") ∈ lw_all := lw_g (lw_at lw_m5 88 rfl) rfl
theorem q2232 : (Jvm.Cond.castable "LentSundays$Sum" "java/lang/Object") ∈ lw_tbl := lw_at lw_m9 185 rfl
/-! LentSundays$Number -/
set_option maxRecDepth 100000
def RX13 : String := "LentSundays$Number"
def TX13 : u_T := fun k => match k with
  | _ => ("LentSundays$Number", "v", "I", true)
def tyX13 : Nat → FieldType := fun k => match k with
  | _ => .int
abbrev wsX130 : List Cond := u_ws RX13 TX13 1
theorem nmX13 : ∀ a, a < 1 → ∀ b, b < 1 → a ≠ b → (TX13 a).2.1 ≠ (TX13 b).2.1 := by decide +kernel
theorem tyX13_ok : ∀ k, k < 1 → parseFieldDescriptor (TX13 k).2.2.1 = some (tyX13 k) := by decide +kernel
abbrev cX13_init : ByteArray := prog_11_method_1_code
def yX13_init : MethodName := ⟨RX13, "<init>", "(I)V"⟩
def dkwX13_init_0 : List UInt8 := [42, 183, 0, 1, 42, 27, 181, 0, 7, 177]
abbrev dktX13_init_0 : List UInt8 := dkwX13_init_0 ++ []
theorem dksX13_init_0 : cX13_init.data.toList.drop 0 = dktX13_init_0 := by decide +kernel
theorem dX13_init_0 : decode cX13_init 0 = .ok (.aload_n 0, 1) := dk_42 (dk_at dksX13_init_0 0 rfl rfl)
theorem dX13_init_1 : decode cX13_init 1 = .ok (.invokespecial 1, 3) := dk_183 0 1 (dk_at dksX13_init_0 1 rfl rfl)
theorem dX13_init_4 : decode cX13_init 4 = .ok (.aload_n 0, 1) := dk_42 (dk_at dksX13_init_0 4 rfl rfl)
theorem dX13_init_5 : decode cX13_init 5 = .ok (.iload_n 1, 1) := dk_27 (dk_at dksX13_init_0 5 rfl rfl)
theorem dX13_init_6 : decode cX13_init 6 = .ok (.putfield 7, 3) := dk_181 0 7 (dk_at dksX13_init_0 6 rfl rfl)
theorem dX13_init_9 : decode cX13_init 9 = .ok (.return_, 1) := dk_177 (dk_at dksX13_init_0 9 rfl rfl)
abbrev cX13_of : ByteArray := prog_11_method_2_code
def yX13_of : MethodName := ⟨RX13, "of", "(LLentSundays$Asked;)I"⟩
theorem dX13_of_0 : decode cX13_of 0 = .ok (.aload_n 0, 1) := by decide +kernel
theorem dX13_of_1 : decode cX13_of 1 = .ok (.getfield 7, 3) := by decide +kernel
theorem dX13_of_4 : decode cX13_of 4 = .ok (.ireturn, 1) := by decide +kernel
theorem q151 : (Jvm.Cond.initialized "LentSundays$Number") ∈ lw_all := lw_g (lw_at lw_m1 24 rfl) rfl
theorem q739 : (Jvm.Cond.instantiable "LentSundays$Number" (1 : Nat)) ∈ lw_all := lw_g (lw_at lw_m3 132 rfl) rfl
theorem q745 : (Jvm.Cond.instanceMethod ({ cls := "LentSundays$Number", name := "<init>", desc := "(I)V" } : Jvm.MethodName)) ∈ lw_all := lw_g (lw_at lw_m3 138 rfl) rfl
theorem q746 : (Jvm.Cond.code ({ cls := "LentSundays$Number", name := "<init>", desc := "(I)V" } : Jvm.MethodName) prog_11_method_1_code (2 : Nat) (Option.none : Option Jvm.ClassFile.FieldType)) ∈ lw_all := lw_g (lw_at lw_m3 139 rfl) rfl
theorem q747 : (Jvm.Cond.methodLinkNest "LentSundays$Number" (1 : Nat) ({ cls := "LentSundays$Sum", name := "<init>", desc := "()V" } : Jvm.MethodName) "LentSundays") ∈ lw_tbl := lw_at lw_m3 140 rfl
theorem q751 : (Jvm.Cond.fieldLink "LentSundays$Number" (7 : Nat) "LentSundays$Number" "v" "I") ∈ lw_all := lw_g (lw_at lw_m3 144 rfl) rfl
theorem q752 : (Jvm.Cond.laysFinal "LentSundays$Number" "LentSundays$Number" "v" "I") ∈ lw_all := lw_g (lw_at lw_m3 145 rfl) rfl
theorem q753 : (Jvm.Cond.soleField "LentSundays$Number" "v") ∈ lw_all := lw_g (lw_at lw_m3 146 rfl) rfl
theorem q754 : (Jvm.Cond.superclass "LentSundays$Number" "LentSundays$Sum") ∈ lw_all := lw_g (lw_at lw_m3 147 rfl) rfl
theorem q1055 : (Jvm.Cond.selects "LentSundays$Number" ({ cls := "java/lang/Object", name := "getClass", desc := "()Ljava/lang/Class;" } : Jvm.MethodName) ({ cls := "java/lang/Object", name := "getClass", desc := "()Ljava/lang/Class;" } : Jvm.MethodName)) ∈ lw_all := lw_g (lw_at lw_m4 208 rfl) rfl
theorem q1180 : (Jvm.Cond.instanceMethod ({ cls := "LentSundays$Number", name := "of", desc := "(LLentSundays$Asked;)I" } : Jvm.MethodName)) ∈ lw_all := lw_g (lw_at lw_m5 93 rfl) rfl
theorem q1181 : (Jvm.Cond.code ({ cls := "LentSundays$Number", name := "of", desc := "(LLentSundays$Asked;)I" } : Jvm.MethodName) prog_11_method_2_code (2 : Nat) (Option.some Jvm.ClassFile.FieldType.int)) ∈ lw_all := lw_g (lw_at lw_m5 94 rfl) rfl
theorem q1184 : (Jvm.Cond.selects "LentSundays$Number" ({ cls := "LentSundays$Sum", name := "of", desc := "(LLentSundays$Asked;)I" } : Jvm.MethodName) ({ cls := "LentSundays$Number", name := "of", desc := "(LLentSundays$Asked;)I" } : Jvm.MethodName)) ∈ lw_all := lw_g (lw_at lw_m5 97 rfl) rfl
theorem q2243 : (Jvm.Cond.castable "LentSundays$Number" "java/lang/Object") ∈ lw_tbl := lw_at lw_m9 196 rfl
theorem q2250 : (Jvm.Cond.castable "LentSundays$Number" "LentSundays$Sum") ∈ lw_tbl := lw_at lw_m9 203 rfl
theorem in_X13 : ∀ w ∈ wsX130, w ∈ lw_all := lw_in wsX130 [752] (by decide +kernel) (by decide +kernel)
/-! LentSundays$Var -/
set_option maxRecDepth 100000
def RX14 : String := "LentSundays$Var"
def TX14 : u_T := fun k => match k with
  | _ => ("LentSundays$Var", "k", "I", true)
def tyX14 : Nat → FieldType := fun k => match k with
  | _ => .int
abbrev wsX140 : List Cond := u_ws RX14 TX14 1
theorem nmX14 : ∀ a, a < 1 → ∀ b, b < 1 → a ≠ b → (TX14 a).2.1 ≠ (TX14 b).2.1 := by decide +kernel
theorem tyX14_ok : ∀ k, k < 1 → parseFieldDescriptor (TX14 k).2.2.1 = some (tyX14 k) := by decide +kernel
abbrev cX14_init : ByteArray := prog_18_method_1_code
def yX14_init : MethodName := ⟨RX14, "<init>", "(I)V"⟩
def dkwX14_init_0 : List UInt8 := [42, 183, 0, 1, 42, 27, 181, 0, 7, 177]
abbrev dktX14_init_0 : List UInt8 := dkwX14_init_0 ++ []
theorem dksX14_init_0 : cX14_init.data.toList.drop 0 = dktX14_init_0 := by decide +kernel
theorem dX14_init_0 : decode cX14_init 0 = .ok (.aload_n 0, 1) := dk_42 (dk_at dksX14_init_0 0 rfl rfl)
theorem dX14_init_1 : decode cX14_init 1 = .ok (.invokespecial 1, 3) := dk_183 0 1 (dk_at dksX14_init_0 1 rfl rfl)
theorem dX14_init_4 : decode cX14_init 4 = .ok (.aload_n 0, 1) := dk_42 (dk_at dksX14_init_0 4 rfl rfl)
theorem dX14_init_5 : decode cX14_init 5 = .ok (.iload_n 1, 1) := dk_27 (dk_at dksX14_init_0 5 rfl rfl)
theorem dX14_init_6 : decode cX14_init 6 = .ok (.putfield 7, 3) := dk_181 0 7 (dk_at dksX14_init_0 6 rfl rfl)
theorem dX14_init_9 : decode cX14_init 9 = .ok (.return_, 1) := dk_177 (dk_at dksX14_init_0 9 rfl rfl)
abbrev cX14_of : ByteArray := prog_18_method_2_code
def yX14_of : MethodName := ⟨RX14, "of", "(LLentSundays$Asked;)I"⟩
def dkwX14_of_0 : List UInt8 := [43, 180, 0, 13, 42, 180, 0, 7, 46, 172]
abbrev dktX14_of_0 : List UInt8 := dkwX14_of_0 ++ []
theorem dksX14_of_0 : cX14_of.data.toList.drop 0 = dktX14_of_0 := by decide +kernel
theorem dX14_of_0 : decode cX14_of 0 = .ok (.aload_n 1, 1) := dk_43 (dk_at dksX14_of_0 0 rfl rfl)
theorem dX14_of_1 : decode cX14_of 1 = .ok (.getfield 13, 3) := dk_180 0 13 (dk_at dksX14_of_0 1 rfl rfl)
theorem dX14_of_4 : decode cX14_of 4 = .ok (.aload_n 0, 1) := dk_42 (dk_at dksX14_of_0 4 rfl rfl)
theorem dX14_of_5 : decode cX14_of 5 = .ok (.getfield 7, 3) := dk_180 0 7 (dk_at dksX14_of_0 5 rfl rfl)
theorem dX14_of_8 : decode cX14_of 8 = .ok (.iaload, 1) := dk_46 (dk_at dksX14_of_0 8 rfl rfl)
theorem dX14_of_9 : decode cX14_of 9 = .ok (.ireturn, 1) := dk_172 (dk_at dksX14_of_0 9 rfl rfl)
theorem q152 : (Jvm.Cond.initialized "LentSundays$Var") ∈ lw_all := lw_g (lw_at lw_m1 25 rfl) rfl
theorem q415 : (Jvm.Cond.fieldLink "LentSundays$Var" (13 : Nat) "LentSundays$Asked" "v" "[I") ∈ lw_all := lw_g (lw_at lw_m2 48 rfl) rfl
theorem q756 : (Jvm.Cond.instantiable "LentSundays$Var" (1 : Nat)) ∈ lw_all := lw_g (lw_at lw_m3 149 rfl) rfl
theorem q758 : (Jvm.Cond.instanceMethod ({ cls := "LentSundays$Var", name := "<init>", desc := "(I)V" } : Jvm.MethodName)) ∈ lw_all := lw_g (lw_at lw_m3 151 rfl) rfl
theorem q759 : (Jvm.Cond.code ({ cls := "LentSundays$Var", name := "<init>", desc := "(I)V" } : Jvm.MethodName) prog_18_method_1_code (2 : Nat) (Option.none : Option Jvm.ClassFile.FieldType)) ∈ lw_all := lw_g (lw_at lw_m3 152 rfl) rfl
theorem q760 : (Jvm.Cond.methodLinkNest "LentSundays$Var" (1 : Nat) ({ cls := "LentSundays$Sum", name := "<init>", desc := "()V" } : Jvm.MethodName) "LentSundays") ∈ lw_tbl := lw_at lw_m3 153 rfl
theorem q761 : (Jvm.Cond.fieldLink "LentSundays$Var" (7 : Nat) "LentSundays$Var" "k" "I") ∈ lw_all := lw_g (lw_at lw_m3 154 rfl) rfl
theorem q762 : (Jvm.Cond.laysFinal "LentSundays$Var" "LentSundays$Var" "k" "I") ∈ lw_all := lw_g (lw_at lw_m3 155 rfl) rfl
theorem q763 : (Jvm.Cond.soleField "LentSundays$Var" "k") ∈ lw_all := lw_g (lw_at lw_m3 156 rfl) rfl
theorem q764 : (Jvm.Cond.superclass "LentSundays$Var" "LentSundays$Sum") ∈ lw_all := lw_g (lw_at lw_m3 157 rfl) rfl
theorem q1061 : (Jvm.Cond.selects "LentSundays$Var" ({ cls := "java/lang/Object", name := "getClass", desc := "()Ljava/lang/Class;" } : Jvm.MethodName) ({ cls := "java/lang/Object", name := "getClass", desc := "()Ljava/lang/Class;" } : Jvm.MethodName)) ∈ lw_all := lw_g (lw_at lw_m4 214 rfl) rfl
theorem q1182 : (Jvm.Cond.instanceMethod ({ cls := "LentSundays$Var", name := "of", desc := "(LLentSundays$Asked;)I" } : Jvm.MethodName)) ∈ lw_all := lw_g (lw_at lw_m5 95 rfl) rfl
theorem q1183 : (Jvm.Cond.code ({ cls := "LentSundays$Var", name := "of", desc := "(LLentSundays$Asked;)I" } : Jvm.MethodName) prog_18_method_2_code (2 : Nat) (Option.some Jvm.ClassFile.FieldType.int)) ∈ lw_all := lw_g (lw_at lw_m5 96 rfl) rfl
theorem q1185 : (Jvm.Cond.selects "LentSundays$Var" ({ cls := "LentSundays$Sum", name := "of", desc := "(LLentSundays$Asked;)I" } : Jvm.MethodName) ({ cls := "LentSundays$Var", name := "of", desc := "(LLentSundays$Asked;)I" } : Jvm.MethodName)) ∈ lw_all := lw_g (lw_at lw_m5 98 rfl) rfl
theorem q2244 : (Jvm.Cond.castable "LentSundays$Var" "java/lang/Object") ∈ lw_tbl := lw_at lw_m9 197 rfl
theorem q2251 : (Jvm.Cond.castable "LentSundays$Var" "LentSundays$Sum") ∈ lw_tbl := lw_at lw_m9 204 rfl
theorem in_X14 : ∀ w ∈ wsX140, w ∈ lw_all := lw_in wsX140 [762] (by decide +kernel) (by decide +kernel)
/-! LentSundays$Joined -/
set_option maxRecDepth 100000
def RX15 : String := "LentSundays$Joined"
def TX15 : u_T := fun k => match k with
  | 0 => ("LentSundays$Joined", "op", "I", true)
  | 1 => ("LentSundays$Joined", "a", "LLentSundays$Sum;", true)
  | _ => ("LentSundays$Joined", "b", "LLentSundays$Sum;", true)
def tyX15 : Nat → FieldType := fun k => match k with
  | 0 => .int
  | 1 => .object "LentSundays$Sum"
  | _ => .object "LentSundays$Sum"
abbrev wsX150 : List Cond := u_ws RX15 TX15 3
theorem nmX15 : ∀ a, a < 3 → ∀ b, b < 3 → a ≠ b → (TX15 a).2.1 ≠ (TX15 b).2.1 := by decide +kernel
theorem tyX15_ok : ∀ k, k < 3 → parseFieldDescriptor (TX15 k).2.2.1 = some (tyX15 k) := by decide +kernel
abbrev cX15_init : ByteArray := prog_8_method_1_code
def yX15_init : MethodName := ⟨RX15, "<init>", "(ILLentSundays$Sum;LLentSundays$Sum;)V"⟩
def dkwX15_init_0 : List UInt8 := [42, 183, 0, 1, 42, 27, 181, 0, 7, 42, 44, 181, 0, 13, 42, 45, 181, 0, 17, 177]
abbrev dktX15_init_0 : List UInt8 := dkwX15_init_0 ++ []
theorem dksX15_init_0 : cX15_init.data.toList.drop 0 = dktX15_init_0 := by decide +kernel
theorem dX15_init_0 : decode cX15_init 0 = .ok (.aload_n 0, 1) := dk_42 (dk_at dksX15_init_0 0 rfl rfl)
theorem dX15_init_1 : decode cX15_init 1 = .ok (.invokespecial 1, 3) := dk_183 0 1 (dk_at dksX15_init_0 1 rfl rfl)
theorem dX15_init_4 : decode cX15_init 4 = .ok (.aload_n 0, 1) := dk_42 (dk_at dksX15_init_0 4 rfl rfl)
theorem dX15_init_5 : decode cX15_init 5 = .ok (.iload_n 1, 1) := dk_27 (dk_at dksX15_init_0 5 rfl rfl)
theorem dX15_init_6 : decode cX15_init 6 = .ok (.putfield 7, 3) := dk_181 0 7 (dk_at dksX15_init_0 6 rfl rfl)
theorem dX15_init_9 : decode cX15_init 9 = .ok (.aload_n 0, 1) := dk_42 (dk_at dksX15_init_0 9 rfl rfl)
theorem dX15_init_10 : decode cX15_init 10 = .ok (.aload_n 2, 1) := dk_44 (dk_at dksX15_init_0 10 rfl rfl)
theorem dX15_init_11 : decode cX15_init 11 = .ok (.putfield 13, 3) := dk_181 0 13 (dk_at dksX15_init_0 11 rfl rfl)
theorem dX15_init_14 : decode cX15_init 14 = .ok (.aload_n 0, 1) := dk_42 (dk_at dksX15_init_0 14 rfl rfl)
theorem dX15_init_15 : decode cX15_init 15 = .ok (.aload_n 3, 1) := dk_45 (dk_at dksX15_init_0 15 rfl rfl)
theorem dX15_init_16 : decode cX15_init 16 = .ok (.putfield 17, 3) := dk_181 0 17 (dk_at dksX15_init_0 16 rfl rfl)
theorem dX15_init_19 : decode cX15_init 19 = .ok (.return_, 1) := dk_177 (dk_at dksX15_init_0 19 rfl rfl)
abbrev cX15_of : ByteArray := prog_8_method_2_code
def yX15_of : MethodName := ⟨RX15, "of", "(LLentSundays$Asked;)I"⟩
def dkwX15_of_3 : List UInt8 := [181, 0, 24, 3, 172]
abbrev dktX15_of_3 : List UInt8 := dkwX15_of_3 ++ []
def dkwX15_of_2 : List UInt8 := [28, 29, 96, 172, 28, 29, 100, 172, 28, 29, 104, 172, 29, 153, 0, 7, 28, 29, 108, 172, 43, 4]
abbrev dktX15_of_2 : List UInt8 := dkwX15_of_2 ++ dktX15_of_3
def dkwX15_of_1 : List UInt8 := [170, 0, 0, 0, 0, 42, 0, 0, 0, 42, 0, 0, 0, 45, 0, 0, 0, 38, 0, 0, 0, 30, 0, 0, 0, 42, 0, 0, 0, 34]
abbrev dktX15_of_1 : List UInt8 := dkwX15_of_1 ++ dktX15_of_2
def dkwX15_of_0 : List UInt8 := [42, 180, 0, 13, 43, 182, 0, 20, 61, 42, 180, 0, 17, 43, 182, 0, 20, 62, 42, 180, 0, 7]
abbrev dktX15_of_0 : List UInt8 := dkwX15_of_0 ++ dktX15_of_1
theorem dksX15_of_0 : cX15_of.data.toList.drop 0 = dktX15_of_0 := by decide +kernel
theorem dksX15_of_1 : cX15_of.data.toList.drop 22 = dktX15_of_1 := dk_seg dksX15_of_0 22 rfl rfl
theorem dksX15_of_2 : cX15_of.data.toList.drop 52 = dktX15_of_2 := dk_seg dksX15_of_1 30 rfl rfl
theorem dksX15_of_3 : cX15_of.data.toList.drop 74 = dktX15_of_3 := dk_seg dksX15_of_2 22 rfl rfl
theorem dX15_of_0 : decode cX15_of 0 = .ok (.aload_n 0, 1) := dk_42 (dk_at dksX15_of_0 0 rfl rfl)
theorem dX15_of_1 : decode cX15_of 1 = .ok (.getfield 13, 3) := dk_180 0 13 (dk_at dksX15_of_0 1 rfl rfl)
theorem dX15_of_4 : decode cX15_of 4 = .ok (.aload_n 1, 1) := dk_43 (dk_at dksX15_of_0 4 rfl rfl)
theorem dX15_of_5 : decode cX15_of 5 = .ok (.invokevirtual 20, 3) := dk_182 0 20 (dk_at dksX15_of_0 5 rfl rfl)
theorem dX15_of_8 : decode cX15_of 8 = .ok (.istore_n 2, 1) := dk_61 (dk_at dksX15_of_0 8 rfl rfl)
theorem dX15_of_9 : decode cX15_of 9 = .ok (.aload_n 0, 1) := dk_42 (dk_at dksX15_of_0 9 rfl rfl)
theorem dX15_of_10 : decode cX15_of 10 = .ok (.getfield 17, 3) := dk_180 0 17 (dk_at dksX15_of_0 10 rfl rfl)
theorem dX15_of_13 : decode cX15_of 13 = .ok (.aload_n 1, 1) := dk_43 (dk_at dksX15_of_0 13 rfl rfl)
theorem dX15_of_14 : decode cX15_of 14 = .ok (.invokevirtual 20, 3) := dk_182 0 20 (dk_at dksX15_of_0 14 rfl rfl)
theorem dX15_of_17 : decode cX15_of 17 = .ok (.istore_n 3, 1) := dk_62 (dk_at dksX15_of_0 17 rfl rfl)
theorem dX15_of_18 : decode cX15_of 18 = .ok (.aload_n 0, 1) := dk_42 (dk_at dksX15_of_0 18 rfl rfl)
theorem dX15_of_19 : decode cX15_of 19 = .ok (.getfield 7, 3) := dk_180 0 7 (dk_at dksX15_of_0 19 rfl rfl)
theorem dX15_of_22 : decode cX15_of 22 = .ok (.tableswitch 42 42 45 #[38, 30, 42, 34], 30) := by decide +kernel
theorem dX15_of_52 : decode cX15_of 52 = .ok (.iload_n 2, 1) := dk_28 (dk_at dksX15_of_2 0 rfl rfl)
theorem dX15_of_53 : decode cX15_of 53 = .ok (.iload_n 3, 1) := dk_29 (dk_at dksX15_of_2 1 rfl rfl)
theorem dX15_of_54 : decode cX15_of 54 = .ok (.iadd, 1) := dk_96 (dk_at dksX15_of_2 2 rfl rfl)
theorem dX15_of_55 : decode cX15_of 55 = .ok (.ireturn, 1) := dk_172 (dk_at dksX15_of_2 3 rfl rfl)
theorem dX15_of_56 : decode cX15_of 56 = .ok (.iload_n 2, 1) := dk_28 (dk_at dksX15_of_2 4 rfl rfl)
theorem dX15_of_57 : decode cX15_of 57 = .ok (.iload_n 3, 1) := dk_29 (dk_at dksX15_of_2 5 rfl rfl)
theorem dX15_of_58 : decode cX15_of 58 = .ok (.isub, 1) := dk_100 (dk_at dksX15_of_2 6 rfl rfl)
theorem dX15_of_59 : decode cX15_of 59 = .ok (.ireturn, 1) := dk_172 (dk_at dksX15_of_2 7 rfl rfl)
theorem dX15_of_60 : decode cX15_of 60 = .ok (.iload_n 2, 1) := dk_28 (dk_at dksX15_of_2 8 rfl rfl)
theorem dX15_of_61 : decode cX15_of 61 = .ok (.iload_n 3, 1) := dk_29 (dk_at dksX15_of_2 9 rfl rfl)
theorem dX15_of_62 : decode cX15_of 62 = .ok (.imul, 1) := dk_104 (dk_at dksX15_of_2 10 rfl rfl)
theorem dX15_of_63 : decode cX15_of 63 = .ok (.ireturn, 1) := dk_172 (dk_at dksX15_of_2 11 rfl rfl)
theorem dX15_of_64 : decode cX15_of 64 = .ok (.iload_n 3, 1) := dk_29 (dk_at dksX15_of_2 12 rfl rfl)
theorem dX15_of_65 : decode cX15_of 65 = .ok (.ifCond .eq 7, 3) := dk_153 0 7 (dk_at dksX15_of_2 13 rfl rfl)
theorem dX15_of_68 : decode cX15_of 68 = .ok (.iload_n 2, 1) := dk_28 (dk_at dksX15_of_2 16 rfl rfl)
theorem dX15_of_69 : decode cX15_of 69 = .ok (.iload_n 3, 1) := dk_29 (dk_at dksX15_of_2 17 rfl rfl)
theorem dX15_of_70 : decode cX15_of 70 = .ok (.idiv, 1) := dk_108 (dk_at dksX15_of_2 18 rfl rfl)
theorem dX15_of_71 : decode cX15_of 71 = .ok (.ireturn, 1) := dk_172 (dk_at dksX15_of_2 19 rfl rfl)
theorem dX15_of_72 : decode cX15_of 72 = .ok (.aload_n 1, 1) := dk_43 (dk_at dksX15_of_2 20 rfl rfl)
theorem dX15_of_73 : decode cX15_of 73 = .ok (.iconst 1, 1) := dk_4 (dk_at dksX15_of_2 21 rfl rfl)
theorem dX15_of_74 : decode cX15_of 74 = .ok (.putfield 24, 3) := dk_181 0 24 (dk_at dksX15_of_3 0 rfl rfl)
theorem dX15_of_77 : decode cX15_of 77 = .ok (.iconst 0, 1) := dk_3 (dk_at dksX15_of_3 3 rfl rfl)
theorem dX15_of_78 : decode cX15_of 78 = .ok (.ireturn, 1) := dk_172 (dk_at dksX15_of_3 4 rfl rfl)
theorem q153 : (Jvm.Cond.initialized "LentSundays$Joined") ∈ lw_all := lw_g (lw_at lw_m1 26 rfl) rfl
theorem q418 : (Jvm.Cond.fieldLink "LentSundays$Joined" (24 : Nat) "LentSundays$Asked" "nought" "Z") ∈ lw_all := lw_g (lw_at lw_m2 51 rfl) rfl
theorem q766 : (Jvm.Cond.instantiable "LentSundays$Joined" (3 : Nat)) ∈ lw_all := lw_g (lw_at lw_m3 159 rfl) rfl
theorem q768 : (Jvm.Cond.instanceMethod ({ cls := "LentSundays$Joined", name := "<init>", desc := "(ILLentSundays$Sum;LLentSundays$Sum;)V" } : Jvm.MethodName)) ∈ lw_all := lw_g (lw_at lw_m3 161 rfl) rfl
theorem q769 : (Jvm.Cond.code ({ cls := "LentSundays$Joined", name := "<init>", desc := "(ILLentSundays$Sum;LLentSundays$Sum;)V" } : Jvm.MethodName) prog_8_method_1_code (4 : Nat) (Option.none : Option Jvm.ClassFile.FieldType)) ∈ lw_all := lw_g (lw_at lw_m3 162 rfl) rfl
theorem q770 : (Jvm.Cond.methodLinkNest "LentSundays$Joined" (1 : Nat) ({ cls := "LentSundays$Sum", name := "<init>", desc := "()V" } : Jvm.MethodName) "LentSundays") ∈ lw_tbl := lw_at lw_m3 163 rfl
theorem q771 : (Jvm.Cond.fieldLink "LentSundays$Joined" (7 : Nat) "LentSundays$Joined" "op" "I") ∈ lw_all := lw_g (lw_at lw_m3 164 rfl) rfl
theorem q772 : (Jvm.Cond.fieldLink "LentSundays$Joined" (13 : Nat) "LentSundays$Joined" "a" "LLentSundays$Sum;") ∈ lw_all := lw_g (lw_at lw_m3 165 rfl) rfl
theorem q773 : (Jvm.Cond.fieldLink "LentSundays$Joined" (17 : Nat) "LentSundays$Joined" "b" "LLentSundays$Sum;") ∈ lw_all := lw_g (lw_at lw_m3 166 rfl) rfl
theorem q774 : (Jvm.Cond.laysFinal "LentSundays$Joined" "LentSundays$Joined" "op" "I") ∈ lw_all := lw_g (lw_at lw_m3 167 rfl) rfl
theorem q775 : (Jvm.Cond.soleField "LentSundays$Joined" "op") ∈ lw_all := lw_g (lw_at lw_m3 168 rfl) rfl
theorem q776 : (Jvm.Cond.laysFinal "LentSundays$Joined" "LentSundays$Joined" "a" "LLentSundays$Sum;") ∈ lw_all := lw_g (lw_at lw_m3 169 rfl) rfl
theorem q777 : (Jvm.Cond.soleField "LentSundays$Joined" "a") ∈ lw_all := lw_g (lw_at lw_m3 170 rfl) rfl
theorem q778 : (Jvm.Cond.laysFinal "LentSundays$Joined" "LentSundays$Joined" "b" "LLentSundays$Sum;") ∈ lw_all := lw_g (lw_at lw_m3 171 rfl) rfl
theorem q779 : (Jvm.Cond.soleField "LentSundays$Joined" "b") ∈ lw_all := lw_g (lw_at lw_m3 172 rfl) rfl
theorem q780 : (Jvm.Cond.superclass "LentSundays$Joined" "LentSundays$Sum") ∈ lw_all := lw_g (lw_at lw_m3 173 rfl) rfl
theorem q1053 : (Jvm.Cond.selects "LentSundays$Joined" ({ cls := "java/lang/Object", name := "getClass", desc := "()Ljava/lang/Class;" } : Jvm.MethodName) ({ cls := "java/lang/Object", name := "getClass", desc := "()Ljava/lang/Class;" } : Jvm.MethodName)) ∈ lw_all := lw_g (lw_at lw_m4 206 rfl) rfl
theorem q1176 : (Jvm.Cond.selects "LentSundays$Joined" ({ cls := "LentSundays$Sum", name := "of", desc := "(LLentSundays$Asked;)I" } : Jvm.MethodName) ({ cls := "LentSundays$Joined", name := "of", desc := "(LLentSundays$Asked;)I" } : Jvm.MethodName)) ∈ lw_all := lw_g (lw_at lw_m5 89 rfl) rfl
theorem q1177 : (Jvm.Cond.instanceMethod ({ cls := "LentSundays$Joined", name := "of", desc := "(LLentSundays$Asked;)I" } : Jvm.MethodName)) ∈ lw_all := lw_g (lw_at lw_m5 90 rfl) rfl
theorem q1178 : (Jvm.Cond.code ({ cls := "LentSundays$Joined", name := "of", desc := "(LLentSundays$Asked;)I" } : Jvm.MethodName) prog_8_method_2_code (4 : Nat) (Option.some Jvm.ClassFile.FieldType.int)) ∈ lw_all := lw_g (lw_at lw_m5 91 rfl) rfl
theorem q1179 : (Jvm.Cond.methodLink "LentSundays$Joined" (20 : Nat) ({ cls := "LentSundays$Sum", name := "of", desc := "(LLentSundays$Asked;)I" } : Jvm.MethodName)) ∈ lw_all := lw_g (lw_at lw_m5 92 rfl) rfl
theorem q2245 : (Jvm.Cond.castable "LentSundays$Joined" "java/lang/Object") ∈ lw_tbl := lw_at lw_m9 198 rfl
theorem q2252 : (Jvm.Cond.castable "LentSundays$Joined" "LentSundays$Sum") ∈ lw_tbl := lw_at lw_m9 205 rfl
theorem in_X15 : ∀ w ∈ wsX150, w ∈ lw_all := lw_in wsX150 [774, 776, 778] (by decide +kernel) (by decide +kernel)
/-! LentSundays$Named -/
set_option maxRecDepth 100000
def RX16 : String := "LentSundays$Named"
abbrev cX16_init : ByteArray := prog_10_method_1_code
def yX16_init : MethodName := ⟨RX16, "<init>", "(Ljava/lang/String;)V"⟩
def dkwX16_init_0 : List UInt8 := [42, 183, 0, 1, 42, 43, 181, 0, 7, 177]
abbrev dktX16_init_0 : List UInt8 := dkwX16_init_0 ++ []
theorem dksX16_init_0 : cX16_init.data.toList.drop 0 = dktX16_init_0 := by decide +kernel
theorem dX16_init_0 : decode cX16_init 0 = .ok (.aload_n 0, 1) := dk_42 (dk_at dksX16_init_0 0 rfl rfl)
theorem dX16_init_1 : decode cX16_init 1 = .ok (.invokespecial 1, 3) := dk_183 0 1 (dk_at dksX16_init_0 1 rfl rfl)
theorem dX16_init_4 : decode cX16_init 4 = .ok (.aload_n 0, 1) := dk_42 (dk_at dksX16_init_0 4 rfl rfl)
theorem dX16_init_5 : decode cX16_init 5 = .ok (.aload_n 1, 1) := dk_43 (dk_at dksX16_init_0 5 rfl rfl)
theorem dX16_init_6 : decode cX16_init 6 = .ok (.putfield 7, 3) := dk_181 0 7 (dk_at dksX16_init_0 6 rfl rfl)
theorem dX16_init_9 : decode cX16_init 9 = .ok (.return_, 1) := dk_177 (dk_at dksX16_init_0 9 rfl rfl)
theorem q154 : (Jvm.Cond.initialized "LentSundays$Named") ∈ lw_all := lw_g (lw_at lw_m1 27 rfl) rfl
theorem q1002 : (Jvm.Cond.instanceMethod ({ cls := "LentSundays$Named", name := "<init>", desc := "(Ljava/lang/String;)V" } : Jvm.MethodName)) ∈ lw_all := lw_g (lw_at lw_m4 155 rfl) rfl
theorem q1003 : (Jvm.Cond.code ({ cls := "LentSundays$Named", name := "<init>", desc := "(Ljava/lang/String;)V" } : Jvm.MethodName) prog_10_method_1_code (2 : Nat) (Option.none : Option Jvm.ClassFile.FieldType)) ∈ lw_all := lw_g (lw_at lw_m4 156 rfl) rfl
theorem q1004 : (Jvm.Cond.methodLink "LentSundays$Named" (1 : Nat) ({ cls := "java/lang/Object", name := "<init>", desc := "()V" } : Jvm.MethodName)) ∈ lw_all := lw_g (lw_at lw_m4 157 rfl) rfl
theorem q1011 : (Jvm.Cond.fieldLink "LentSundays$Named" (7 : Nat) "LentSundays$Named" "name" "Ljava/lang/String;") ∈ lw_all := lw_g (lw_at lw_m4 164 rfl) rfl
theorem q1018 : (Jvm.Cond.soleField "LentSundays$Named" "name") ∈ lw_all := lw_g (lw_at lw_m4 171 rfl) rfl
/-! LentSundays$Sunday -/
set_option maxRecDepth 100000
def RX17 : String := "LentSundays$Sunday"
def TX17 : u_T := fun k => match k with
  | 0 => ("LentSundays$Named", "name", "Ljava/lang/String;", true)
  | 1 => ("LentSundays$Sunday", "hours", "I", false)
  | _ => ("LentSundays$Sunday", "worth", "I", false)
def tyX17 : Nat → FieldType := fun k => match k with
  | 0 => .object "java/lang/String"
  | 1 => .int
  | _ => .int
abbrev wsX170 : List Cond := u_ws RX17 TX17 3
theorem nmX17 : ∀ a, a < 3 → ∀ b, b < 3 → a ≠ b → (TX17 a).2.1 ≠ (TX17 b).2.1 := by decide +kernel
theorem tyX17_ok : ∀ k, k < 3 → parseFieldDescriptor (TX17 k).2.2.1 = some (tyX17 k) := by decide +kernel
abbrev cX17_init : ByteArray := prog_15_method_1_code
def yX17_init : MethodName := ⟨RX17, "<init>", "(Ljava/lang/String;)V"⟩
def dkwX17_init_0 : List UInt8 := [42, 43, 183, 0, 1, 177]
abbrev dktX17_init_0 : List UInt8 := dkwX17_init_0 ++ []
theorem dksX17_init_0 : cX17_init.data.toList.drop 0 = dktX17_init_0 := by decide +kernel
theorem dX17_init_0 : decode cX17_init 0 = .ok (.aload_n 0, 1) := dk_42 (dk_at dksX17_init_0 0 rfl rfl)
theorem dX17_init_1 : decode cX17_init 1 = .ok (.aload_n 1, 1) := dk_43 (dk_at dksX17_init_0 1 rfl rfl)
theorem dX17_init_2 : decode cX17_init 2 = .ok (.invokespecial 1, 3) := dk_183 0 1 (dk_at dksX17_init_0 2 rfl rfl)
theorem dX17_init_5 : decode cX17_init 5 = .ok (.return_, 1) := dk_177 (dk_at dksX17_init_0 5 rfl rfl)
theorem q155 : (Jvm.Cond.initialized "LentSundays$Sunday") ∈ lw_all := lw_g (lw_at lw_m1 28 rfl) rfl
theorem q790 : (Jvm.Cond.instantiable "LentSundays$Sunday" (3 : Nat)) ∈ lw_all := lw_g (lw_at lw_m3 183 rfl) rfl
theorem q999 : (Jvm.Cond.instanceMethod ({ cls := "LentSundays$Sunday", name := "<init>", desc := "(Ljava/lang/String;)V" } : Jvm.MethodName)) ∈ lw_all := lw_g (lw_at lw_m4 152 rfl) rfl
theorem q1000 : (Jvm.Cond.code ({ cls := "LentSundays$Sunday", name := "<init>", desc := "(Ljava/lang/String;)V" } : Jvm.MethodName) prog_15_method_1_code (2 : Nat) (Option.none : Option Jvm.ClassFile.FieldType)) ∈ lw_all := lw_g (lw_at lw_m4 153 rfl) rfl
theorem q1001 : (Jvm.Cond.methodLink "LentSundays$Sunday" (1 : Nat) ({ cls := "LentSundays$Named", name := "<init>", desc := "(Ljava/lang/String;)V" } : Jvm.MethodName)) ∈ lw_all := lw_g (lw_at lw_m4 154 rfl) rfl
theorem q1013 : (Jvm.Cond.lays "LentSundays$Sunday" "LentSundays$Sunday" "hours" "I") ∈ lw_all := lw_g (lw_at lw_m4 166 rfl) rfl
theorem q1014 : (Jvm.Cond.soleField "LentSundays$Sunday" "hours") ∈ lw_all := lw_g (lw_at lw_m4 167 rfl) rfl
theorem q1015 : (Jvm.Cond.lays "LentSundays$Sunday" "LentSundays$Sunday" "worth" "I") ∈ lw_all := lw_g (lw_at lw_m4 168 rfl) rfl
theorem q1016 : (Jvm.Cond.soleField "LentSundays$Sunday" "worth") ∈ lw_all := lw_g (lw_at lw_m4 169 rfl) rfl
theorem q1017 : (Jvm.Cond.laysFinal "LentSundays$Sunday" "LentSundays$Named" "name" "Ljava/lang/String;") ∈ lw_all := lw_g (lw_at lw_m4 170 rfl) rfl
theorem q1019 : (Jvm.Cond.superclass "LentSundays$Sunday" "LentSundays$Named") ∈ lw_all := lw_g (lw_at lw_m4 172 rfl) rfl
theorem q1058 : (Jvm.Cond.selects "LentSundays$Sunday" ({ cls := "java/lang/Object", name := "getClass", desc := "()Ljava/lang/Class;" } : Jvm.MethodName) ({ cls := "java/lang/Object", name := "getClass", desc := "()Ljava/lang/Class;" } : Jvm.MethodName)) ∈ lw_all := lw_g (lw_at lw_m4 211 rfl) rfl
theorem q2228 : (Jvm.Cond.castable "LentSundays$Sunday" "LentSundays$Named") ∈ lw_tbl := lw_at lw_m9 181 rfl
theorem q2246 : (Jvm.Cond.castable "LentSundays$Sunday" "java/lang/Object") ∈ lw_tbl := lw_at lw_m9 199 rfl
theorem in_X17 : ∀ w ∈ wsX170, w ∈ lw_all := lw_in wsX170 [1017, 1013, 1015] (by decide +kernel) (by decide +kernel)
/-! LentSundays$Guest -/
set_option maxRecDepth 100000
def RX18 : String := "LentSundays$Guest"
def TX18 : u_T := fun k => match k with
  | 0 => ("LentSundays$Named", "name", "Ljava/lang/String;", true)
  | 1 => ("LentSundays$Guest", "hour", "I", false)
  | 2 => ("LentSundays$Guest", "hours", "I", false)
  | 3 => ("LentSundays$Guest", "fee", "I", false)
  | _ => ("LentSundays$Guest", "foes", "I", false)
def tyX18 : Nat → FieldType := fun k => match k with
  | 0 => .object "java/lang/String"
  | 1 => .int
  | 2 => .int
  | 3 => .int
  | _ => .int
abbrev wsX180 : List Cond := u_ws RX18 TX18 5
theorem nmX18 : ∀ a, a < 5 → ∀ b, b < 5 → a ≠ b → (TX18 a).2.1 ≠ (TX18 b).2.1 := by decide +kernel
theorem tyX18_ok : ∀ k, k < 5 → parseFieldDescriptor (TX18 k).2.2.1 = some (tyX18 k) := by decide +kernel
abbrev cX18_init : ByteArray := prog_6_method_1_code
def yX18_init : MethodName := ⟨RX18, "<init>", "(Ljava/lang/String;)V"⟩
def dkwX18_init_0 : List UInt8 := [42, 43, 183, 0, 1, 177]
abbrev dktX18_init_0 : List UInt8 := dkwX18_init_0 ++ []
theorem dksX18_init_0 : cX18_init.data.toList.drop 0 = dktX18_init_0 := by decide +kernel
theorem dX18_init_0 : decode cX18_init 0 = .ok (.aload_n 0, 1) := dk_42 (dk_at dksX18_init_0 0 rfl rfl)
theorem dX18_init_1 : decode cX18_init 1 = .ok (.aload_n 1, 1) := dk_43 (dk_at dksX18_init_0 1 rfl rfl)
theorem dX18_init_2 : decode cX18_init 2 = .ok (.invokespecial 1, 3) := dk_183 0 1 (dk_at dksX18_init_0 2 rfl rfl)
theorem dX18_init_5 : decode cX18_init 5 = .ok (.return_, 1) := dk_177 (dk_at dksX18_init_0 5 rfl rfl)
abbrev cX18_isThere : ByteArray := prog_6_method_2_code
def yX18_isThere : MethodName := ⟨RX18, "isThere", "(I)Z"⟩
def dkwX18_isThere_1 : List UInt8 := [167, 0, 4, 3, 172]
abbrev dktX18_isThere_1 : List UInt8 := dkwX18_isThere_1 ++ []
def dkwX18_isThere_0 : List UInt8 := [27, 42, 180, 0, 7, 161, 0, 20, 27, 42, 180, 0, 7, 42, 180, 0, 13, 96, 162, 0, 7, 4]
abbrev dktX18_isThere_0 : List UInt8 := dkwX18_isThere_0 ++ dktX18_isThere_1
theorem dksX18_isThere_0 : cX18_isThere.data.toList.drop 0 = dktX18_isThere_0 := by decide +kernel
theorem dksX18_isThere_1 : cX18_isThere.data.toList.drop 22 = dktX18_isThere_1 := dk_seg dksX18_isThere_0 22 rfl rfl
theorem dX18_isThere_0 : decode cX18_isThere 0 = .ok (.iload_n 1, 1) := dk_27 (dk_at dksX18_isThere_0 0 rfl rfl)
theorem dX18_isThere_1 : decode cX18_isThere 1 = .ok (.aload_n 0, 1) := dk_42 (dk_at dksX18_isThere_0 1 rfl rfl)
theorem dX18_isThere_2 : decode cX18_isThere 2 = .ok (.getfield 7, 3) := dk_180 0 7 (dk_at dksX18_isThere_0 2 rfl rfl)
theorem dX18_isThere_5 : decode cX18_isThere 5 = .ok (.if_icmp .lt 20, 3) := dk_161 0 20 (dk_at dksX18_isThere_0 5 rfl rfl)
theorem dX18_isThere_8 : decode cX18_isThere 8 = .ok (.iload_n 1, 1) := dk_27 (dk_at dksX18_isThere_0 8 rfl rfl)
theorem dX18_isThere_9 : decode cX18_isThere 9 = .ok (.aload_n 0, 1) := dk_42 (dk_at dksX18_isThere_0 9 rfl rfl)
theorem dX18_isThere_10 : decode cX18_isThere 10 = .ok (.getfield 7, 3) := dk_180 0 7 (dk_at dksX18_isThere_0 10 rfl rfl)
theorem dX18_isThere_13 : decode cX18_isThere 13 = .ok (.aload_n 0, 1) := dk_42 (dk_at dksX18_isThere_0 13 rfl rfl)
theorem dX18_isThere_14 : decode cX18_isThere 14 = .ok (.getfield 13, 3) := dk_180 0 13 (dk_at dksX18_isThere_0 14 rfl rfl)
theorem dX18_isThere_17 : decode cX18_isThere 17 = .ok (.iadd, 1) := dk_96 (dk_at dksX18_isThere_0 17 rfl rfl)
theorem dX18_isThere_18 : decode cX18_isThere 18 = .ok (.if_icmp .ge 7, 3) := dk_162 0 7 (dk_at dksX18_isThere_0 18 rfl rfl)
theorem dX18_isThere_21 : decode cX18_isThere 21 = .ok (.iconst 1, 1) := dk_4 (dk_at dksX18_isThere_0 21 rfl rfl)
theorem dX18_isThere_22 : decode cX18_isThere 22 = .ok (.goto 4, 3) := dk_167 0 4 (dk_at dksX18_isThere_1 0 rfl rfl)
theorem dX18_isThere_25 : decode cX18_isThere 25 = .ok (.iconst 0, 1) := dk_3 (dk_at dksX18_isThere_1 3 rfl rfl)
theorem dX18_isThere_26 : decode cX18_isThere 26 = .ok (.ireturn, 1) := dk_172 (dk_at dksX18_isThere_1 4 rfl rfl)
abbrev cX18_meets : ByteArray := prog_6_method_3_code
def yX18_meets : MethodName := ⟨RX18, "meets", "(LLentSundays$Guest;)Z"⟩
def dkwX18_meets_1 : List UInt8 := [42, 180, 0, 13, 96, 162, 0, 7, 4, 167, 0, 4, 3, 172]
abbrev dktX18_meets_1 : List UInt8 := dkwX18_meets_1 ++ []
def dkwX18_meets_0 : List UInt8 := [42, 180, 0, 7, 43, 180, 0, 7, 43, 180, 0, 13, 96, 162, 0, 23, 43, 180, 0, 7, 42, 180, 0, 7]
abbrev dktX18_meets_0 : List UInt8 := dkwX18_meets_0 ++ dktX18_meets_1
theorem dksX18_meets_0 : cX18_meets.data.toList.drop 0 = dktX18_meets_0 := by decide +kernel
theorem dksX18_meets_1 : cX18_meets.data.toList.drop 24 = dktX18_meets_1 := dk_seg dksX18_meets_0 24 rfl rfl
theorem dX18_meets_0 : decode cX18_meets 0 = .ok (.aload_n 0, 1) := dk_42 (dk_at dksX18_meets_0 0 rfl rfl)
theorem dX18_meets_1 : decode cX18_meets 1 = .ok (.getfield 7, 3) := dk_180 0 7 (dk_at dksX18_meets_0 1 rfl rfl)
theorem dX18_meets_4 : decode cX18_meets 4 = .ok (.aload_n 1, 1) := dk_43 (dk_at dksX18_meets_0 4 rfl rfl)
theorem dX18_meets_5 : decode cX18_meets 5 = .ok (.getfield 7, 3) := dk_180 0 7 (dk_at dksX18_meets_0 5 rfl rfl)
theorem dX18_meets_8 : decode cX18_meets 8 = .ok (.aload_n 1, 1) := dk_43 (dk_at dksX18_meets_0 8 rfl rfl)
theorem dX18_meets_9 : decode cX18_meets 9 = .ok (.getfield 13, 3) := dk_180 0 13 (dk_at dksX18_meets_0 9 rfl rfl)
theorem dX18_meets_12 : decode cX18_meets 12 = .ok (.iadd, 1) := dk_96 (dk_at dksX18_meets_0 12 rfl rfl)
theorem dX18_meets_13 : decode cX18_meets 13 = .ok (.if_icmp .ge 23, 3) := dk_162 0 23 (dk_at dksX18_meets_0 13 rfl rfl)
theorem dX18_meets_16 : decode cX18_meets 16 = .ok (.aload_n 1, 1) := dk_43 (dk_at dksX18_meets_0 16 rfl rfl)
theorem dX18_meets_17 : decode cX18_meets 17 = .ok (.getfield 7, 3) := dk_180 0 7 (dk_at dksX18_meets_0 17 rfl rfl)
theorem dX18_meets_20 : decode cX18_meets 20 = .ok (.aload_n 0, 1) := dk_42 (dk_at dksX18_meets_0 20 rfl rfl)
theorem dX18_meets_21 : decode cX18_meets 21 = .ok (.getfield 7, 3) := dk_180 0 7 (dk_at dksX18_meets_0 21 rfl rfl)
theorem dX18_meets_24 : decode cX18_meets 24 = .ok (.aload_n 0, 1) := dk_42 (dk_at dksX18_meets_1 0 rfl rfl)
theorem dX18_meets_25 : decode cX18_meets 25 = .ok (.getfield 13, 3) := dk_180 0 13 (dk_at dksX18_meets_1 1 rfl rfl)
theorem dX18_meets_28 : decode cX18_meets 28 = .ok (.iadd, 1) := dk_96 (dk_at dksX18_meets_1 4 rfl rfl)
theorem dX18_meets_29 : decode cX18_meets 29 = .ok (.if_icmp .ge 7, 3) := dk_162 0 7 (dk_at dksX18_meets_1 5 rfl rfl)
theorem dX18_meets_32 : decode cX18_meets 32 = .ok (.iconst 1, 1) := dk_4 (dk_at dksX18_meets_1 8 rfl rfl)
theorem dX18_meets_33 : decode cX18_meets 33 = .ok (.goto 4, 3) := dk_167 0 4 (dk_at dksX18_meets_1 9 rfl rfl)
theorem dX18_meets_36 : decode cX18_meets 36 = .ok (.iconst 0, 1) := dk_3 (dk_at dksX18_meets_1 12 rfl rfl)
theorem dX18_meets_37 : decode cX18_meets 37 = .ok (.ireturn, 1) := dk_172 (dk_at dksX18_meets_1 13 rfl rfl)
theorem q163 : (Jvm.Cond.initialized "LentSundays$Guest") ∈ lw_all := lw_g (lw_at lw_m1 36 rfl) rfl
theorem q1051 : (Jvm.Cond.selects "LentSundays$Guest" ({ cls := "java/lang/Object", name := "getClass", desc := "()Ljava/lang/Class;" } : Jvm.MethodName) ({ cls := "java/lang/Object", name := "getClass", desc := "()Ljava/lang/Class;" } : Jvm.MethodName)) ∈ lw_all := lw_g (lw_at lw_m4 204 rfl) rfl
theorem q1076 : (Jvm.Cond.instantiable "LentSundays$Guest" (5 : Nat)) ∈ lw_all := lw_g (lw_at lw_m4 229 rfl) rfl
theorem q1078 : (Jvm.Cond.instanceMethod ({ cls := "LentSundays$Guest", name := "<init>", desc := "(Ljava/lang/String;)V" } : Jvm.MethodName)) ∈ lw_all := lw_g (lw_at lw_m4 231 rfl) rfl
theorem q1079 : (Jvm.Cond.code ({ cls := "LentSundays$Guest", name := "<init>", desc := "(Ljava/lang/String;)V" } : Jvm.MethodName) prog_6_method_1_code (2 : Nat) (Option.none : Option Jvm.ClassFile.FieldType)) ∈ lw_all := lw_g (lw_at lw_m4 232 rfl) rfl
theorem q1080 : (Jvm.Cond.methodLink "LentSundays$Guest" (1 : Nat) ({ cls := "LentSundays$Named", name := "<init>", desc := "(Ljava/lang/String;)V" } : Jvm.MethodName)) ∈ lw_all := lw_g (lw_at lw_m4 233 rfl) rfl
theorem q1081 : (Jvm.Cond.fieldLink "LentSundays$Guest" (7 : Nat) "LentSundays$Guest" "hour" "I") ∈ lw_all := lw_g (lw_at lw_m4 234 rfl) rfl
theorem q1086 : (Jvm.Cond.fieldLink "LentSundays$Guest" (13 : Nat) "LentSundays$Guest" "hours" "I") ∈ lw_all := lw_g (lw_at lw_m4 239 rfl) rfl
theorem q1096 : (Jvm.Cond.lays "LentSundays$Guest" "LentSundays$Guest" "hour" "I") ∈ lw_all := lw_g (lw_at lw_m5 9 rfl) rfl
theorem q1097 : (Jvm.Cond.soleField "LentSundays$Guest" "hour") ∈ lw_all := lw_g (lw_at lw_m5 10 rfl) rfl
theorem q1098 : (Jvm.Cond.lays "LentSundays$Guest" "LentSundays$Guest" "hours" "I") ∈ lw_all := lw_g (lw_at lw_m5 11 rfl) rfl
theorem q1099 : (Jvm.Cond.soleField "LentSundays$Guest" "hours") ∈ lw_all := lw_g (lw_at lw_m5 12 rfl) rfl
theorem q1100 : (Jvm.Cond.lays "LentSundays$Guest" "LentSundays$Guest" "fee" "I") ∈ lw_all := lw_g (lw_at lw_m5 13 rfl) rfl
theorem q1101 : (Jvm.Cond.soleField "LentSundays$Guest" "fee") ∈ lw_all := lw_g (lw_at lw_m5 14 rfl) rfl
theorem q1102 : (Jvm.Cond.lays "LentSundays$Guest" "LentSundays$Guest" "foes" "I") ∈ lw_all := lw_g (lw_at lw_m5 15 rfl) rfl
theorem q1103 : (Jvm.Cond.soleField "LentSundays$Guest" "foes") ∈ lw_all := lw_g (lw_at lw_m5 16 rfl) rfl
theorem q1104 : (Jvm.Cond.laysFinal "LentSundays$Guest" "LentSundays$Named" "name" "Ljava/lang/String;") ∈ lw_all := lw_g (lw_at lw_m5 17 rfl) rfl
theorem q1105 : (Jvm.Cond.superclass "LentSundays$Guest" "LentSundays$Named") ∈ lw_all := lw_g (lw_at lw_m5 18 rfl) rfl
theorem q1238 : (Jvm.Cond.instanceMethod ({ cls := "LentSundays$Guest", name := "isThere", desc := "(I)Z" } : Jvm.MethodName)) ∈ lw_all := lw_g (lw_at lw_m5 151 rfl) rfl
theorem q1239 : (Jvm.Cond.selects "LentSundays$Guest" ({ cls := "LentSundays$Guest", name := "isThere", desc := "(I)Z" } : Jvm.MethodName) ({ cls := "LentSundays$Guest", name := "isThere", desc := "(I)Z" } : Jvm.MethodName)) ∈ lw_all := lw_g (lw_at lw_m5 152 rfl) rfl
theorem q1240 : (Jvm.Cond.code ({ cls := "LentSundays$Guest", name := "isThere", desc := "(I)Z" } : Jvm.MethodName) prog_6_method_2_code (2 : Nat) (Option.some Jvm.ClassFile.FieldType.boolean)) ∈ lw_all := lw_g (lw_at lw_m5 153 rfl) rfl
theorem q1266 : (Jvm.Cond.instanceMethod ({ cls := "LentSundays$Guest", name := "meets", desc := "(LLentSundays$Guest;)Z" } : Jvm.MethodName)) ∈ lw_all := lw_g (lw_at lw_m5 179 rfl) rfl
theorem q1267 : (Jvm.Cond.selects "LentSundays$Guest" ({ cls := "LentSundays$Guest", name := "meets", desc := "(LLentSundays$Guest;)Z" } : Jvm.MethodName) ({ cls := "LentSundays$Guest", name := "meets", desc := "(LLentSundays$Guest;)Z" } : Jvm.MethodName)) ∈ lw_all := lw_g (lw_at lw_m5 180 rfl) rfl
theorem q1268 : (Jvm.Cond.code ({ cls := "LentSundays$Guest", name := "meets", desc := "(LLentSundays$Guest;)Z" } : Jvm.MethodName) prog_6_method_3_code (2 : Nat) (Option.some Jvm.ClassFile.FieldType.boolean)) ∈ lw_all := lw_g (lw_at lw_m5 181 rfl) rfl
theorem q2227 : (Jvm.Cond.castable "LentSundays$Guest" "LentSundays$Named") ∈ lw_tbl := lw_at lw_m9 180 rfl
theorem q2248 : (Jvm.Cond.castable "LentSundays$Guest" "java/lang/Object") ∈ lw_tbl := lw_at lw_m9 201 rfl
theorem in_X18 : ∀ w ∈ wsX180, w ∈ lw_all := lw_in wsX180 [1104, 1096, 1098, 1100, 1102] (by decide +kernel) (by decide +kernel)
/-! LentSundays$Tokens -/
set_option maxRecDepth 100000
def RX2 : String := "LentSundays$Tokens"
def TX2 : u_T := fun k => match k with
  | 0 => ("LentSundays$Tokens", "words", "[Ljava/lang/String;", true)
  | 1 => ("LentSundays$Tokens", "tape", "[B", true)
  | 2 => ("LentSundays$Tokens", "taped", "I", false)
  | 3 => ("LentSundays$Tokens", "sort", "[B", true)
  | 4 => ("LentSundays$Tokens", "from", "[S", true)
  | 5 => ("LentSundays$Tokens", "to", "[S", true)
  | 6 => ("LentSundays$Tokens", "what", "[S", true)
  | _ => ("LentSundays$Tokens", "many", "I", false)
def tyX2 : Nat → FieldType := fun k => match k with
  | 0 => .array (.object "java/lang/String")
  | 1 => .array .byte
  | 2 => .int
  | 3 => .array .byte
  | 4 => .array .short
  | 5 => .array .short
  | 6 => .array .short
  | _ => .int
abbrev wsX20 : List Cond := u_ws RX2 TX2 8
theorem nmX2 : ∀ a, a < 8 → ∀ b, b < 8 → a ≠ b → (TX2 a).2.1 ≠ (TX2 b).2.1 := by decide +kernel
theorem tyX2_ok : ∀ k, k < 8 → parseFieldDescriptor (TX2 k).2.2.1 = some (tyX2 k) := by decide +kernel
abbrev cX2_init : ByteArray := prog_17_method_1_code
def yX2_init : MethodName := ⟨RX2, "<init>", "()V"⟩
def dkwX2_init_7 : List UInt8 := [181, 0, 70, 42, 17, 7, 209, 188, 9, 181, 0, 73, 177]
abbrev dktX2_init_7 : List UInt8 := dkwX2_init_7 ++ []
def dkwX2_init_6 : List UInt8 := [17, 7, 209, 188, 8, 181, 0, 63, 42, 17, 7, 209, 188, 9, 181, 0, 66, 42, 17, 7, 209, 188, 9]
abbrev dktX2_init_6 : List UInt8 := dkwX2_init_6 ++ dktX2_init_7
def dkwX2_init_5 : List UInt8 := [16, 19, 18, 49, 83, 89, 16, 20, 18, 51, 83, 181, 0, 53, 42, 17, 7, 208, 188, 8, 181, 0, 59, 42]
abbrev dktX2_init_5 : List UInt8 := dkwX2_init_5 ++ dktX2_init_6
def dkwX2_init_4 : List UInt8 := [16, 15, 18, 41, 83, 89, 16, 16, 18, 43, 83, 89, 16, 17, 18, 45, 83, 89, 16, 18, 18, 47, 83, 89]
abbrev dktX2_init_4 : List UInt8 := dkwX2_init_4 ++ dktX2_init_5
def dkwX2_init_3 : List UInt8 := [16, 11, 18, 33, 83, 89, 16, 12, 18, 35, 83, 89, 16, 13, 18, 37, 83, 89, 16, 14, 18, 39, 83, 89]
abbrev dktX2_init_3 : List UInt8 := dkwX2_init_3 ++ dktX2_init_4
def dkwX2_init_2 : List UInt8 := [16, 7, 18, 25, 83, 89, 16, 8, 18, 27, 83, 89, 16, 9, 18, 29, 83, 89, 16, 10, 18, 31, 83, 89]
abbrev dktX2_init_2 : List UInt8 := dkwX2_init_2 ++ dktX2_init_3
def dkwX2_init_1 : List UInt8 := [83, 89, 6, 18, 17, 83, 89, 7, 18, 19, 83, 89, 8, 18, 21, 83, 89, 16, 6, 18, 23, 83, 89]
abbrev dktX2_init_1 : List UInt8 := dkwX2_init_1 ++ dktX2_init_2
def dkwX2_init_0 : List UInt8 := [42, 183, 0, 3, 42, 16, 21, 189, 0, 9, 89, 3, 18, 11, 83, 89, 4, 18, 13, 83, 89, 5, 18, 15]
abbrev dktX2_init_0 : List UInt8 := dkwX2_init_0 ++ dktX2_init_1
theorem dksX2_init_0 : cX2_init.data.toList.drop 0 = dktX2_init_0 := by decide +kernel
theorem dksX2_init_1 : cX2_init.data.toList.drop 24 = dktX2_init_1 := dk_seg dksX2_init_0 24 rfl rfl
theorem dksX2_init_2 : cX2_init.data.toList.drop 47 = dktX2_init_2 := dk_seg dksX2_init_1 23 rfl rfl
theorem dksX2_init_3 : cX2_init.data.toList.drop 71 = dktX2_init_3 := dk_seg dksX2_init_2 24 rfl rfl
theorem dksX2_init_4 : cX2_init.data.toList.drop 95 = dktX2_init_4 := dk_seg dksX2_init_3 24 rfl rfl
theorem dksX2_init_5 : cX2_init.data.toList.drop 119 = dktX2_init_5 := dk_seg dksX2_init_4 24 rfl rfl
theorem dksX2_init_6 : cX2_init.data.toList.drop 143 = dktX2_init_6 := dk_seg dksX2_init_5 24 rfl rfl
theorem dksX2_init_7 : cX2_init.data.toList.drop 166 = dktX2_init_7 := dk_seg dksX2_init_6 23 rfl rfl
theorem dX2_init_0 : decode cX2_init 0 = .ok (.aload_n 0, 1) := dk_42 (dk_at dksX2_init_0 0 rfl rfl)
theorem dX2_init_1 : decode cX2_init 1 = .ok (.invokespecial 3, 3) := dk_183 0 3 (dk_at dksX2_init_0 1 rfl rfl)
theorem dX2_init_4 : decode cX2_init 4 = .ok (.aload_n 0, 1) := dk_42 (dk_at dksX2_init_0 4 rfl rfl)
theorem dX2_init_5 : decode cX2_init 5 = .ok (.bipush 21, 2) := dk_16 21 (dk_at dksX2_init_0 5 rfl rfl)
theorem dX2_init_7 : decode cX2_init 7 = .ok (.anewarray 9, 3) := dk_189 0 9 (dk_at dksX2_init_0 7 rfl rfl)
theorem dX2_init_10 : decode cX2_init 10 = .ok (.dup, 1) := dk_89 (dk_at dksX2_init_0 10 rfl rfl)
theorem dX2_init_11 : decode cX2_init 11 = .ok (.iconst 0, 1) := dk_3 (dk_at dksX2_init_0 11 rfl rfl)
theorem dX2_init_12 : decode cX2_init 12 = .ok (.ldc 11, 2) := dk_18 11 (dk_at dksX2_init_0 12 rfl rfl)
theorem dX2_init_14 : decode cX2_init 14 = .ok (.aastore, 1) := dk_83 (dk_at dksX2_init_0 14 rfl rfl)
theorem dX2_init_15 : decode cX2_init 15 = .ok (.dup, 1) := dk_89 (dk_at dksX2_init_0 15 rfl rfl)
theorem dX2_init_16 : decode cX2_init 16 = .ok (.iconst 1, 1) := dk_4 (dk_at dksX2_init_0 16 rfl rfl)
theorem dX2_init_17 : decode cX2_init 17 = .ok (.ldc 13, 2) := dk_18 13 (dk_at dksX2_init_0 17 rfl rfl)
theorem dX2_init_19 : decode cX2_init 19 = .ok (.aastore, 1) := dk_83 (dk_at dksX2_init_0 19 rfl rfl)
theorem dX2_init_20 : decode cX2_init 20 = .ok (.dup, 1) := dk_89 (dk_at dksX2_init_0 20 rfl rfl)
theorem dX2_init_21 : decode cX2_init 21 = .ok (.iconst 2, 1) := dk_5 (dk_at dksX2_init_0 21 rfl rfl)
theorem dX2_init_22 : decode cX2_init 22 = .ok (.ldc 15, 2) := dk_18 15 (dk_at dksX2_init_0 22 rfl rfl)
theorem dX2_init_24 : decode cX2_init 24 = .ok (.aastore, 1) := dk_83 (dk_at dksX2_init_1 0 rfl rfl)
theorem dX2_init_25 : decode cX2_init 25 = .ok (.dup, 1) := dk_89 (dk_at dksX2_init_1 1 rfl rfl)
theorem dX2_init_26 : decode cX2_init 26 = .ok (.iconst 3, 1) := dk_6 (dk_at dksX2_init_1 2 rfl rfl)
theorem dX2_init_27 : decode cX2_init 27 = .ok (.ldc 17, 2) := dk_18 17 (dk_at dksX2_init_1 3 rfl rfl)
theorem dX2_init_29 : decode cX2_init 29 = .ok (.aastore, 1) := dk_83 (dk_at dksX2_init_1 5 rfl rfl)
theorem dX2_init_30 : decode cX2_init 30 = .ok (.dup, 1) := dk_89 (dk_at dksX2_init_1 6 rfl rfl)
theorem dX2_init_31 : decode cX2_init 31 = .ok (.iconst 4, 1) := dk_7 (dk_at dksX2_init_1 7 rfl rfl)
theorem dX2_init_32 : decode cX2_init 32 = .ok (.ldc 19, 2) := dk_18 19 (dk_at dksX2_init_1 8 rfl rfl)
theorem dX2_init_34 : decode cX2_init 34 = .ok (.aastore, 1) := dk_83 (dk_at dksX2_init_1 10 rfl rfl)
theorem dX2_init_35 : decode cX2_init 35 = .ok (.dup, 1) := dk_89 (dk_at dksX2_init_1 11 rfl rfl)
theorem dX2_init_36 : decode cX2_init 36 = .ok (.iconst 5, 1) := dk_8 (dk_at dksX2_init_1 12 rfl rfl)
theorem dX2_init_37 : decode cX2_init 37 = .ok (.ldc 21, 2) := dk_18 21 (dk_at dksX2_init_1 13 rfl rfl)
theorem dX2_init_39 : decode cX2_init 39 = .ok (.aastore, 1) := dk_83 (dk_at dksX2_init_1 15 rfl rfl)
theorem dX2_init_40 : decode cX2_init 40 = .ok (.dup, 1) := dk_89 (dk_at dksX2_init_1 16 rfl rfl)
theorem dX2_init_41 : decode cX2_init 41 = .ok (.bipush 6, 2) := dk_16 6 (dk_at dksX2_init_1 17 rfl rfl)
theorem dX2_init_43 : decode cX2_init 43 = .ok (.ldc 23, 2) := dk_18 23 (dk_at dksX2_init_1 19 rfl rfl)
theorem dX2_init_45 : decode cX2_init 45 = .ok (.aastore, 1) := dk_83 (dk_at dksX2_init_1 21 rfl rfl)
theorem dX2_init_46 : decode cX2_init 46 = .ok (.dup, 1) := dk_89 (dk_at dksX2_init_1 22 rfl rfl)
theorem dX2_init_47 : decode cX2_init 47 = .ok (.bipush 7, 2) := dk_16 7 (dk_at dksX2_init_2 0 rfl rfl)
theorem dX2_init_49 : decode cX2_init 49 = .ok (.ldc 25, 2) := dk_18 25 (dk_at dksX2_init_2 2 rfl rfl)
theorem dX2_init_51 : decode cX2_init 51 = .ok (.aastore, 1) := dk_83 (dk_at dksX2_init_2 4 rfl rfl)
theorem dX2_init_52 : decode cX2_init 52 = .ok (.dup, 1) := dk_89 (dk_at dksX2_init_2 5 rfl rfl)
theorem dX2_init_53 : decode cX2_init 53 = .ok (.bipush 8, 2) := dk_16 8 (dk_at dksX2_init_2 6 rfl rfl)
theorem dX2_init_55 : decode cX2_init 55 = .ok (.ldc 27, 2) := dk_18 27 (dk_at dksX2_init_2 8 rfl rfl)
theorem dX2_init_57 : decode cX2_init 57 = .ok (.aastore, 1) := dk_83 (dk_at dksX2_init_2 10 rfl rfl)
theorem dX2_init_58 : decode cX2_init 58 = .ok (.dup, 1) := dk_89 (dk_at dksX2_init_2 11 rfl rfl)
theorem dX2_init_59 : decode cX2_init 59 = .ok (.bipush 9, 2) := dk_16 9 (dk_at dksX2_init_2 12 rfl rfl)
theorem dX2_init_61 : decode cX2_init 61 = .ok (.ldc 29, 2) := dk_18 29 (dk_at dksX2_init_2 14 rfl rfl)
theorem dX2_init_63 : decode cX2_init 63 = .ok (.aastore, 1) := dk_83 (dk_at dksX2_init_2 16 rfl rfl)
theorem dX2_init_64 : decode cX2_init 64 = .ok (.dup, 1) := dk_89 (dk_at dksX2_init_2 17 rfl rfl)
theorem dX2_init_65 : decode cX2_init 65 = .ok (.bipush 10, 2) := dk_16 10 (dk_at dksX2_init_2 18 rfl rfl)
theorem dX2_init_67 : decode cX2_init 67 = .ok (.ldc 31, 2) := dk_18 31 (dk_at dksX2_init_2 20 rfl rfl)
theorem dX2_init_69 : decode cX2_init 69 = .ok (.aastore, 1) := dk_83 (dk_at dksX2_init_2 22 rfl rfl)
theorem dX2_init_70 : decode cX2_init 70 = .ok (.dup, 1) := dk_89 (dk_at dksX2_init_2 23 rfl rfl)
theorem dX2_init_71 : decode cX2_init 71 = .ok (.bipush 11, 2) := dk_16 11 (dk_at dksX2_init_3 0 rfl rfl)
theorem dX2_init_73 : decode cX2_init 73 = .ok (.ldc 33, 2) := dk_18 33 (dk_at dksX2_init_3 2 rfl rfl)
theorem dX2_init_75 : decode cX2_init 75 = .ok (.aastore, 1) := dk_83 (dk_at dksX2_init_3 4 rfl rfl)
theorem dX2_init_76 : decode cX2_init 76 = .ok (.dup, 1) := dk_89 (dk_at dksX2_init_3 5 rfl rfl)
theorem dX2_init_77 : decode cX2_init 77 = .ok (.bipush 12, 2) := dk_16 12 (dk_at dksX2_init_3 6 rfl rfl)
theorem dX2_init_79 : decode cX2_init 79 = .ok (.ldc 35, 2) := dk_18 35 (dk_at dksX2_init_3 8 rfl rfl)
theorem dX2_init_81 : decode cX2_init 81 = .ok (.aastore, 1) := dk_83 (dk_at dksX2_init_3 10 rfl rfl)
theorem dX2_init_82 : decode cX2_init 82 = .ok (.dup, 1) := dk_89 (dk_at dksX2_init_3 11 rfl rfl)
theorem dX2_init_83 : decode cX2_init 83 = .ok (.bipush 13, 2) := dk_16 13 (dk_at dksX2_init_3 12 rfl rfl)
theorem dX2_init_85 : decode cX2_init 85 = .ok (.ldc 37, 2) := dk_18 37 (dk_at dksX2_init_3 14 rfl rfl)
theorem dX2_init_87 : decode cX2_init 87 = .ok (.aastore, 1) := dk_83 (dk_at dksX2_init_3 16 rfl rfl)
theorem dX2_init_88 : decode cX2_init 88 = .ok (.dup, 1) := dk_89 (dk_at dksX2_init_3 17 rfl rfl)
theorem dX2_init_89 : decode cX2_init 89 = .ok (.bipush 14, 2) := dk_16 14 (dk_at dksX2_init_3 18 rfl rfl)
theorem dX2_init_91 : decode cX2_init 91 = .ok (.ldc 39, 2) := dk_18 39 (dk_at dksX2_init_3 20 rfl rfl)
theorem dX2_init_93 : decode cX2_init 93 = .ok (.aastore, 1) := dk_83 (dk_at dksX2_init_3 22 rfl rfl)
theorem dX2_init_94 : decode cX2_init 94 = .ok (.dup, 1) := dk_89 (dk_at dksX2_init_3 23 rfl rfl)
theorem dX2_init_95 : decode cX2_init 95 = .ok (.bipush 15, 2) := dk_16 15 (dk_at dksX2_init_4 0 rfl rfl)
theorem dX2_init_97 : decode cX2_init 97 = .ok (.ldc 41, 2) := dk_18 41 (dk_at dksX2_init_4 2 rfl rfl)
theorem dX2_init_99 : decode cX2_init 99 = .ok (.aastore, 1) := dk_83 (dk_at dksX2_init_4 4 rfl rfl)
theorem dX2_init_100 : decode cX2_init 100 = .ok (.dup, 1) := dk_89 (dk_at dksX2_init_4 5 rfl rfl)
theorem dX2_init_101 : decode cX2_init 101 = .ok (.bipush 16, 2) := dk_16 16 (dk_at dksX2_init_4 6 rfl rfl)
theorem dX2_init_103 : decode cX2_init 103 = .ok (.ldc 43, 2) := dk_18 43 (dk_at dksX2_init_4 8 rfl rfl)
theorem dX2_init_105 : decode cX2_init 105 = .ok (.aastore, 1) := dk_83 (dk_at dksX2_init_4 10 rfl rfl)
theorem dX2_init_106 : decode cX2_init 106 = .ok (.dup, 1) := dk_89 (dk_at dksX2_init_4 11 rfl rfl)
theorem dX2_init_107 : decode cX2_init 107 = .ok (.bipush 17, 2) := dk_16 17 (dk_at dksX2_init_4 12 rfl rfl)
theorem dX2_init_109 : decode cX2_init 109 = .ok (.ldc 45, 2) := dk_18 45 (dk_at dksX2_init_4 14 rfl rfl)
theorem dX2_init_111 : decode cX2_init 111 = .ok (.aastore, 1) := dk_83 (dk_at dksX2_init_4 16 rfl rfl)
theorem dX2_init_112 : decode cX2_init 112 = .ok (.dup, 1) := dk_89 (dk_at dksX2_init_4 17 rfl rfl)
theorem dX2_init_113 : decode cX2_init 113 = .ok (.bipush 18, 2) := dk_16 18 (dk_at dksX2_init_4 18 rfl rfl)
theorem dX2_init_115 : decode cX2_init 115 = .ok (.ldc 47, 2) := dk_18 47 (dk_at dksX2_init_4 20 rfl rfl)
theorem dX2_init_117 : decode cX2_init 117 = .ok (.aastore, 1) := dk_83 (dk_at dksX2_init_4 22 rfl rfl)
theorem dX2_init_118 : decode cX2_init 118 = .ok (.dup, 1) := dk_89 (dk_at dksX2_init_4 23 rfl rfl)
theorem dX2_init_119 : decode cX2_init 119 = .ok (.bipush 19, 2) := dk_16 19 (dk_at dksX2_init_5 0 rfl rfl)
theorem dX2_init_121 : decode cX2_init 121 = .ok (.ldc 49, 2) := dk_18 49 (dk_at dksX2_init_5 2 rfl rfl)
theorem dX2_init_123 : decode cX2_init 123 = .ok (.aastore, 1) := dk_83 (dk_at dksX2_init_5 4 rfl rfl)
theorem dX2_init_124 : decode cX2_init 124 = .ok (.dup, 1) := dk_89 (dk_at dksX2_init_5 5 rfl rfl)
theorem dX2_init_125 : decode cX2_init 125 = .ok (.bipush 20, 2) := dk_16 20 (dk_at dksX2_init_5 6 rfl rfl)
theorem dX2_init_127 : decode cX2_init 127 = .ok (.ldc 51, 2) := dk_18 51 (dk_at dksX2_init_5 8 rfl rfl)
theorem dX2_init_129 : decode cX2_init 129 = .ok (.aastore, 1) := dk_83 (dk_at dksX2_init_5 10 rfl rfl)
theorem dX2_init_130 : decode cX2_init 130 = .ok (.putfield 53, 3) := dk_181 0 53 (dk_at dksX2_init_5 11 rfl rfl)
theorem dX2_init_133 : decode cX2_init 133 = .ok (.aload_n 0, 1) := dk_42 (dk_at dksX2_init_5 14 rfl rfl)
theorem dX2_init_134 : decode cX2_init 134 = .ok (.sipush 2000, 3) := dk_17 7 208 (dk_at dksX2_init_5 15 rfl rfl)
theorem dX2_init_137 : decode cX2_init 137 = .ok (.newarray .byte, 2) := dk_188_8 (dk_at dksX2_init_5 18 rfl rfl)
theorem dX2_init_139 : decode cX2_init 139 = .ok (.putfield 59, 3) := dk_181 0 59 (dk_at dksX2_init_5 20 rfl rfl)
theorem dX2_init_142 : decode cX2_init 142 = .ok (.aload_n 0, 1) := dk_42 (dk_at dksX2_init_5 23 rfl rfl)
theorem dX2_init_143 : decode cX2_init 143 = .ok (.sipush 2001, 3) := dk_17 7 209 (dk_at dksX2_init_6 0 rfl rfl)
theorem dX2_init_146 : decode cX2_init 146 = .ok (.newarray .byte, 2) := dk_188_8 (dk_at dksX2_init_6 3 rfl rfl)
theorem dX2_init_148 : decode cX2_init 148 = .ok (.putfield 63, 3) := dk_181 0 63 (dk_at dksX2_init_6 5 rfl rfl)
theorem dX2_init_151 : decode cX2_init 151 = .ok (.aload_n 0, 1) := dk_42 (dk_at dksX2_init_6 8 rfl rfl)
theorem dX2_init_152 : decode cX2_init 152 = .ok (.sipush 2001, 3) := dk_17 7 209 (dk_at dksX2_init_6 9 rfl rfl)
theorem dX2_init_155 : decode cX2_init 155 = .ok (.newarray .short, 2) := dk_188_9 (dk_at dksX2_init_6 12 rfl rfl)
theorem dX2_init_157 : decode cX2_init 157 = .ok (.putfield 66, 3) := dk_181 0 66 (dk_at dksX2_init_6 14 rfl rfl)
theorem dX2_init_160 : decode cX2_init 160 = .ok (.aload_n 0, 1) := dk_42 (dk_at dksX2_init_6 17 rfl rfl)
theorem dX2_init_161 : decode cX2_init 161 = .ok (.sipush 2001, 3) := dk_17 7 209 (dk_at dksX2_init_6 18 rfl rfl)
theorem dX2_init_164 : decode cX2_init 164 = .ok (.newarray .short, 2) := dk_188_9 (dk_at dksX2_init_6 21 rfl rfl)
theorem dX2_init_166 : decode cX2_init 166 = .ok (.putfield 70, 3) := dk_181 0 70 (dk_at dksX2_init_7 0 rfl rfl)
theorem dX2_init_169 : decode cX2_init 169 = .ok (.aload_n 0, 1) := dk_42 (dk_at dksX2_init_7 3 rfl rfl)
theorem dX2_init_170 : decode cX2_init 170 = .ok (.sipush 2001, 3) := dk_17 7 209 (dk_at dksX2_init_7 4 rfl rfl)
theorem dX2_init_173 : decode cX2_init 173 = .ok (.newarray .short, 2) := dk_188_9 (dk_at dksX2_init_7 7 rfl rfl)
theorem dX2_init_175 : decode cX2_init 175 = .ok (.putfield 73, 3) := dk_181 0 73 (dk_at dksX2_init_7 9 rfl rfl)
theorem dX2_init_178 : decode cX2_init 178 = .ok (.return_, 1) := dk_177 (dk_at dksX2_init_7 12 rfl rfl)
abbrev cX2_read : ByteArray := prog_17_method_8_code
def yX2_read : MethodName := ⟨RX2, "read", "()V"⟩
def dkwX2_read_9 : List UInt8 := [61, 21, 4, 60, 167, 255, 53, 28, 153, 0, 11, 42, 7, 27, 27, 3, 182, 0, 109, 177]
abbrev dktX2_read_9 : List UInt8 := dkwX2_read_9 ++ []
def dkwX2_read_8 : List UInt8 := [54, 5, 42, 21, 5, 27, 21, 4, 21, 6, 182, 0, 109, 21, 5, 8, 159, 0, 7, 4, 167, 0, 4, 3]
abbrev dktX2_read_8 : List UInt8 := dkwX2_read_8 ++ dktX2_read_9
def dkwX2_read_7 : List UInt8 := [4, 54, 5, 167, 0, 22, 42, 27, 182, 0, 106, 54, 6, 21, 6, 154, 0, 7, 8, 167, 0, 4, 5]
abbrev dktX2_read_7 : List UInt8 := dkwX2_read_7 ++ dktX2_read_8
def dkwX2_read_6 : List UInt8 := [182, 0, 103, 153, 0, 9, 132, 4, 1, 167, 255, 244, 21, 4, 27, 100, 7, 164, 0, 7, 8, 167, 0, 4]
abbrev dktX2_read_6 : List UInt8 := dkwX2_read_6 ++ dktX2_read_7
def dkwX2_read_5 : List UInt8 := [164, 0, 7, 8, 167, 0, 4, 3, 54, 5, 167, 0, 63, 42, 27, 182, 0, 103, 153, 0, 36, 42, 21, 4]
abbrev dktX2_read_5 : List UInt8 := dkwX2_read_5 ++ dktX2_read_6
def dkwX2_read_4 : List UInt8 := [21, 4, 182, 0, 99, 54, 6, 21, 6, 155, 0, 7, 6, 167, 0, 17, 21, 4, 27, 100, 16, 8]
abbrev dktX2_read_4 : List UInt8 := dkwX2_read_4 ++ dktX2_read_5
def dkwX2_read_3 : List UInt8 := [182, 0, 95, 153, 0, 55, 42, 21, 4, 182, 0, 95, 153, 0, 9, 132, 4, 1, 167, 255, 244, 42, 27]
abbrev dktX2_read_3 : List UInt8 := dkwX2_read_3 ++ dktX2_read_4
def dkwX2_read_2 : List UInt8 := [16, 10, 159, 0, 9, 29, 16, 13, 160, 0, 9, 132, 1, 1, 167, 255, 205, 3, 54, 6, 42, 27]
abbrev dktX2_read_2 : List UInt8 := dkwX2_read_2 ++ dktX2_read_3
def dkwX2_read_1 : List UInt8 := [180, 0, 59, 27, 51, 62, 27, 4, 96, 54, 4, 29, 16, 32, 159, 0, 21, 29, 16, 9, 159, 0, 15, 29]
abbrev dktX2_read_1 : List UInt8 := dkwX2_read_1 ++ dktX2_read_2
def dkwX2_read_0 : List UInt8 := [42, 3, 181, 0, 84, 3, 60, 4, 61, 27, 42, 180, 0, 76, 162, 0, 201, 28, 153, 0, 197, 42]
abbrev dktX2_read_0 : List UInt8 := dkwX2_read_0 ++ dktX2_read_1
theorem dksX2_read_0 : cX2_read.data.toList.drop 0 = dktX2_read_0 := by decide +kernel
theorem dksX2_read_1 : cX2_read.data.toList.drop 22 = dktX2_read_1 := dk_seg dksX2_read_0 22 rfl rfl
theorem dksX2_read_2 : cX2_read.data.toList.drop 46 = dktX2_read_2 := dk_seg dksX2_read_1 24 rfl rfl
theorem dksX2_read_3 : cX2_read.data.toList.drop 68 = dktX2_read_3 := dk_seg dksX2_read_2 22 rfl rfl
theorem dksX2_read_4 : cX2_read.data.toList.drop 91 = dktX2_read_4 := dk_seg dksX2_read_3 23 rfl rfl
theorem dksX2_read_5 : cX2_read.data.toList.drop 113 = dktX2_read_5 := dk_seg dksX2_read_4 22 rfl rfl
theorem dksX2_read_6 : cX2_read.data.toList.drop 137 = dktX2_read_6 := dk_seg dksX2_read_5 24 rfl rfl
theorem dksX2_read_7 : cX2_read.data.toList.drop 161 = dktX2_read_7 := dk_seg dksX2_read_6 24 rfl rfl
theorem dksX2_read_8 : cX2_read.data.toList.drop 184 = dktX2_read_8 := dk_seg dksX2_read_7 23 rfl rfl
theorem dksX2_read_9 : cX2_read.data.toList.drop 208 = dktX2_read_9 := dk_seg dksX2_read_8 24 rfl rfl
theorem dX2_read_0 : decode cX2_read 0 = .ok (.aload_n 0, 1) := dk_42 (dk_at dksX2_read_0 0 rfl rfl)
theorem dX2_read_1 : decode cX2_read 1 = .ok (.iconst 0, 1) := dk_3 (dk_at dksX2_read_0 1 rfl rfl)
theorem dX2_read_2 : decode cX2_read 2 = .ok (.putfield 84, 3) := dk_181 0 84 (dk_at dksX2_read_0 2 rfl rfl)
theorem dX2_read_5 : decode cX2_read 5 = .ok (.iconst 0, 1) := dk_3 (dk_at dksX2_read_0 5 rfl rfl)
theorem dX2_read_6 : decode cX2_read 6 = .ok (.istore_n 1, 1) := dk_60 (dk_at dksX2_read_0 6 rfl rfl)
theorem dX2_read_7 : decode cX2_read 7 = .ok (.iconst 1, 1) := dk_4 (dk_at dksX2_read_0 7 rfl rfl)
theorem dX2_read_8 : decode cX2_read 8 = .ok (.istore_n 2, 1) := dk_61 (dk_at dksX2_read_0 8 rfl rfl)
theorem dX2_read_9 : decode cX2_read 9 = .ok (.iload_n 1, 1) := dk_27 (dk_at dksX2_read_0 9 rfl rfl)
theorem dX2_read_10 : decode cX2_read 10 = .ok (.aload_n 0, 1) := dk_42 (dk_at dksX2_read_0 10 rfl rfl)
theorem dX2_read_11 : decode cX2_read 11 = .ok (.getfield 76, 3) := dk_180 0 76 (dk_at dksX2_read_0 11 rfl rfl)
theorem dX2_read_14 : decode cX2_read 14 = .ok (.if_icmp .ge 201, 3) := dk_162 0 201 (dk_at dksX2_read_0 14 rfl rfl)
theorem dX2_read_17 : decode cX2_read 17 = .ok (.iload_n 2, 1) := dk_28 (dk_at dksX2_read_0 17 rfl rfl)
theorem dX2_read_18 : decode cX2_read 18 = .ok (.ifCond .eq 197, 3) := dk_153 0 197 (dk_at dksX2_read_0 18 rfl rfl)
theorem dX2_read_21 : decode cX2_read 21 = .ok (.aload_n 0, 1) := dk_42 (dk_at dksX2_read_0 21 rfl rfl)
theorem dX2_read_22 : decode cX2_read 22 = .ok (.getfield 59, 3) := dk_180 0 59 (dk_at dksX2_read_1 0 rfl rfl)
theorem dX2_read_25 : decode cX2_read 25 = .ok (.iload_n 1, 1) := dk_27 (dk_at dksX2_read_1 3 rfl rfl)
theorem dX2_read_26 : decode cX2_read 26 = .ok (.baload, 1) := dk_51 (dk_at dksX2_read_1 4 rfl rfl)
theorem dX2_read_27 : decode cX2_read 27 = .ok (.istore_n 3, 1) := dk_62 (dk_at dksX2_read_1 5 rfl rfl)
theorem dX2_read_28 : decode cX2_read 28 = .ok (.iload_n 1, 1) := dk_27 (dk_at dksX2_read_1 6 rfl rfl)
theorem dX2_read_29 : decode cX2_read 29 = .ok (.iconst 1, 1) := dk_4 (dk_at dksX2_read_1 7 rfl rfl)
theorem dX2_read_30 : decode cX2_read 30 = .ok (.iadd, 1) := dk_96 (dk_at dksX2_read_1 8 rfl rfl)
theorem dX2_read_31 : decode cX2_read 31 = .ok (.istore 4, 2) := dk_54 4 (dk_at dksX2_read_1 9 rfl rfl)
theorem dX2_read_33 : decode cX2_read 33 = .ok (.iload_n 3, 1) := dk_29 (dk_at dksX2_read_1 11 rfl rfl)
theorem dX2_read_34 : decode cX2_read 34 = .ok (.bipush 32, 2) := dk_16 32 (dk_at dksX2_read_1 12 rfl rfl)
theorem dX2_read_36 : decode cX2_read 36 = .ok (.if_icmp .eq 21, 3) := dk_159 0 21 (dk_at dksX2_read_1 14 rfl rfl)
theorem dX2_read_39 : decode cX2_read 39 = .ok (.iload_n 3, 1) := dk_29 (dk_at dksX2_read_1 17 rfl rfl)
theorem dX2_read_40 : decode cX2_read 40 = .ok (.bipush 9, 2) := dk_16 9 (dk_at dksX2_read_1 18 rfl rfl)
theorem dX2_read_42 : decode cX2_read 42 = .ok (.if_icmp .eq 15, 3) := dk_159 0 15 (dk_at dksX2_read_1 20 rfl rfl)
theorem dX2_read_45 : decode cX2_read 45 = .ok (.iload_n 3, 1) := dk_29 (dk_at dksX2_read_1 23 rfl rfl)
theorem dX2_read_46 : decode cX2_read 46 = .ok (.bipush 10, 2) := dk_16 10 (dk_at dksX2_read_2 0 rfl rfl)
theorem dX2_read_48 : decode cX2_read 48 = .ok (.if_icmp .eq 9, 3) := dk_159 0 9 (dk_at dksX2_read_2 2 rfl rfl)
theorem dX2_read_51 : decode cX2_read 51 = .ok (.iload_n 3, 1) := dk_29 (dk_at dksX2_read_2 5 rfl rfl)
theorem dX2_read_52 : decode cX2_read 52 = .ok (.bipush 13, 2) := dk_16 13 (dk_at dksX2_read_2 6 rfl rfl)
theorem dX2_read_54 : decode cX2_read 54 = .ok (.if_icmp .ne 9, 3) := dk_160 0 9 (dk_at dksX2_read_2 8 rfl rfl)
theorem dX2_read_57 : decode cX2_read 57 = .ok (.iinc 1 1, 3) := dk_132 1 1 (dk_at dksX2_read_2 11 rfl rfl)
theorem dX2_read_60 : decode cX2_read 60 = .ok (.goto (-51), 3) := dk_167 255 205 (dk_at dksX2_read_2 14 rfl rfl)
theorem dX2_read_63 : decode cX2_read 63 = .ok (.iconst 0, 1) := dk_3 (dk_at dksX2_read_2 17 rfl rfl)
theorem dX2_read_64 : decode cX2_read 64 = .ok (.istore 6, 2) := dk_54 6 (dk_at dksX2_read_2 18 rfl rfl)
theorem dX2_read_66 : decode cX2_read 66 = .ok (.aload_n 0, 1) := dk_42 (dk_at dksX2_read_2 20 rfl rfl)
theorem dX2_read_67 : decode cX2_read 67 = .ok (.iload_n 1, 1) := dk_27 (dk_at dksX2_read_2 21 rfl rfl)
theorem dX2_read_68 : decode cX2_read 68 = .ok (.invokevirtual 95, 3) := dk_182 0 95 (dk_at dksX2_read_3 0 rfl rfl)
theorem dX2_read_71 : decode cX2_read 71 = .ok (.ifCond .eq 55, 3) := dk_153 0 55 (dk_at dksX2_read_3 3 rfl rfl)
theorem dX2_read_74 : decode cX2_read 74 = .ok (.aload_n 0, 1) := dk_42 (dk_at dksX2_read_3 6 rfl rfl)
theorem dX2_read_75 : decode cX2_read 75 = .ok (.iload 4, 2) := dk_21 4 (dk_at dksX2_read_3 7 rfl rfl)
theorem dX2_read_77 : decode cX2_read 77 = .ok (.invokevirtual 95, 3) := dk_182 0 95 (dk_at dksX2_read_3 9 rfl rfl)
theorem dX2_read_80 : decode cX2_read 80 = .ok (.ifCond .eq 9, 3) := dk_153 0 9 (dk_at dksX2_read_3 12 rfl rfl)
theorem dX2_read_83 : decode cX2_read 83 = .ok (.iinc 4 1, 3) := dk_132 4 1 (dk_at dksX2_read_3 15 rfl rfl)
theorem dX2_read_86 : decode cX2_read 86 = .ok (.goto (-12), 3) := dk_167 255 244 (dk_at dksX2_read_3 18 rfl rfl)
theorem dX2_read_89 : decode cX2_read 89 = .ok (.aload_n 0, 1) := dk_42 (dk_at dksX2_read_3 21 rfl rfl)
theorem dX2_read_90 : decode cX2_read 90 = .ok (.iload_n 1, 1) := dk_27 (dk_at dksX2_read_3 22 rfl rfl)
theorem dX2_read_91 : decode cX2_read 91 = .ok (.iload 4, 2) := dk_21 4 (dk_at dksX2_read_4 0 rfl rfl)
theorem dX2_read_93 : decode cX2_read 93 = .ok (.invokevirtual 99, 3) := dk_182 0 99 (dk_at dksX2_read_4 2 rfl rfl)
theorem dX2_read_96 : decode cX2_read 96 = .ok (.istore 6, 2) := dk_54 6 (dk_at dksX2_read_4 5 rfl rfl)
theorem dX2_read_98 : decode cX2_read 98 = .ok (.iload 6, 2) := dk_21 6 (dk_at dksX2_read_4 7 rfl rfl)
theorem dX2_read_100 : decode cX2_read 100 = .ok (.ifCond .lt 7, 3) := dk_155 0 7 (dk_at dksX2_read_4 9 rfl rfl)
theorem dX2_read_103 : decode cX2_read 103 = .ok (.iconst 3, 1) := dk_6 (dk_at dksX2_read_4 12 rfl rfl)
theorem dX2_read_104 : decode cX2_read 104 = .ok (.goto 17, 3) := dk_167 0 17 (dk_at dksX2_read_4 13 rfl rfl)
theorem dX2_read_107 : decode cX2_read 107 = .ok (.iload 4, 2) := dk_21 4 (dk_at dksX2_read_4 16 rfl rfl)
theorem dX2_read_109 : decode cX2_read 109 = .ok (.iload_n 1, 1) := dk_27 (dk_at dksX2_read_4 18 rfl rfl)
theorem dX2_read_110 : decode cX2_read 110 = .ok (.isub, 1) := dk_100 (dk_at dksX2_read_4 19 rfl rfl)
theorem dX2_read_111 : decode cX2_read 111 = .ok (.bipush 8, 2) := dk_16 8 (dk_at dksX2_read_4 20 rfl rfl)
theorem dX2_read_113 : decode cX2_read 113 = .ok (.if_icmp .le 7, 3) := dk_164 0 7 (dk_at dksX2_read_5 0 rfl rfl)
theorem dX2_read_116 : decode cX2_read 116 = .ok (.iconst 5, 1) := dk_8 (dk_at dksX2_read_5 3 rfl rfl)
theorem dX2_read_117 : decode cX2_read 117 = .ok (.goto 4, 3) := dk_167 0 4 (dk_at dksX2_read_5 4 rfl rfl)
theorem dX2_read_120 : decode cX2_read 120 = .ok (.iconst 0, 1) := dk_3 (dk_at dksX2_read_5 7 rfl rfl)
theorem dX2_read_121 : decode cX2_read 121 = .ok (.istore 5, 2) := dk_54 5 (dk_at dksX2_read_5 8 rfl rfl)
theorem dX2_read_123 : decode cX2_read 123 = .ok (.goto 63, 3) := dk_167 0 63 (dk_at dksX2_read_5 10 rfl rfl)
theorem dX2_read_126 : decode cX2_read 126 = .ok (.aload_n 0, 1) := dk_42 (dk_at dksX2_read_5 13 rfl rfl)
theorem dX2_read_127 : decode cX2_read 127 = .ok (.iload_n 1, 1) := dk_27 (dk_at dksX2_read_5 14 rfl rfl)
theorem dX2_read_128 : decode cX2_read 128 = .ok (.invokevirtual 103, 3) := dk_182 0 103 (dk_at dksX2_read_5 15 rfl rfl)
theorem dX2_read_131 : decode cX2_read 131 = .ok (.ifCond .eq 36, 3) := dk_153 0 36 (dk_at dksX2_read_5 18 rfl rfl)
theorem dX2_read_134 : decode cX2_read 134 = .ok (.aload_n 0, 1) := dk_42 (dk_at dksX2_read_5 21 rfl rfl)
theorem dX2_read_135 : decode cX2_read 135 = .ok (.iload 4, 2) := dk_21 4 (dk_at dksX2_read_5 22 rfl rfl)
theorem dX2_read_137 : decode cX2_read 137 = .ok (.invokevirtual 103, 3) := dk_182 0 103 (dk_at dksX2_read_6 0 rfl rfl)
theorem dX2_read_140 : decode cX2_read 140 = .ok (.ifCond .eq 9, 3) := dk_153 0 9 (dk_at dksX2_read_6 3 rfl rfl)
theorem dX2_read_143 : decode cX2_read 143 = .ok (.iinc 4 1, 3) := dk_132 4 1 (dk_at dksX2_read_6 6 rfl rfl)
theorem dX2_read_146 : decode cX2_read 146 = .ok (.goto (-12), 3) := dk_167 255 244 (dk_at dksX2_read_6 9 rfl rfl)
theorem dX2_read_149 : decode cX2_read 149 = .ok (.iload 4, 2) := dk_21 4 (dk_at dksX2_read_6 12 rfl rfl)
theorem dX2_read_151 : decode cX2_read 151 = .ok (.iload_n 1, 1) := dk_27 (dk_at dksX2_read_6 14 rfl rfl)
theorem dX2_read_152 : decode cX2_read 152 = .ok (.isub, 1) := dk_100 (dk_at dksX2_read_6 15 rfl rfl)
theorem dX2_read_153 : decode cX2_read 153 = .ok (.iconst 4, 1) := dk_7 (dk_at dksX2_read_6 16 rfl rfl)
theorem dX2_read_154 : decode cX2_read 154 = .ok (.if_icmp .le 7, 3) := dk_164 0 7 (dk_at dksX2_read_6 17 rfl rfl)
theorem dX2_read_157 : decode cX2_read 157 = .ok (.iconst 5, 1) := dk_8 (dk_at dksX2_read_6 20 rfl rfl)
theorem dX2_read_158 : decode cX2_read 158 = .ok (.goto 4, 3) := dk_167 0 4 (dk_at dksX2_read_6 21 rfl rfl)
theorem dX2_read_161 : decode cX2_read 161 = .ok (.iconst 1, 1) := dk_4 (dk_at dksX2_read_7 0 rfl rfl)
theorem dX2_read_162 : decode cX2_read 162 = .ok (.istore 5, 2) := dk_54 5 (dk_at dksX2_read_7 1 rfl rfl)
theorem dX2_read_164 : decode cX2_read 164 = .ok (.goto 22, 3) := dk_167 0 22 (dk_at dksX2_read_7 3 rfl rfl)
theorem dX2_read_167 : decode cX2_read 167 = .ok (.aload_n 0, 1) := dk_42 (dk_at dksX2_read_7 6 rfl rfl)
theorem dX2_read_168 : decode cX2_read 168 = .ok (.iload_n 1, 1) := dk_27 (dk_at dksX2_read_7 7 rfl rfl)
theorem dX2_read_169 : decode cX2_read 169 = .ok (.invokevirtual 106, 3) := dk_182 0 106 (dk_at dksX2_read_7 8 rfl rfl)
theorem dX2_read_172 : decode cX2_read 172 = .ok (.istore 6, 2) := dk_54 6 (dk_at dksX2_read_7 11 rfl rfl)
theorem dX2_read_174 : decode cX2_read 174 = .ok (.iload 6, 2) := dk_21 6 (dk_at dksX2_read_7 13 rfl rfl)
theorem dX2_read_176 : decode cX2_read 176 = .ok (.ifCond .ne 7, 3) := dk_154 0 7 (dk_at dksX2_read_7 15 rfl rfl)
theorem dX2_read_179 : decode cX2_read 179 = .ok (.iconst 5, 1) := dk_8 (dk_at dksX2_read_7 18 rfl rfl)
theorem dX2_read_180 : decode cX2_read 180 = .ok (.goto 4, 3) := dk_167 0 4 (dk_at dksX2_read_7 19 rfl rfl)
theorem dX2_read_183 : decode cX2_read 183 = .ok (.iconst 2, 1) := dk_5 (dk_at dksX2_read_7 22 rfl rfl)
theorem dX2_read_184 : decode cX2_read 184 = .ok (.istore 5, 2) := dk_54 5 (dk_at dksX2_read_8 0 rfl rfl)
theorem dX2_read_186 : decode cX2_read 186 = .ok (.aload_n 0, 1) := dk_42 (dk_at dksX2_read_8 2 rfl rfl)
theorem dX2_read_187 : decode cX2_read 187 = .ok (.iload 5, 2) := dk_21 5 (dk_at dksX2_read_8 3 rfl rfl)
theorem dX2_read_189 : decode cX2_read 189 = .ok (.iload_n 1, 1) := dk_27 (dk_at dksX2_read_8 5 rfl rfl)
theorem dX2_read_190 : decode cX2_read 190 = .ok (.iload 4, 2) := dk_21 4 (dk_at dksX2_read_8 6 rfl rfl)
theorem dX2_read_192 : decode cX2_read 192 = .ok (.iload 6, 2) := dk_21 6 (dk_at dksX2_read_8 8 rfl rfl)
theorem dX2_read_194 : decode cX2_read 194 = .ok (.invokevirtual 109, 3) := dk_182 0 109 (dk_at dksX2_read_8 10 rfl rfl)
theorem dX2_read_197 : decode cX2_read 197 = .ok (.iload 5, 2) := dk_21 5 (dk_at dksX2_read_8 13 rfl rfl)
theorem dX2_read_199 : decode cX2_read 199 = .ok (.iconst 5, 1) := dk_8 (dk_at dksX2_read_8 15 rfl rfl)
theorem dX2_read_200 : decode cX2_read 200 = .ok (.if_icmp .eq 7, 3) := dk_159 0 7 (dk_at dksX2_read_8 16 rfl rfl)
theorem dX2_read_203 : decode cX2_read 203 = .ok (.iconst 1, 1) := dk_4 (dk_at dksX2_read_8 19 rfl rfl)
theorem dX2_read_204 : decode cX2_read 204 = .ok (.goto 4, 3) := dk_167 0 4 (dk_at dksX2_read_8 20 rfl rfl)
theorem dX2_read_207 : decode cX2_read 207 = .ok (.iconst 0, 1) := dk_3 (dk_at dksX2_read_8 23 rfl rfl)
theorem dX2_read_208 : decode cX2_read 208 = .ok (.istore_n 2, 1) := dk_61 (dk_at dksX2_read_9 0 rfl rfl)
theorem dX2_read_209 : decode cX2_read 209 = .ok (.iload 4, 2) := dk_21 4 (dk_at dksX2_read_9 1 rfl rfl)
theorem dX2_read_211 : decode cX2_read 211 = .ok (.istore_n 1, 1) := dk_60 (dk_at dksX2_read_9 3 rfl rfl)
theorem dX2_read_212 : decode cX2_read 212 = .ok (.goto (-203), 3) := dk_167 255 53 (dk_at dksX2_read_9 4 rfl rfl)
theorem dX2_read_215 : decode cX2_read 215 = .ok (.iload_n 2, 1) := dk_28 (dk_at dksX2_read_9 7 rfl rfl)
theorem dX2_read_216 : decode cX2_read 216 = .ok (.ifCond .eq 11, 3) := dk_153 0 11 (dk_at dksX2_read_9 8 rfl rfl)
theorem dX2_read_219 : decode cX2_read 219 = .ok (.aload_n 0, 1) := dk_42 (dk_at dksX2_read_9 11 rfl rfl)
theorem dX2_read_220 : decode cX2_read 220 = .ok (.iconst 4, 1) := dk_7 (dk_at dksX2_read_9 12 rfl rfl)
theorem dX2_read_221 : decode cX2_read 221 = .ok (.iload_n 1, 1) := dk_27 (dk_at dksX2_read_9 13 rfl rfl)
theorem dX2_read_222 : decode cX2_read 222 = .ok (.iload_n 1, 1) := dk_27 (dk_at dksX2_read_9 14 rfl rfl)
theorem dX2_read_223 : decode cX2_read 223 = .ok (.iconst 0, 1) := dk_3 (dk_at dksX2_read_9 15 rfl rfl)
theorem dX2_read_224 : decode cX2_read 224 = .ok (.invokevirtual 109, 3) := dk_182 0 109 (dk_at dksX2_read_9 16 rfl rfl)
theorem dX2_read_227 : decode cX2_read 227 = .ok (.return_, 1) := dk_177 (dk_at dksX2_read_9 19 rfl rfl)
abbrev cX2_isLetter : ByteArray := prog_17_method_4_code
def yX2_isLetter : MethodName := ⟨RX2, "isLetter", "(I)Z"⟩
def dkwX2_isLetter_1 : List UInt8 := [3, 172]
abbrev dktX2_isLetter_1 : List UInt8 := dkwX2_isLetter_1 ++ []
def dkwX2_isLetter_0 : List UInt8 := [42, 27, 182, 0, 80, 16, 97, 161, 0, 17, 42, 27, 182, 0, 80, 16, 122, 163, 0, 7, 4, 167, 0, 4]
abbrev dktX2_isLetter_0 : List UInt8 := dkwX2_isLetter_0 ++ dktX2_isLetter_1
theorem dksX2_isLetter_0 : cX2_isLetter.data.toList.drop 0 = dktX2_isLetter_0 := by decide +kernel
theorem dksX2_isLetter_1 : cX2_isLetter.data.toList.drop 24 = dktX2_isLetter_1 := dk_seg dksX2_isLetter_0 24 rfl rfl
theorem dX2_isLetter_0 : decode cX2_isLetter 0 = .ok (.aload_n 0, 1) := dk_42 (dk_at dksX2_isLetter_0 0 rfl rfl)
theorem dX2_isLetter_1 : decode cX2_isLetter 1 = .ok (.iload_n 1, 1) := dk_27 (dk_at dksX2_isLetter_0 1 rfl rfl)
theorem dX2_isLetter_2 : decode cX2_isLetter 2 = .ok (.invokevirtual 80, 3) := dk_182 0 80 (dk_at dksX2_isLetter_0 2 rfl rfl)
theorem dX2_isLetter_5 : decode cX2_isLetter 5 = .ok (.bipush 97, 2) := dk_16 97 (dk_at dksX2_isLetter_0 5 rfl rfl)
theorem dX2_isLetter_7 : decode cX2_isLetter 7 = .ok (.if_icmp .lt 17, 3) := dk_161 0 17 (dk_at dksX2_isLetter_0 7 rfl rfl)
theorem dX2_isLetter_10 : decode cX2_isLetter 10 = .ok (.aload_n 0, 1) := dk_42 (dk_at dksX2_isLetter_0 10 rfl rfl)
theorem dX2_isLetter_11 : decode cX2_isLetter 11 = .ok (.iload_n 1, 1) := dk_27 (dk_at dksX2_isLetter_0 11 rfl rfl)
theorem dX2_isLetter_12 : decode cX2_isLetter 12 = .ok (.invokevirtual 80, 3) := dk_182 0 80 (dk_at dksX2_isLetter_0 12 rfl rfl)
theorem dX2_isLetter_15 : decode cX2_isLetter 15 = .ok (.bipush 122, 2) := dk_16 122 (dk_at dksX2_isLetter_0 15 rfl rfl)
theorem dX2_isLetter_17 : decode cX2_isLetter 17 = .ok (.if_icmp .gt 7, 3) := dk_163 0 7 (dk_at dksX2_isLetter_0 17 rfl rfl)
theorem dX2_isLetter_20 : decode cX2_isLetter 20 = .ok (.iconst 1, 1) := dk_4 (dk_at dksX2_isLetter_0 20 rfl rfl)
theorem dX2_isLetter_21 : decode cX2_isLetter 21 = .ok (.goto 4, 3) := dk_167 0 4 (dk_at dksX2_isLetter_0 21 rfl rfl)
theorem dX2_isLetter_24 : decode cX2_isLetter 24 = .ok (.iconst 0, 1) := dk_3 (dk_at dksX2_isLetter_1 0 rfl rfl)
theorem dX2_isLetter_25 : decode cX2_isLetter 25 = .ok (.ireturn, 1) := dk_172 (dk_at dksX2_isLetter_1 1 rfl rfl)
abbrev cX2_at : ByteArray := prog_17_method_2_code
def yX2_at : MethodName := ⟨RX2, "at", "(I)I"⟩
def dkwX2_at_0 : List UInt8 := [27, 42, 180, 0, 76, 162, 0, 12, 42, 180, 0, 59, 27, 51, 167, 0, 4, 3, 172]
abbrev dktX2_at_0 : List UInt8 := dkwX2_at_0 ++ []
theorem dksX2_at_0 : cX2_at.data.toList.drop 0 = dktX2_at_0 := by decide +kernel
theorem dX2_at_0 : decode cX2_at 0 = .ok (.iload_n 1, 1) := dk_27 (dk_at dksX2_at_0 0 rfl rfl)
theorem dX2_at_1 : decode cX2_at 1 = .ok (.aload_n 0, 1) := dk_42 (dk_at dksX2_at_0 1 rfl rfl)
theorem dX2_at_2 : decode cX2_at 2 = .ok (.getfield 76, 3) := dk_180 0 76 (dk_at dksX2_at_0 2 rfl rfl)
theorem dX2_at_5 : decode cX2_at 5 = .ok (.if_icmp .ge 12, 3) := dk_162 0 12 (dk_at dksX2_at_0 5 rfl rfl)
theorem dX2_at_8 : decode cX2_at 8 = .ok (.aload_n 0, 1) := dk_42 (dk_at dksX2_at_0 8 rfl rfl)
theorem dX2_at_9 : decode cX2_at 9 = .ok (.getfield 59, 3) := dk_180 0 59 (dk_at dksX2_at_0 9 rfl rfl)
theorem dX2_at_12 : decode cX2_at 12 = .ok (.iload_n 1, 1) := dk_27 (dk_at dksX2_at_0 12 rfl rfl)
theorem dX2_at_13 : decode cX2_at 13 = .ok (.baload, 1) := dk_51 (dk_at dksX2_at_0 13 rfl rfl)
theorem dX2_at_14 : decode cX2_at 14 = .ok (.goto 4, 3) := dk_167 0 4 (dk_at dksX2_at_0 14 rfl rfl)
theorem dX2_at_17 : decode cX2_at 17 = .ok (.iconst 0, 1) := dk_3 (dk_at dksX2_at_0 17 rfl rfl)
theorem dX2_at_18 : decode cX2_at 18 = .ok (.ireturn, 1) := dk_172 (dk_at dksX2_at_0 18 rfl rfl)
abbrev cX2_word : ByteArray := prog_17_method_6_code
def yX2_word : MethodName := ⟨RX2, "word", "(II)I"⟩
def dkwX2_word_4 : List UInt8 := [167, 255, 165, 2, 172]
abbrev dktX2_word_4 : List UInt8 := dkwX2_word_4 ++ []
def dkwX2_word_3 : List UInt8 := [167, 0, 4, 3, 54, 4, 132, 5, 1, 167, 255, 212, 21, 4, 153, 0, 5, 29, 172, 132, 3, 1]
abbrev dktX2_word_3 : List UInt8 := dkwX2_word_3 ++ dktX2_word_4
def dkwX2_word_2 : List UInt8 := [42, 180, 0, 53, 29, 50, 21, 5, 27, 100, 182, 0, 91, 42, 180, 0, 59, 21, 5, 51, 160, 0, 7, 4]
abbrev dktX2_word_2 : List UInt8 := dkwX2_word_2 ++ dktX2_word_3
def dkwX2_word_1 : List UInt8 := [160, 0, 7, 4, 167, 0, 4, 3, 54, 4, 27, 54, 5, 21, 5, 28, 162, 0, 44, 21, 4, 153, 0, 39]
abbrev dktX2_word_1 : List UInt8 := dkwX2_word_1 ++ dktX2_word_2
def dkwX2_word_0 : List UInt8 := [3, 62, 29, 42, 180, 0, 53, 190, 162, 0, 88, 42, 180, 0, 53, 29, 50, 182, 0, 87, 28, 27, 100]
abbrev dktX2_word_0 : List UInt8 := dkwX2_word_0 ++ dktX2_word_1
theorem dksX2_word_0 : cX2_word.data.toList.drop 0 = dktX2_word_0 := by decide +kernel
theorem dksX2_word_1 : cX2_word.data.toList.drop 23 = dktX2_word_1 := dk_seg dksX2_word_0 23 rfl rfl
theorem dksX2_word_2 : cX2_word.data.toList.drop 47 = dktX2_word_2 := dk_seg dksX2_word_1 24 rfl rfl
theorem dksX2_word_3 : cX2_word.data.toList.drop 71 = dktX2_word_3 := dk_seg dksX2_word_2 24 rfl rfl
theorem dksX2_word_4 : cX2_word.data.toList.drop 93 = dktX2_word_4 := dk_seg dksX2_word_3 22 rfl rfl
theorem dX2_word_0 : decode cX2_word 0 = .ok (.iconst 0, 1) := dk_3 (dk_at dksX2_word_0 0 rfl rfl)
theorem dX2_word_1 : decode cX2_word 1 = .ok (.istore_n 3, 1) := dk_62 (dk_at dksX2_word_0 1 rfl rfl)
theorem dX2_word_2 : decode cX2_word 2 = .ok (.iload_n 3, 1) := dk_29 (dk_at dksX2_word_0 2 rfl rfl)
theorem dX2_word_3 : decode cX2_word 3 = .ok (.aload_n 0, 1) := dk_42 (dk_at dksX2_word_0 3 rfl rfl)
theorem dX2_word_4 : decode cX2_word 4 = .ok (.getfield 53, 3) := dk_180 0 53 (dk_at dksX2_word_0 4 rfl rfl)
theorem dX2_word_7 : decode cX2_word 7 = .ok (.arraylength, 1) := dk_190 (dk_at dksX2_word_0 7 rfl rfl)
theorem dX2_word_8 : decode cX2_word 8 = .ok (.if_icmp .ge 88, 3) := dk_162 0 88 (dk_at dksX2_word_0 8 rfl rfl)
theorem dX2_word_11 : decode cX2_word 11 = .ok (.aload_n 0, 1) := dk_42 (dk_at dksX2_word_0 11 rfl rfl)
theorem dX2_word_12 : decode cX2_word 12 = .ok (.getfield 53, 3) := dk_180 0 53 (dk_at dksX2_word_0 12 rfl rfl)
theorem dX2_word_15 : decode cX2_word 15 = .ok (.iload_n 3, 1) := dk_29 (dk_at dksX2_word_0 15 rfl rfl)
theorem dX2_word_16 : decode cX2_word 16 = .ok (.aaload, 1) := dk_50 (dk_at dksX2_word_0 16 rfl rfl)
theorem dX2_word_17 : decode cX2_word 17 = .ok (.invokevirtual 87, 3) := dk_182 0 87 (dk_at dksX2_word_0 17 rfl rfl)
theorem dX2_word_20 : decode cX2_word 20 = .ok (.iload_n 2, 1) := dk_28 (dk_at dksX2_word_0 20 rfl rfl)
theorem dX2_word_21 : decode cX2_word 21 = .ok (.iload_n 1, 1) := dk_27 (dk_at dksX2_word_0 21 rfl rfl)
theorem dX2_word_22 : decode cX2_word 22 = .ok (.isub, 1) := dk_100 (dk_at dksX2_word_0 22 rfl rfl)
theorem dX2_word_23 : decode cX2_word 23 = .ok (.if_icmp .ne 7, 3) := dk_160 0 7 (dk_at dksX2_word_1 0 rfl rfl)
theorem dX2_word_26 : decode cX2_word 26 = .ok (.iconst 1, 1) := dk_4 (dk_at dksX2_word_1 3 rfl rfl)
theorem dX2_word_27 : decode cX2_word 27 = .ok (.goto 4, 3) := dk_167 0 4 (dk_at dksX2_word_1 4 rfl rfl)
theorem dX2_word_30 : decode cX2_word 30 = .ok (.iconst 0, 1) := dk_3 (dk_at dksX2_word_1 7 rfl rfl)
theorem dX2_word_31 : decode cX2_word 31 = .ok (.istore 4, 2) := dk_54 4 (dk_at dksX2_word_1 8 rfl rfl)
theorem dX2_word_33 : decode cX2_word 33 = .ok (.iload_n 1, 1) := dk_27 (dk_at dksX2_word_1 10 rfl rfl)
theorem dX2_word_34 : decode cX2_word 34 = .ok (.istore 5, 2) := dk_54 5 (dk_at dksX2_word_1 11 rfl rfl)
theorem dX2_word_36 : decode cX2_word 36 = .ok (.iload 5, 2) := dk_21 5 (dk_at dksX2_word_1 13 rfl rfl)
theorem dX2_word_38 : decode cX2_word 38 = .ok (.iload_n 2, 1) := dk_28 (dk_at dksX2_word_1 15 rfl rfl)
theorem dX2_word_39 : decode cX2_word 39 = .ok (.if_icmp .ge 44, 3) := dk_162 0 44 (dk_at dksX2_word_1 16 rfl rfl)
theorem dX2_word_42 : decode cX2_word 42 = .ok (.iload 4, 2) := dk_21 4 (dk_at dksX2_word_1 19 rfl rfl)
theorem dX2_word_44 : decode cX2_word 44 = .ok (.ifCond .eq 39, 3) := dk_153 0 39 (dk_at dksX2_word_1 21 rfl rfl)
theorem dX2_word_47 : decode cX2_word 47 = .ok (.aload_n 0, 1) := dk_42 (dk_at dksX2_word_2 0 rfl rfl)
theorem dX2_word_48 : decode cX2_word 48 = .ok (.getfield 53, 3) := dk_180 0 53 (dk_at dksX2_word_2 1 rfl rfl)
theorem dX2_word_51 : decode cX2_word 51 = .ok (.iload_n 3, 1) := dk_29 (dk_at dksX2_word_2 4 rfl rfl)
theorem dX2_word_52 : decode cX2_word 52 = .ok (.aaload, 1) := dk_50 (dk_at dksX2_word_2 5 rfl rfl)
theorem dX2_word_53 : decode cX2_word 53 = .ok (.iload 5, 2) := dk_21 5 (dk_at dksX2_word_2 6 rfl rfl)
theorem dX2_word_55 : decode cX2_word 55 = .ok (.iload_n 1, 1) := dk_27 (dk_at dksX2_word_2 8 rfl rfl)
theorem dX2_word_56 : decode cX2_word 56 = .ok (.isub, 1) := dk_100 (dk_at dksX2_word_2 9 rfl rfl)
theorem dX2_word_57 : decode cX2_word 57 = .ok (.invokevirtual 91, 3) := dk_182 0 91 (dk_at dksX2_word_2 10 rfl rfl)
theorem dX2_word_60 : decode cX2_word 60 = .ok (.aload_n 0, 1) := dk_42 (dk_at dksX2_word_2 13 rfl rfl)
theorem dX2_word_61 : decode cX2_word 61 = .ok (.getfield 59, 3) := dk_180 0 59 (dk_at dksX2_word_2 14 rfl rfl)
theorem dX2_word_64 : decode cX2_word 64 = .ok (.iload 5, 2) := dk_21 5 (dk_at dksX2_word_2 17 rfl rfl)
theorem dX2_word_66 : decode cX2_word 66 = .ok (.baload, 1) := dk_51 (dk_at dksX2_word_2 19 rfl rfl)
theorem dX2_word_67 : decode cX2_word 67 = .ok (.if_icmp .ne 7, 3) := dk_160 0 7 (dk_at dksX2_word_2 20 rfl rfl)
theorem dX2_word_70 : decode cX2_word 70 = .ok (.iconst 1, 1) := dk_4 (dk_at dksX2_word_2 23 rfl rfl)
theorem dX2_word_71 : decode cX2_word 71 = .ok (.goto 4, 3) := dk_167 0 4 (dk_at dksX2_word_3 0 rfl rfl)
theorem dX2_word_74 : decode cX2_word 74 = .ok (.iconst 0, 1) := dk_3 (dk_at dksX2_word_3 3 rfl rfl)
theorem dX2_word_75 : decode cX2_word 75 = .ok (.istore 4, 2) := dk_54 4 (dk_at dksX2_word_3 4 rfl rfl)
theorem dX2_word_77 : decode cX2_word 77 = .ok (.iinc 5 1, 3) := dk_132 5 1 (dk_at dksX2_word_3 6 rfl rfl)
theorem dX2_word_80 : decode cX2_word 80 = .ok (.goto (-44), 3) := dk_167 255 212 (dk_at dksX2_word_3 9 rfl rfl)
theorem dX2_word_83 : decode cX2_word 83 = .ok (.iload 4, 2) := dk_21 4 (dk_at dksX2_word_3 12 rfl rfl)
theorem dX2_word_85 : decode cX2_word 85 = .ok (.ifCond .eq 5, 3) := dk_153 0 5 (dk_at dksX2_word_3 14 rfl rfl)
theorem dX2_word_88 : decode cX2_word 88 = .ok (.iload_n 3, 1) := dk_29 (dk_at dksX2_word_3 17 rfl rfl)
theorem dX2_word_89 : decode cX2_word 89 = .ok (.ireturn, 1) := dk_172 (dk_at dksX2_word_3 18 rfl rfl)
theorem dX2_word_90 : decode cX2_word 90 = .ok (.iinc 3 1, 3) := dk_132 3 1 (dk_at dksX2_word_3 19 rfl rfl)
theorem dX2_word_93 : decode cX2_word 93 = .ok (.goto (-91), 3) := dk_167 255 165 (dk_at dksX2_word_4 0 rfl rfl)
theorem dX2_word_96 : decode cX2_word 96 = .ok (.iconst (-1), 1) := dk_2 (dk_at dksX2_word_4 3 rfl rfl)
theorem dX2_word_97 : decode cX2_word 97 = .ok (.ireturn, 1) := dk_172 (dk_at dksX2_word_4 4 rfl rfl)
abbrev cX2_isDigit : ByteArray := prog_17_method_3_code
def yX2_isDigit : MethodName := ⟨RX2, "isDigit", "(I)Z"⟩
def dkwX2_isDigit_1 : List UInt8 := [3, 172]
abbrev dktX2_isDigit_1 : List UInt8 := dkwX2_isDigit_1 ++ []
def dkwX2_isDigit_0 : List UInt8 := [42, 27, 182, 0, 80, 16, 48, 161, 0, 17, 42, 27, 182, 0, 80, 16, 57, 163, 0, 7, 4, 167, 0, 4]
abbrev dktX2_isDigit_0 : List UInt8 := dkwX2_isDigit_0 ++ dktX2_isDigit_1
theorem dksX2_isDigit_0 : cX2_isDigit.data.toList.drop 0 = dktX2_isDigit_0 := by decide +kernel
theorem dksX2_isDigit_1 : cX2_isDigit.data.toList.drop 24 = dktX2_isDigit_1 := dk_seg dksX2_isDigit_0 24 rfl rfl
theorem dX2_isDigit_0 : decode cX2_isDigit 0 = .ok (.aload_n 0, 1) := dk_42 (dk_at dksX2_isDigit_0 0 rfl rfl)
theorem dX2_isDigit_1 : decode cX2_isDigit 1 = .ok (.iload_n 1, 1) := dk_27 (dk_at dksX2_isDigit_0 1 rfl rfl)
theorem dX2_isDigit_2 : decode cX2_isDigit 2 = .ok (.invokevirtual 80, 3) := dk_182 0 80 (dk_at dksX2_isDigit_0 2 rfl rfl)
theorem dX2_isDigit_5 : decode cX2_isDigit 5 = .ok (.bipush 48, 2) := dk_16 48 (dk_at dksX2_isDigit_0 5 rfl rfl)
theorem dX2_isDigit_7 : decode cX2_isDigit 7 = .ok (.if_icmp .lt 17, 3) := dk_161 0 17 (dk_at dksX2_isDigit_0 7 rfl rfl)
theorem dX2_isDigit_10 : decode cX2_isDigit 10 = .ok (.aload_n 0, 1) := dk_42 (dk_at dksX2_isDigit_0 10 rfl rfl)
theorem dX2_isDigit_11 : decode cX2_isDigit 11 = .ok (.iload_n 1, 1) := dk_27 (dk_at dksX2_isDigit_0 11 rfl rfl)
theorem dX2_isDigit_12 : decode cX2_isDigit 12 = .ok (.invokevirtual 80, 3) := dk_182 0 80 (dk_at dksX2_isDigit_0 12 rfl rfl)
theorem dX2_isDigit_15 : decode cX2_isDigit 15 = .ok (.bipush 57, 2) := dk_16 57 (dk_at dksX2_isDigit_0 15 rfl rfl)
theorem dX2_isDigit_17 : decode cX2_isDigit 17 = .ok (.if_icmp .gt 7, 3) := dk_163 0 7 (dk_at dksX2_isDigit_0 17 rfl rfl)
theorem dX2_isDigit_20 : decode cX2_isDigit 20 = .ok (.iconst 1, 1) := dk_4 (dk_at dksX2_isDigit_0 20 rfl rfl)
theorem dX2_isDigit_21 : decode cX2_isDigit 21 = .ok (.goto 4, 3) := dk_167 0 4 (dk_at dksX2_isDigit_0 21 rfl rfl)
theorem dX2_isDigit_24 : decode cX2_isDigit 24 = .ok (.iconst 0, 1) := dk_3 (dk_at dksX2_isDigit_1 0 rfl rfl)
theorem dX2_isDigit_25 : decode cX2_isDigit 25 = .ok (.ireturn, 1) := dk_172 (dk_at dksX2_isDigit_1 1 rfl rfl)
abbrev cX2_sign : ByteArray := prog_17_method_7_code
def yX2_sign : MethodName := ⟨RX2, "sign", "(I)I"⟩
def dkwX2_sign_2 : List UInt8 := [28, 172, 3, 172]
abbrev dktX2_sign_2 : List UInt8 := dkwX2_sign_2 ++ []
def dkwX2_sign_1 : List UInt8 := [170, 0, 0, 0, 103, 0, 0, 0, 40, 0, 0, 0, 61, 0, 0, 0, 101, 0, 0, 0, 101, 0, 0, 0, 101, 0, 0, 0, 101, 0, 0, 0, 103, 0, 0, 0, 101, 0, 0, 0, 103, 0, 0, 0, 101, 0, 0, 0, 103, 0, 0, 0, 103, 0, 0, 0, 103, 0, 0, 0, 103, 0, 0, 0, 103, 0, 0, 0, 103, 0, 0, 0, 103, 0, 0, 0, 103, 0, 0, 0, 103, 0, 0, 0, 103, 0, 0, 0, 103, 0, 0, 0, 101, 0, 0, 0, 101, 0, 0, 0, 101]
abbrev dktX2_sign_1 : List UInt8 := dkwX2_sign_1 ++ dktX2_sign_2
def dkwX2_sign_0 : List UInt8 := [42, 27, 182, 0, 80, 61, 28]
abbrev dktX2_sign_0 : List UInt8 := dkwX2_sign_0 ++ dktX2_sign_1
theorem dksX2_sign_0 : cX2_sign.data.toList.drop 0 = dktX2_sign_0 := by decide +kernel
theorem dksX2_sign_1 : cX2_sign.data.toList.drop 7 = dktX2_sign_1 := dk_seg dksX2_sign_0 7 rfl rfl
theorem dksX2_sign_2 : cX2_sign.data.toList.drop 108 = dktX2_sign_2 := dk_seg dksX2_sign_1 101 rfl rfl
theorem dX2_sign_0 : decode cX2_sign 0 = .ok (.aload_n 0, 1) := dk_42 (dk_at dksX2_sign_0 0 rfl rfl)
theorem dX2_sign_1 : decode cX2_sign 1 = .ok (.iload_n 1, 1) := dk_27 (dk_at dksX2_sign_0 1 rfl rfl)
theorem dX2_sign_2 : decode cX2_sign 2 = .ok (.invokevirtual 80, 3) := dk_182 0 80 (dk_at dksX2_sign_0 2 rfl rfl)
theorem dX2_sign_5 : decode cX2_sign 5 = .ok (.istore_n 2, 1) := dk_61 (dk_at dksX2_sign_0 5 rfl rfl)
theorem dX2_sign_6 : decode cX2_sign 6 = .ok (.iload_n 2, 1) := dk_28 (dk_at dksX2_sign_0 6 rfl rfl)
theorem dX2_sign_7 : decode cX2_sign 7 = .ok (.tableswitch 103 40 61 #[101, 101, 101, 101, 103, 101, 103, 101, 103, 103, 103, 103, 103, 103, 103, 103, 103, 103, 103, 101, 101, 101], 101) := by decide +kernel
theorem dX2_sign_108 : decode cX2_sign 108 = .ok (.iload_n 2, 1) := dk_28 (dk_at dksX2_sign_2 0 rfl rfl)
theorem dX2_sign_109 : decode cX2_sign 109 = .ok (.ireturn, 1) := dk_172 (dk_at dksX2_sign_2 1 rfl rfl)
theorem dX2_sign_110 : decode cX2_sign 110 = .ok (.iconst 0, 1) := dk_3 (dk_at dksX2_sign_2 2 rfl rfl)
theorem dX2_sign_111 : decode cX2_sign 111 = .ok (.ireturn, 1) := dk_172 (dk_at dksX2_sign_2 3 rfl rfl)
abbrev cX2_add : ByteArray := prog_17_method_5_code
def yX2_add : MethodName := ⟨RX2, "add", "(IIII)V"⟩
def dkwX2_add_2 : List UInt8 := [180, 0, 84, 4, 96, 181, 0, 84, 177]
abbrev dktX2_add_2 : List UInt8 := dkwX2_add_2 ++ []
def dkwX2_add_1 : List UInt8 := [180, 0, 70, 42, 180, 0, 84, 29, 147, 86, 42, 180, 0, 73, 42, 180, 0, 84, 21, 4, 147, 86, 42, 89]
abbrev dktX2_add_1 : List UInt8 := dkwX2_add_1 ++ dktX2_add_2
def dkwX2_add_0 : List UInt8 := [42, 180, 0, 63, 42, 180, 0, 84, 27, 145, 84, 42, 180, 0, 66, 42, 180, 0, 84, 28, 147, 86, 42]
abbrev dktX2_add_0 : List UInt8 := dkwX2_add_0 ++ dktX2_add_1
theorem dksX2_add_0 : cX2_add.data.toList.drop 0 = dktX2_add_0 := by decide +kernel
theorem dksX2_add_1 : cX2_add.data.toList.drop 23 = dktX2_add_1 := dk_seg dksX2_add_0 23 rfl rfl
theorem dksX2_add_2 : cX2_add.data.toList.drop 47 = dktX2_add_2 := dk_seg dksX2_add_1 24 rfl rfl
theorem dX2_add_0 : decode cX2_add 0 = .ok (.aload_n 0, 1) := dk_42 (dk_at dksX2_add_0 0 rfl rfl)
theorem dX2_add_1 : decode cX2_add 1 = .ok (.getfield 63, 3) := dk_180 0 63 (dk_at dksX2_add_0 1 rfl rfl)
theorem dX2_add_4 : decode cX2_add 4 = .ok (.aload_n 0, 1) := dk_42 (dk_at dksX2_add_0 4 rfl rfl)
theorem dX2_add_5 : decode cX2_add 5 = .ok (.getfield 84, 3) := dk_180 0 84 (dk_at dksX2_add_0 5 rfl rfl)
theorem dX2_add_8 : decode cX2_add 8 = .ok (.iload_n 1, 1) := dk_27 (dk_at dksX2_add_0 8 rfl rfl)
theorem dX2_add_9 : decode cX2_add 9 = .ok (.i2b, 1) := dk_145 (dk_at dksX2_add_0 9 rfl rfl)
theorem dX2_add_10 : decode cX2_add 10 = .ok (.bastore, 1) := dk_84 (dk_at dksX2_add_0 10 rfl rfl)
theorem dX2_add_11 : decode cX2_add 11 = .ok (.aload_n 0, 1) := dk_42 (dk_at dksX2_add_0 11 rfl rfl)
theorem dX2_add_12 : decode cX2_add 12 = .ok (.getfield 66, 3) := dk_180 0 66 (dk_at dksX2_add_0 12 rfl rfl)
theorem dX2_add_15 : decode cX2_add 15 = .ok (.aload_n 0, 1) := dk_42 (dk_at dksX2_add_0 15 rfl rfl)
theorem dX2_add_16 : decode cX2_add 16 = .ok (.getfield 84, 3) := dk_180 0 84 (dk_at dksX2_add_0 16 rfl rfl)
theorem dX2_add_19 : decode cX2_add 19 = .ok (.iload_n 2, 1) := dk_28 (dk_at dksX2_add_0 19 rfl rfl)
theorem dX2_add_20 : decode cX2_add 20 = .ok (.i2s, 1) := dk_147 (dk_at dksX2_add_0 20 rfl rfl)
theorem dX2_add_21 : decode cX2_add 21 = .ok (.sastore, 1) := dk_86 (dk_at dksX2_add_0 21 rfl rfl)
theorem dX2_add_22 : decode cX2_add 22 = .ok (.aload_n 0, 1) := dk_42 (dk_at dksX2_add_0 22 rfl rfl)
theorem dX2_add_23 : decode cX2_add 23 = .ok (.getfield 70, 3) := dk_180 0 70 (dk_at dksX2_add_1 0 rfl rfl)
theorem dX2_add_26 : decode cX2_add 26 = .ok (.aload_n 0, 1) := dk_42 (dk_at dksX2_add_1 3 rfl rfl)
theorem dX2_add_27 : decode cX2_add 27 = .ok (.getfield 84, 3) := dk_180 0 84 (dk_at dksX2_add_1 4 rfl rfl)
theorem dX2_add_30 : decode cX2_add 30 = .ok (.iload_n 3, 1) := dk_29 (dk_at dksX2_add_1 7 rfl rfl)
theorem dX2_add_31 : decode cX2_add 31 = .ok (.i2s, 1) := dk_147 (dk_at dksX2_add_1 8 rfl rfl)
theorem dX2_add_32 : decode cX2_add 32 = .ok (.sastore, 1) := dk_86 (dk_at dksX2_add_1 9 rfl rfl)
theorem dX2_add_33 : decode cX2_add 33 = .ok (.aload_n 0, 1) := dk_42 (dk_at dksX2_add_1 10 rfl rfl)
theorem dX2_add_34 : decode cX2_add 34 = .ok (.getfield 73, 3) := dk_180 0 73 (dk_at dksX2_add_1 11 rfl rfl)
theorem dX2_add_37 : decode cX2_add 37 = .ok (.aload_n 0, 1) := dk_42 (dk_at dksX2_add_1 14 rfl rfl)
theorem dX2_add_38 : decode cX2_add 38 = .ok (.getfield 84, 3) := dk_180 0 84 (dk_at dksX2_add_1 15 rfl rfl)
theorem dX2_add_41 : decode cX2_add 41 = .ok (.iload 4, 2) := dk_21 4 (dk_at dksX2_add_1 18 rfl rfl)
theorem dX2_add_43 : decode cX2_add 43 = .ok (.i2s, 1) := dk_147 (dk_at dksX2_add_1 20 rfl rfl)
theorem dX2_add_44 : decode cX2_add 44 = .ok (.sastore, 1) := dk_86 (dk_at dksX2_add_1 21 rfl rfl)
theorem dX2_add_45 : decode cX2_add 45 = .ok (.aload_n 0, 1) := dk_42 (dk_at dksX2_add_1 22 rfl rfl)
theorem dX2_add_46 : decode cX2_add 46 = .ok (.dup, 1) := dk_89 (dk_at dksX2_add_1 23 rfl rfl)
theorem dX2_add_47 : decode cX2_add 47 = .ok (.getfield 84, 3) := dk_180 0 84 (dk_at dksX2_add_2 0 rfl rfl)
theorem dX2_add_50 : decode cX2_add 50 = .ok (.iconst 1, 1) := dk_4 (dk_at dksX2_add_2 3 rfl rfl)
theorem dX2_add_51 : decode cX2_add 51 = .ok (.iadd, 1) := dk_96 (dk_at dksX2_add_2 4 rfl rfl)
theorem dX2_add_52 : decode cX2_add 52 = .ok (.putfield 84, 3) := dk_181 0 84 (dk_at dksX2_add_2 5 rfl rfl)
theorem dX2_add_55 : decode cX2_add 55 = .ok (.return_, 1) := dk_177 (dk_at dksX2_add_2 8 rfl rfl)
abbrev cX2_number : ByteArray := prog_17_method_10_code
def yX2_number : MethodName := ⟨RX2, "number", "(I)I"⟩
def dkwX2_number_1 : List UInt8 := [180, 0, 59, 29, 51, 96, 16, 48, 100, 61, 132, 3, 1, 167, 255, 228, 28, 172]
abbrev dktX2_number_1 : List UInt8 := dkwX2_number_1 ++ []
def dkwX2_number_0 : List UInt8 := [3, 61, 42, 180, 0, 66, 27, 53, 62, 29, 42, 180, 0, 70, 27, 53, 162, 0, 24, 16, 10, 28, 104, 42]
abbrev dktX2_number_0 : List UInt8 := dkwX2_number_0 ++ dktX2_number_1
theorem dksX2_number_0 : cX2_number.data.toList.drop 0 = dktX2_number_0 := by decide +kernel
theorem dksX2_number_1 : cX2_number.data.toList.drop 24 = dktX2_number_1 := dk_seg dksX2_number_0 24 rfl rfl
theorem dX2_number_0 : decode cX2_number 0 = .ok (.iconst 0, 1) := dk_3 (dk_at dksX2_number_0 0 rfl rfl)
theorem dX2_number_1 : decode cX2_number 1 = .ok (.istore_n 2, 1) := dk_61 (dk_at dksX2_number_0 1 rfl rfl)
theorem dX2_number_2 : decode cX2_number 2 = .ok (.aload_n 0, 1) := dk_42 (dk_at dksX2_number_0 2 rfl rfl)
theorem dX2_number_3 : decode cX2_number 3 = .ok (.getfield 66, 3) := dk_180 0 66 (dk_at dksX2_number_0 3 rfl rfl)
theorem dX2_number_6 : decode cX2_number 6 = .ok (.iload_n 1, 1) := dk_27 (dk_at dksX2_number_0 6 rfl rfl)
theorem dX2_number_7 : decode cX2_number 7 = .ok (.saload, 1) := dk_53 (dk_at dksX2_number_0 7 rfl rfl)
theorem dX2_number_8 : decode cX2_number 8 = .ok (.istore_n 3, 1) := dk_62 (dk_at dksX2_number_0 8 rfl rfl)
theorem dX2_number_9 : decode cX2_number 9 = .ok (.iload_n 3, 1) := dk_29 (dk_at dksX2_number_0 9 rfl rfl)
theorem dX2_number_10 : decode cX2_number 10 = .ok (.aload_n 0, 1) := dk_42 (dk_at dksX2_number_0 10 rfl rfl)
theorem dX2_number_11 : decode cX2_number 11 = .ok (.getfield 70, 3) := dk_180 0 70 (dk_at dksX2_number_0 11 rfl rfl)
theorem dX2_number_14 : decode cX2_number 14 = .ok (.iload_n 1, 1) := dk_27 (dk_at dksX2_number_0 14 rfl rfl)
theorem dX2_number_15 : decode cX2_number 15 = .ok (.saload, 1) := dk_53 (dk_at dksX2_number_0 15 rfl rfl)
theorem dX2_number_16 : decode cX2_number 16 = .ok (.if_icmp .ge 24, 3) := dk_162 0 24 (dk_at dksX2_number_0 16 rfl rfl)
theorem dX2_number_19 : decode cX2_number 19 = .ok (.bipush 10, 2) := dk_16 10 (dk_at dksX2_number_0 19 rfl rfl)
theorem dX2_number_21 : decode cX2_number 21 = .ok (.iload_n 2, 1) := dk_28 (dk_at dksX2_number_0 21 rfl rfl)
theorem dX2_number_22 : decode cX2_number 22 = .ok (.imul, 1) := dk_104 (dk_at dksX2_number_0 22 rfl rfl)
theorem dX2_number_23 : decode cX2_number 23 = .ok (.aload_n 0, 1) := dk_42 (dk_at dksX2_number_0 23 rfl rfl)
theorem dX2_number_24 : decode cX2_number 24 = .ok (.getfield 59, 3) := dk_180 0 59 (dk_at dksX2_number_1 0 rfl rfl)
theorem dX2_number_27 : decode cX2_number 27 = .ok (.iload_n 3, 1) := dk_29 (dk_at dksX2_number_1 3 rfl rfl)
theorem dX2_number_28 : decode cX2_number 28 = .ok (.baload, 1) := dk_51 (dk_at dksX2_number_1 4 rfl rfl)
theorem dX2_number_29 : decode cX2_number 29 = .ok (.iadd, 1) := dk_96 (dk_at dksX2_number_1 5 rfl rfl)
theorem dX2_number_30 : decode cX2_number 30 = .ok (.bipush 48, 2) := dk_16 48 (dk_at dksX2_number_1 6 rfl rfl)
theorem dX2_number_32 : decode cX2_number 32 = .ok (.isub, 1) := dk_100 (dk_at dksX2_number_1 8 rfl rfl)
theorem dX2_number_33 : decode cX2_number 33 = .ok (.istore_n 2, 1) := dk_61 (dk_at dksX2_number_1 9 rfl rfl)
theorem dX2_number_34 : decode cX2_number 34 = .ok (.iinc 3 1, 3) := dk_132 3 1 (dk_at dksX2_number_1 10 rfl rfl)
theorem dX2_number_37 : decode cX2_number 37 = .ok (.goto (-28), 3) := dk_167 255 228 (dk_at dksX2_number_1 13 rfl rfl)
theorem dX2_number_40 : decode cX2_number 40 = .ok (.iload_n 2, 1) := dk_28 (dk_at dksX2_number_1 16 rfl rfl)
theorem dX2_number_41 : decode cX2_number 41 = .ok (.ireturn, 1) := dk_172 (dk_at dksX2_number_1 17 rfl rfl)
abbrev cX2_text : ByteArray := prog_17_method_9_code
def yX2_text : MethodName := ⟨RX2, "text", "(I)Ljava/lang/String;"⟩
def dkwX2_text_2 : List UInt8 := [182, 0, 120, 176]
abbrev dktX2_text_2 : List UInt8 := dkwX2_text_2 ++ []
def dkwX2_text_1 : List UInt8 := [162, 0, 21, 44, 42, 180, 0, 59, 29, 51, 146, 182, 0, 116, 87, 132, 3, 1, 167, 255, 231, 44]
abbrev dktX2_text_1 : List UInt8 := dkwX2_text_1 ++ dktX2_text_2
def dkwX2_text_0 : List UInt8 := [187, 0, 113, 89, 183, 0, 115, 77, 42, 180, 0, 66, 27, 53, 62, 29, 42, 180, 0, 70, 27, 53]
abbrev dktX2_text_0 : List UInt8 := dkwX2_text_0 ++ dktX2_text_1
theorem dksX2_text_0 : cX2_text.data.toList.drop 0 = dktX2_text_0 := by decide +kernel
theorem dksX2_text_1 : cX2_text.data.toList.drop 22 = dktX2_text_1 := dk_seg dksX2_text_0 22 rfl rfl
theorem dksX2_text_2 : cX2_text.data.toList.drop 44 = dktX2_text_2 := dk_seg dksX2_text_1 22 rfl rfl
theorem dX2_text_0 : decode cX2_text 0 = .ok (.new 113, 3) := dk_187 0 113 (dk_at dksX2_text_0 0 rfl rfl)
theorem dX2_text_3 : decode cX2_text 3 = .ok (.dup, 1) := dk_89 (dk_at dksX2_text_0 3 rfl rfl)
theorem dX2_text_4 : decode cX2_text 4 = .ok (.invokespecial 115, 3) := dk_183 0 115 (dk_at dksX2_text_0 4 rfl rfl)
theorem dX2_text_7 : decode cX2_text 7 = .ok (.astore_n 2, 1) := dk_77 (dk_at dksX2_text_0 7 rfl rfl)
theorem dX2_text_8 : decode cX2_text 8 = .ok (.aload_n 0, 1) := dk_42 (dk_at dksX2_text_0 8 rfl rfl)
theorem dX2_text_9 : decode cX2_text 9 = .ok (.getfield 66, 3) := dk_180 0 66 (dk_at dksX2_text_0 9 rfl rfl)
theorem dX2_text_12 : decode cX2_text 12 = .ok (.iload_n 1, 1) := dk_27 (dk_at dksX2_text_0 12 rfl rfl)
theorem dX2_text_13 : decode cX2_text 13 = .ok (.saload, 1) := dk_53 (dk_at dksX2_text_0 13 rfl rfl)
theorem dX2_text_14 : decode cX2_text 14 = .ok (.istore_n 3, 1) := dk_62 (dk_at dksX2_text_0 14 rfl rfl)
theorem dX2_text_15 : decode cX2_text 15 = .ok (.iload_n 3, 1) := dk_29 (dk_at dksX2_text_0 15 rfl rfl)
theorem dX2_text_16 : decode cX2_text 16 = .ok (.aload_n 0, 1) := dk_42 (dk_at dksX2_text_0 16 rfl rfl)
theorem dX2_text_17 : decode cX2_text 17 = .ok (.getfield 70, 3) := dk_180 0 70 (dk_at dksX2_text_0 17 rfl rfl)
theorem dX2_text_20 : decode cX2_text 20 = .ok (.iload_n 1, 1) := dk_27 (dk_at dksX2_text_0 20 rfl rfl)
theorem dX2_text_21 : decode cX2_text 21 = .ok (.saload, 1) := dk_53 (dk_at dksX2_text_0 21 rfl rfl)
theorem dX2_text_22 : decode cX2_text 22 = .ok (.if_icmp .ge 21, 3) := dk_162 0 21 (dk_at dksX2_text_1 0 rfl rfl)
theorem dX2_text_25 : decode cX2_text 25 = .ok (.aload_n 2, 1) := dk_44 (dk_at dksX2_text_1 3 rfl rfl)
theorem dX2_text_26 : decode cX2_text 26 = .ok (.aload_n 0, 1) := dk_42 (dk_at dksX2_text_1 4 rfl rfl)
theorem dX2_text_27 : decode cX2_text 27 = .ok (.getfield 59, 3) := dk_180 0 59 (dk_at dksX2_text_1 5 rfl rfl)
theorem dX2_text_30 : decode cX2_text 30 = .ok (.iload_n 3, 1) := dk_29 (dk_at dksX2_text_1 8 rfl rfl)
theorem dX2_text_31 : decode cX2_text 31 = .ok (.baload, 1) := dk_51 (dk_at dksX2_text_1 9 rfl rfl)
theorem dX2_text_32 : decode cX2_text 32 = .ok (.i2c, 1) := dk_146 (dk_at dksX2_text_1 10 rfl rfl)
theorem dX2_text_33 : decode cX2_text 33 = .ok (.invokevirtual 116, 3) := dk_182 0 116 (dk_at dksX2_text_1 11 rfl rfl)
theorem dX2_text_36 : decode cX2_text 36 = .ok (.pop, 1) := dk_87 (dk_at dksX2_text_1 14 rfl rfl)
theorem dX2_text_37 : decode cX2_text 37 = .ok (.iinc 3 1, 3) := dk_132 3 1 (dk_at dksX2_text_1 15 rfl rfl)
theorem dX2_text_40 : decode cX2_text 40 = .ok (.goto (-25), 3) := dk_167 255 231 (dk_at dksX2_text_1 18 rfl rfl)
theorem dX2_text_43 : decode cX2_text 43 = .ok (.aload_n 2, 1) := dk_44 (dk_at dksX2_text_1 21 rfl rfl)
theorem dX2_text_44 : decode cX2_text 44 = .ok (.invokevirtual 120, 3) := dk_182 0 120 (dk_at dksX2_text_2 0 rfl rfl)
theorem dX2_text_47 : decode cX2_text 47 = .ok (.areturn, 1) := dk_176 (dk_at dksX2_text_2 3 rfl rfl)
theorem q133 : (Jvm.Cond.initialized "LentSundays$Tokens") ∈ lw_all := lw_g (lw_at lw_m1 6 rfl) rfl
theorem q248 : (Jvm.Cond.instantiable "LentSundays$Tokens" (8 : Nat)) ∈ lw_all := lw_g (lw_at lw_m1 121 rfl) rfl
theorem q250 : (Jvm.Cond.instanceMethod ({ cls := "LentSundays$Tokens", name := "<init>", desc := "()V" } : Jvm.MethodName)) ∈ lw_all := lw_g (lw_at lw_m1 123 rfl) rfl
theorem q251 : (Jvm.Cond.code ({ cls := "LentSundays$Tokens", name := "<init>", desc := "()V" } : Jvm.MethodName) prog_17_method_1_code (1 : Nat) (Option.none : Option Jvm.ClassFile.FieldType)) ∈ lw_all := lw_g (lw_at lw_m1 124 rfl) rfl
theorem q252 : (Jvm.Cond.methodLink "LentSundays$Tokens" (3 : Nat) ({ cls := "java/lang/Object", name := "<init>", desc := "()V" } : Jvm.MethodName)) ∈ lw_all := lw_g (lw_at lw_m1 125 rfl) rfl
theorem q253 : (Jvm.Cond.classLink "LentSundays$Tokens" (9 : Nat) "java/lang/String") ∈ lw_all := lw_g (lw_at lw_m1 126 rfl) rfl
theorem q255 : (Jvm.Cond.stringRef "LentSundays$Tokens" (11 : Nat) "sunday") ∈ lw_tbl := lw_at lw_m1 128 rfl
theorem q256 : (Jvm.Cond.stringRef "LentSundays$Tokens" (13 : Nat) "guest") ∈ lw_tbl := lw_at lw_m1 129 rfl
theorem q257 : (Jvm.Cond.stringRef "LentSundays$Tokens" (15 : Nat) "foes") ∈ lw_tbl := lw_at lw_m1 130 rfl
theorem q258 : (Jvm.Cond.stringRef "LentSundays$Tokens" (17 : Nat) "pays") ∈ lw_tbl := lw_at lw_m1 131 rfl
theorem q259 : (Jvm.Cond.stringRef "LentSundays$Tokens" (19 : Nat) "rests") ∈ lw_tbl := lw_at lw_m1 132 rfl
theorem q260 : (Jvm.Cond.stringRef "LentSundays$Tokens" (21 : Nat) "wears") ∈ lw_tbl := lw_at lw_m1 133 rfl
theorem q261 : (Jvm.Cond.stringRef "LentSundays$Tokens" (23 : Nat) "sells") ∈ lw_tbl := lw_at lw_m1 134 rfl
theorem q262 : (Jvm.Cond.stringRef "LentSundays$Tokens" (25 : Nat) "death") ∈ lw_tbl := lw_at lw_m1 135 rfl
theorem q263 : (Jvm.Cond.stringRef "LentSundays$Tokens" (27 : Nat) "seed") ∈ lw_tbl := lw_at lw_m1 136 rfl
theorem q264 : (Jvm.Cond.stringRef "LentSundays$Tokens" (29 : Nat) "if") ∈ lw_tbl := lw_at lw_m1 137 rfl
theorem q265 : (Jvm.Cond.stringRef "LentSundays$Tokens" (31 : Nat) "then") ∈ lw_tbl := lw_at lw_m1 138 rfl
theorem q266 : (Jvm.Cond.stringRef "LentSundays$Tokens" (33 : Nat) "else") ∈ lw_tbl := lw_at lw_m1 139 rfl
theorem q267 : (Jvm.Cond.stringRef "LentSundays$Tokens" (35 : Nat) "fee") ∈ lw_tbl := lw_at lw_m1 140 rfl
theorem q268 : (Jvm.Cond.stringRef "LentSundays$Tokens" (37 : Nat) "hours") ∈ lw_tbl := lw_at lw_m1 141 rfl
theorem q269 : (Jvm.Cond.stringRef "LentSundays$Tokens" (39 : Nat) "hour") ∈ lw_tbl := lw_at lw_m1 142 rfl
theorem q270 : (Jvm.Cond.stringRef "LentSundays$Tokens" (41 : Nat) "rested") ∈ lw_tbl := lw_at lw_m1 143 rfl
theorem q271 : (Jvm.Cond.stringRef "LentSundays$Tokens" (43 : Nat) "worn") ∈ lw_tbl := lw_at lw_m1 144 rfl
theorem q272 : (Jvm.Cond.stringRef "LentSundays$Tokens" (45 : Nat) "worth") ∈ lw_tbl := lw_at lw_m1 145 rfl
theorem q273 : (Jvm.Cond.stringRef "LentSundays$Tokens" (47 : Nat) "week") ∈ lw_tbl := lw_at lw_m1 146 rfl
theorem q274 : (Jvm.Cond.stringRef "LentSundays$Tokens" (49 : Nat) "which") ∈ lw_tbl := lw_at lw_m1 147 rfl
theorem q275 : (Jvm.Cond.stringRef "LentSundays$Tokens" (51 : Nat) "others") ∈ lw_tbl := lw_at lw_m1 148 rfl
theorem q276 : (Jvm.Cond.fieldLink "LentSundays$Tokens" (53 : Nat) "LentSundays$Tokens" "words" "[Ljava/lang/String;") ∈ lw_all := lw_g (lw_at lw_m1 149 rfl) rfl
theorem q277 : (Jvm.Cond.fieldLink "LentSundays$Tokens" (59 : Nat) "LentSundays$Tokens" "tape" "[B") ∈ lw_all := lw_g (lw_at lw_m1 150 rfl) rfl
theorem q279 : (Jvm.Cond.fieldLink "LentSundays$Tokens" (76 : Nat) "LentSundays$Tokens" "taped" "I") ∈ lw_all := lw_g (lw_at lw_m1 152 rfl) rfl
theorem q281 : (Jvm.Cond.fieldLink "LentSundays$Tokens" (63 : Nat) "LentSundays$Tokens" "sort" "[B") ∈ lw_all := lw_g (lw_at lw_m1 154 rfl) rfl
theorem q283 : (Jvm.Cond.fieldLink "LentSundays$Tokens" (66 : Nat) "LentSundays$Tokens" "from" "[S") ∈ lw_all := lw_g (lw_at lw_m1 156 rfl) rfl
theorem q285 : (Jvm.Cond.fieldLink "LentSundays$Tokens" (70 : Nat) "LentSundays$Tokens" "to" "[S") ∈ lw_all := lw_g (lw_at lw_m1 158 rfl) rfl
theorem q286 : (Jvm.Cond.fieldLink "LentSundays$Tokens" (73 : Nat) "LentSundays$Tokens" "what" "[S") ∈ lw_all := lw_g (lw_at lw_m1 159 rfl) rfl
theorem q288 : (Jvm.Cond.fieldLink "LentSundays$Tokens" (84 : Nat) "LentSundays$Tokens" "many" "I") ∈ lw_all := lw_g (lw_at lw_m1 161 rfl) rfl
theorem q289 : (Jvm.Cond.laysFinal "LentSundays$Tokens" "LentSundays$Tokens" "words" "[Ljava/lang/String;") ∈ lw_all := lw_g (lw_at lw_m1 162 rfl) rfl
theorem q290 : (Jvm.Cond.soleField "LentSundays$Tokens" "words") ∈ lw_all := lw_g (lw_at lw_m1 163 rfl) rfl
theorem q291 : (Jvm.Cond.laysFinal "LentSundays$Tokens" "LentSundays$Tokens" "tape" "[B") ∈ lw_all := lw_g (lw_at lw_m1 164 rfl) rfl
theorem q292 : (Jvm.Cond.soleField "LentSundays$Tokens" "tape") ∈ lw_all := lw_g (lw_at lw_m1 165 rfl) rfl
theorem q293 : (Jvm.Cond.lays "LentSundays$Tokens" "LentSundays$Tokens" "taped" "I") ∈ lw_all := lw_g (lw_at lw_m1 166 rfl) rfl
theorem q294 : (Jvm.Cond.soleField "LentSundays$Tokens" "taped") ∈ lw_all := lw_g (lw_at lw_m1 167 rfl) rfl
theorem q295 : (Jvm.Cond.laysFinal "LentSundays$Tokens" "LentSundays$Tokens" "sort" "[B") ∈ lw_all := lw_g (lw_at lw_m1 168 rfl) rfl
theorem q296 : (Jvm.Cond.soleField "LentSundays$Tokens" "sort") ∈ lw_all := lw_g (lw_at lw_m1 169 rfl) rfl
theorem q297 : (Jvm.Cond.laysFinal "LentSundays$Tokens" "LentSundays$Tokens" "from" "[S") ∈ lw_all := lw_g (lw_at lw_m1 170 rfl) rfl
theorem q298 : (Jvm.Cond.soleField "LentSundays$Tokens" "from") ∈ lw_all := lw_g (lw_at lw_m1 171 rfl) rfl
theorem q299 : (Jvm.Cond.laysFinal "LentSundays$Tokens" "LentSundays$Tokens" "to" "[S") ∈ lw_all := lw_g (lw_at lw_m1 172 rfl) rfl
theorem q300 : (Jvm.Cond.soleField "LentSundays$Tokens" "to") ∈ lw_all := lw_g (lw_at lw_m1 173 rfl) rfl
theorem q301 : (Jvm.Cond.laysFinal "LentSundays$Tokens" "LentSundays$Tokens" "what" "[S") ∈ lw_all := lw_g (lw_at lw_m1 174 rfl) rfl
theorem q302 : (Jvm.Cond.soleField "LentSundays$Tokens" "what") ∈ lw_all := lw_g (lw_at lw_m1 175 rfl) rfl
theorem q303 : (Jvm.Cond.lays "LentSundays$Tokens" "LentSundays$Tokens" "many" "I") ∈ lw_all := lw_g (lw_at lw_m1 176 rfl) rfl
theorem q304 : (Jvm.Cond.soleField "LentSundays$Tokens" "many") ∈ lw_all := lw_g (lw_at lw_m1 177 rfl) rfl
theorem q305 : (Jvm.Cond.superclass "LentSundays$Tokens" "java/lang/Object") ∈ lw_all := lw_g (lw_at lw_m1 178 rfl) rfl
theorem q580 : (Jvm.Cond.instanceMethod ({ cls := "LentSundays$Tokens", name := "read", desc := "()V" } : Jvm.MethodName)) ∈ lw_all := lw_g (lw_at lw_m2 213 rfl) rfl
theorem q581 : (Jvm.Cond.selects "LentSundays$Tokens" ({ cls := "LentSundays$Tokens", name := "read", desc := "()V" } : Jvm.MethodName) ({ cls := "LentSundays$Tokens", name := "read", desc := "()V" } : Jvm.MethodName)) ∈ lw_all := lw_g (lw_at lw_m2 214 rfl) rfl
theorem q582 : (Jvm.Cond.code ({ cls := "LentSundays$Tokens", name := "read", desc := "()V" } : Jvm.MethodName) prog_17_method_8_code (7 : Nat) (Option.none : Option Jvm.ClassFile.FieldType)) ∈ lw_all := lw_g (lw_at lw_m2 215 rfl) rfl
theorem q583 : (Jvm.Cond.methodLink "LentSundays$Tokens" (95 : Nat) ({ cls := "LentSundays$Tokens", name := "isLetter", desc := "(I)Z" } : Jvm.MethodName)) ∈ lw_all := lw_g (lw_at lw_m2 216 rfl) rfl
theorem q584 : (Jvm.Cond.privateMethod ({ cls := "LentSundays$Tokens", name := "isLetter", desc := "(I)Z" } : Jvm.MethodName)) ∈ lw_tbl := lw_at lw_m2 217 rfl
theorem q585 : (Jvm.Cond.instanceMethod ({ cls := "LentSundays$Tokens", name := "isLetter", desc := "(I)Z" } : Jvm.MethodName)) ∈ lw_all := lw_g (lw_at lw_m2 218 rfl) rfl
theorem q586 : (Jvm.Cond.code ({ cls := "LentSundays$Tokens", name := "isLetter", desc := "(I)Z" } : Jvm.MethodName) prog_17_method_4_code (2 : Nat) (Option.some Jvm.ClassFile.FieldType.boolean)) ∈ lw_all := lw_g (lw_at lw_m2 219 rfl) rfl
theorem q587 : (Jvm.Cond.methodLink "LentSundays$Tokens" (80 : Nat) ({ cls := "LentSundays$Tokens", name := "at", desc := "(I)I" } : Jvm.MethodName)) ∈ lw_all := lw_g (lw_at lw_m2 220 rfl) rfl
theorem q588 : (Jvm.Cond.privateMethod ({ cls := "LentSundays$Tokens", name := "at", desc := "(I)I" } : Jvm.MethodName)) ∈ lw_tbl := lw_at lw_m2 221 rfl
theorem q589 : (Jvm.Cond.instanceMethod ({ cls := "LentSundays$Tokens", name := "at", desc := "(I)I" } : Jvm.MethodName)) ∈ lw_all := lw_g (lw_at lw_m2 222 rfl) rfl
theorem q590 : (Jvm.Cond.code ({ cls := "LentSundays$Tokens", name := "at", desc := "(I)I" } : Jvm.MethodName) prog_17_method_2_code (2 : Nat) (Option.some Jvm.ClassFile.FieldType.int)) ∈ lw_all := lw_g (lw_at lw_m2 223 rfl) rfl
theorem q591 : (Jvm.Cond.methodLink "LentSundays$Tokens" (99 : Nat) ({ cls := "LentSundays$Tokens", name := "word", desc := "(II)I" } : Jvm.MethodName)) ∈ lw_all := lw_g (lw_at lw_m2 224 rfl) rfl
theorem q592 : (Jvm.Cond.privateMethod ({ cls := "LentSundays$Tokens", name := "word", desc := "(II)I" } : Jvm.MethodName)) ∈ lw_tbl := lw_at lw_m2 225 rfl
theorem q593 : (Jvm.Cond.instanceMethod ({ cls := "LentSundays$Tokens", name := "word", desc := "(II)I" } : Jvm.MethodName)) ∈ lw_all := lw_g (lw_at lw_m2 226 rfl) rfl
theorem q594 : (Jvm.Cond.code ({ cls := "LentSundays$Tokens", name := "word", desc := "(II)I" } : Jvm.MethodName) prog_17_method_6_code (6 : Nat) (Option.some Jvm.ClassFile.FieldType.int)) ∈ lw_all := lw_g (lw_at lw_m2 227 rfl) rfl
theorem q595 : (Jvm.Cond.methodLink "LentSundays$Tokens" (87 : Nat) ({ cls := "java/lang/String", name := "length", desc := "()I" } : Jvm.MethodName)) ∈ lw_all := lw_g (lw_at lw_m2 228 rfl) rfl
theorem q605 : (Jvm.Cond.methodLink "LentSundays$Tokens" (91 : Nat) ({ cls := "java/lang/String", name := "charAt", desc := "(I)C" } : Jvm.MethodName)) ∈ lw_all := lw_g (lw_at lw_m2 238 rfl) rfl
theorem q643 : (Jvm.Cond.methodLink "LentSundays$Tokens" (103 : Nat) ({ cls := "LentSundays$Tokens", name := "isDigit", desc := "(I)Z" } : Jvm.MethodName)) ∈ lw_all := lw_g (lw_at lw_m3 36 rfl) rfl
theorem q644 : (Jvm.Cond.privateMethod ({ cls := "LentSundays$Tokens", name := "isDigit", desc := "(I)Z" } : Jvm.MethodName)) ∈ lw_tbl := lw_at lw_m3 37 rfl
theorem q645 : (Jvm.Cond.instanceMethod ({ cls := "LentSundays$Tokens", name := "isDigit", desc := "(I)Z" } : Jvm.MethodName)) ∈ lw_all := lw_g (lw_at lw_m3 38 rfl) rfl
theorem q646 : (Jvm.Cond.code ({ cls := "LentSundays$Tokens", name := "isDigit", desc := "(I)Z" } : Jvm.MethodName) prog_17_method_3_code (2 : Nat) (Option.some Jvm.ClassFile.FieldType.boolean)) ∈ lw_all := lw_g (lw_at lw_m3 39 rfl) rfl
theorem q647 : (Jvm.Cond.methodLink "LentSundays$Tokens" (106 : Nat) ({ cls := "LentSundays$Tokens", name := "sign", desc := "(I)I" } : Jvm.MethodName)) ∈ lw_all := lw_g (lw_at lw_m3 40 rfl) rfl
theorem q648 : (Jvm.Cond.privateMethod ({ cls := "LentSundays$Tokens", name := "sign", desc := "(I)I" } : Jvm.MethodName)) ∈ lw_tbl := lw_at lw_m3 41 rfl
theorem q649 : (Jvm.Cond.instanceMethod ({ cls := "LentSundays$Tokens", name := "sign", desc := "(I)I" } : Jvm.MethodName)) ∈ lw_all := lw_g (lw_at lw_m3 42 rfl) rfl
theorem q650 : (Jvm.Cond.code ({ cls := "LentSundays$Tokens", name := "sign", desc := "(I)I" } : Jvm.MethodName) prog_17_method_7_code (3 : Nat) (Option.some Jvm.ClassFile.FieldType.int)) ∈ lw_all := lw_g (lw_at lw_m3 43 rfl) rfl
theorem q651 : (Jvm.Cond.methodLink "LentSundays$Tokens" (109 : Nat) ({ cls := "LentSundays$Tokens", name := "add", desc := "(IIII)V" } : Jvm.MethodName)) ∈ lw_all := lw_g (lw_at lw_m3 44 rfl) rfl
theorem q652 : (Jvm.Cond.privateMethod ({ cls := "LentSundays$Tokens", name := "add", desc := "(IIII)V" } : Jvm.MethodName)) ∈ lw_tbl := lw_at lw_m3 45 rfl
theorem q653 : (Jvm.Cond.instanceMethod ({ cls := "LentSundays$Tokens", name := "add", desc := "(IIII)V" } : Jvm.MethodName)) ∈ lw_all := lw_g (lw_at lw_m3 46 rfl) rfl
theorem q654 : (Jvm.Cond.code ({ cls := "LentSundays$Tokens", name := "add", desc := "(IIII)V" } : Jvm.MethodName) prog_17_method_5_code (5 : Nat) (Option.none : Option Jvm.ClassFile.FieldType)) ∈ lw_all := lw_g (lw_at lw_m3 47 rfl) rfl
theorem q741 : (Jvm.Cond.instanceMethod ({ cls := "LentSundays$Tokens", name := "number", desc := "(I)I" } : Jvm.MethodName)) ∈ lw_all := lw_g (lw_at lw_m3 134 rfl) rfl
theorem q742 : (Jvm.Cond.selects "LentSundays$Tokens" ({ cls := "LentSundays$Tokens", name := "number", desc := "(I)I" } : Jvm.MethodName) ({ cls := "LentSundays$Tokens", name := "number", desc := "(I)I" } : Jvm.MethodName)) ∈ lw_all := lw_g (lw_at lw_m3 135 rfl) rfl
theorem q743 : (Jvm.Cond.code ({ cls := "LentSundays$Tokens", name := "number", desc := "(I)I" } : Jvm.MethodName) prog_17_method_10_code (4 : Nat) (Option.some Jvm.ClassFile.FieldType.int)) ∈ lw_all := lw_g (lw_at lw_m3 136 rfl) rfl
theorem q800 : (Jvm.Cond.instanceMethod ({ cls := "LentSundays$Tokens", name := "text", desc := "(I)Ljava/lang/String;" } : Jvm.MethodName)) ∈ lw_all := lw_g (lw_at lw_m3 193 rfl) rfl
theorem q801 : (Jvm.Cond.selects "LentSundays$Tokens" ({ cls := "LentSundays$Tokens", name := "text", desc := "(I)Ljava/lang/String;" } : Jvm.MethodName) ({ cls := "LentSundays$Tokens", name := "text", desc := "(I)Ljava/lang/String;" } : Jvm.MethodName)) ∈ lw_all := lw_g (lw_at lw_m3 194 rfl) rfl
theorem q802 : (Jvm.Cond.code ({ cls := "LentSundays$Tokens", name := "text", desc := "(I)Ljava/lang/String;" } : Jvm.MethodName) prog_17_method_9_code (4 : Nat) (Option.some (Jvm.ClassFile.FieldType.object "java/lang/String"))) ∈ lw_all := lw_g (lw_at lw_m3 195 rfl) rfl
theorem q803 : (Jvm.Cond.classLink "LentSundays$Tokens" (113 : Nat) "java/lang/StringBuilder") ∈ lw_all := lw_g (lw_at lw_m3 196 rfl) rfl
theorem q805 : (Jvm.Cond.methodLink "LentSundays$Tokens" (115 : Nat) ({ cls := "java/lang/StringBuilder", name := "<init>", desc := "()V" } : Jvm.MethodName)) ∈ lw_all := lw_g (lw_at lw_m3 198 rfl) rfl
theorem q833 : (Jvm.Cond.methodLink "LentSundays$Tokens" (116 : Nat) ({ cls := "java/lang/StringBuilder", name := "append", desc := "(C)Ljava/lang/StringBuilder;" } : Jvm.MethodName)) ∈ lw_all := lw_g (lw_at lw_m3 226 rfl) rfl
theorem q908 : (Jvm.Cond.methodLink "LentSundays$Tokens" (120 : Nat) ({ cls := "java/lang/StringBuilder", name := "toString", desc := "()Ljava/lang/String;" } : Jvm.MethodName)) ∈ lw_all := lw_g (lw_at lw_m4 61 rfl) rfl
theorem q1060 : (Jvm.Cond.selects "LentSundays$Tokens" ({ cls := "java/lang/Object", name := "getClass", desc := "()Ljava/lang/Class;" } : Jvm.MethodName) ({ cls := "java/lang/Object", name := "getClass", desc := "()Ljava/lang/Class;" } : Jvm.MethodName)) ∈ lw_all := lw_g (lw_at lw_m4 213 rfl) rfl
theorem q2235 : (Jvm.Cond.castable "LentSundays$Tokens" "java/lang/Object") ∈ lw_tbl := lw_at lw_m9 188 rfl
theorem in_X2 : ∀ w ∈ wsX20, w ∈ lw_all := lw_in wsX20 [289, 291, 293, 295, 297, 299, 301, 303] (by decide +kernel) (by decide +kernel)
/-! LentSundays$Parser -/
set_option maxRecDepth 100000
def RX3 : String := "LentSundays$Parser"
def TX3 : u_T := fun k => match k with
  | 0 => ("LentSundays$Parser", "t", "LLentSundays$Tokens;", true)
  | 1 => ("LentSundays$Parser", "fault", "LLentSundays$Fault;", true)
  | 2 => ("LentSundays$Parser", "text", "LLentSundays$Text;", false)
  | 3 => ("LentSundays$Parser", "at", "I", false)
  | 4 => ("LentSundays$Parser", "open", "I", false)
  | 5 => ("LentSundays$Parser", "worst", "I", false)
  | _ => ("LentSundays$Parser", "worstToken", "I", false)
def tyX3 : Nat → FieldType := fun k => match k with
  | 0 => .object "LentSundays$Tokens"
  | 1 => .object "LentSundays$Fault"
  | 2 => .object "LentSundays$Text"
  | 3 => .int
  | 4 => .int
  | 5 => .int
  | _ => .int
abbrev wsX30 : List Cond := u_ws RX3 TX3 7
theorem nmX3 : ∀ a, a < 7 → ∀ b, b < 7 → a ≠ b → (TX3 a).2.1 ≠ (TX3 b).2.1 := by decide +kernel
theorem tyX3_ok : ∀ k, k < 7 → parseFieldDescriptor (TX3 k).2.2.1 = some (tyX3 k) := by decide +kernel
abbrev cX3_init : ByteArray := prog_12_method_1_code
def yX3_init : MethodName := ⟨RX3, "<init>", "(LLentSundays$Tokens;LLentSundays$Fault;)V"⟩
def dkwX3_init_0 : List UInt8 := [42, 183, 0, 3, 42, 43, 181, 0, 9, 42, 44, 181, 0, 15, 177]
abbrev dktX3_init_0 : List UInt8 := dkwX3_init_0 ++ []
theorem dksX3_init_0 : cX3_init.data.toList.drop 0 = dktX3_init_0 := by decide +kernel
theorem dX3_init_0 : decode cX3_init 0 = .ok (.aload_n 0, 1) := dk_42 (dk_at dksX3_init_0 0 rfl rfl)
theorem dX3_init_1 : decode cX3_init 1 = .ok (.invokespecial 3, 3) := dk_183 0 3 (dk_at dksX3_init_0 1 rfl rfl)
theorem dX3_init_4 : decode cX3_init 4 = .ok (.aload_n 0, 1) := dk_42 (dk_at dksX3_init_0 4 rfl rfl)
theorem dX3_init_5 : decode cX3_init 5 = .ok (.aload_n 1, 1) := dk_43 (dk_at dksX3_init_0 5 rfl rfl)
theorem dX3_init_6 : decode cX3_init 6 = .ok (.putfield 9, 3) := dk_181 0 9 (dk_at dksX3_init_0 6 rfl rfl)
theorem dX3_init_9 : decode cX3_init 9 = .ok (.aload_n 0, 1) := dk_42 (dk_at dksX3_init_0 9 rfl rfl)
theorem dX3_init_10 : decode cX3_init 10 = .ok (.aload_n 2, 1) := dk_44 (dk_at dksX3_init_0 10 rfl rfl)
theorem dX3_init_11 : decode cX3_init 11 = .ok (.putfield 15, 3) := dk_181 0 15 (dk_at dksX3_init_0 11 rfl rfl)
theorem dX3_init_14 : decode cX3_init 14 = .ok (.return_, 1) := dk_177 (dk_at dksX3_init_0 14 rfl rfl)
abbrev cX3_read : ByteArray := prog_12_method_16_code
def yX3_read : MethodName := ⟨RX3, "read", "()LLentSundays$Text;"⟩
def dkwX3_read_3 : List UInt8 := [182, 0, 35, 191, 42, 180, 0, 83, 176]
abbrev dktX3_read_3 : List UInt8 := dkwX3_read_3 ++ []
def dkwX3_read_2 : List UInt8 := [182, 0, 105, 167, 255, 238, 42, 180, 0, 38, 153, 0, 16, 42, 42, 180, 0, 38, 42, 180, 0, 41]
abbrev dktX3_read_2 : List UInt8 := dkwX3_read_2 ++ dktX3_read_3
def dkwX3_read_1 : List UInt8 := [3, 181, 0, 99, 42, 3, 181, 0, 38, 42, 182, 0, 65, 7, 159, 0, 16, 42, 182, 0, 102, 42, 16, 59]
abbrev dktX3_read_1 : List UInt8 := dkwX3_read_1 ++ dktX3_read_2
def dkwX3_read_0 : List UInt8 := [42, 180, 0, 9, 182, 0, 95, 42, 187, 0, 87, 89, 183, 0, 98, 181, 0, 83, 42, 3, 181, 0, 31, 42]
abbrev dktX3_read_0 : List UInt8 := dkwX3_read_0 ++ dktX3_read_1
theorem dksX3_read_0 : cX3_read.data.toList.drop 0 = dktX3_read_0 := by decide +kernel
theorem dksX3_read_1 : cX3_read.data.toList.drop 24 = dktX3_read_1 := dk_seg dksX3_read_0 24 rfl rfl
theorem dksX3_read_2 : cX3_read.data.toList.drop 48 = dktX3_read_2 := dk_seg dksX3_read_1 24 rfl rfl
theorem dksX3_read_3 : cX3_read.data.toList.drop 70 = dktX3_read_3 := dk_seg dksX3_read_2 22 rfl rfl
theorem dX3_read_0 : decode cX3_read 0 = .ok (.aload_n 0, 1) := dk_42 (dk_at dksX3_read_0 0 rfl rfl)
theorem dX3_read_1 : decode cX3_read 1 = .ok (.getfield 9, 3) := dk_180 0 9 (dk_at dksX3_read_0 1 rfl rfl)
theorem dX3_read_4 : decode cX3_read 4 = .ok (.invokevirtual 95, 3) := dk_182 0 95 (dk_at dksX3_read_0 4 rfl rfl)
theorem dX3_read_7 : decode cX3_read 7 = .ok (.aload_n 0, 1) := dk_42 (dk_at dksX3_read_0 7 rfl rfl)
theorem dX3_read_8 : decode cX3_read 8 = .ok (.new 87, 3) := dk_187 0 87 (dk_at dksX3_read_0 8 rfl rfl)
theorem dX3_read_11 : decode cX3_read 11 = .ok (.dup, 1) := dk_89 (dk_at dksX3_read_0 11 rfl rfl)
theorem dX3_read_12 : decode cX3_read 12 = .ok (.invokespecial 98, 3) := dk_183 0 98 (dk_at dksX3_read_0 12 rfl rfl)
theorem dX3_read_15 : decode cX3_read 15 = .ok (.putfield 83, 3) := dk_181 0 83 (dk_at dksX3_read_0 15 rfl rfl)
theorem dX3_read_18 : decode cX3_read 18 = .ok (.aload_n 0, 1) := dk_42 (dk_at dksX3_read_0 18 rfl rfl)
theorem dX3_read_19 : decode cX3_read 19 = .ok (.iconst 0, 1) := dk_3 (dk_at dksX3_read_0 19 rfl rfl)
theorem dX3_read_20 : decode cX3_read 20 = .ok (.putfield 31, 3) := dk_181 0 31 (dk_at dksX3_read_0 20 rfl rfl)
theorem dX3_read_23 : decode cX3_read 23 = .ok (.aload_n 0, 1) := dk_42 (dk_at dksX3_read_0 23 rfl rfl)
theorem dX3_read_24 : decode cX3_read 24 = .ok (.iconst 0, 1) := dk_3 (dk_at dksX3_read_1 0 rfl rfl)
theorem dX3_read_25 : decode cX3_read 25 = .ok (.putfield 99, 3) := dk_181 0 99 (dk_at dksX3_read_1 1 rfl rfl)
theorem dX3_read_28 : decode cX3_read 28 = .ok (.aload_n 0, 1) := dk_42 (dk_at dksX3_read_1 4 rfl rfl)
theorem dX3_read_29 : decode cX3_read 29 = .ok (.iconst 0, 1) := dk_3 (dk_at dksX3_read_1 5 rfl rfl)
theorem dX3_read_30 : decode cX3_read 30 = .ok (.putfield 38, 3) := dk_181 0 38 (dk_at dksX3_read_1 6 rfl rfl)
theorem dX3_read_33 : decode cX3_read 33 = .ok (.aload_n 0, 1) := dk_42 (dk_at dksX3_read_1 9 rfl rfl)
theorem dX3_read_34 : decode cX3_read 34 = .ok (.invokevirtual 65, 3) := dk_182 0 65 (dk_at dksX3_read_1 10 rfl rfl)
theorem dX3_read_37 : decode cX3_read 37 = .ok (.iconst 4, 1) := dk_7 (dk_at dksX3_read_1 13 rfl rfl)
theorem dX3_read_38 : decode cX3_read 38 = .ok (.if_icmp .eq 16, 3) := dk_159 0 16 (dk_at dksX3_read_1 14 rfl rfl)
theorem dX3_read_41 : decode cX3_read 41 = .ok (.aload_n 0, 1) := dk_42 (dk_at dksX3_read_1 17 rfl rfl)
theorem dX3_read_42 : decode cX3_read 42 = .ok (.invokevirtual 102, 3) := dk_182 0 102 (dk_at dksX3_read_1 18 rfl rfl)
theorem dX3_read_45 : decode cX3_read 45 = .ok (.aload_n 0, 1) := dk_42 (dk_at dksX3_read_1 21 rfl rfl)
theorem dX3_read_46 : decode cX3_read 46 = .ok (.bipush 59, 2) := dk_16 59 (dk_at dksX3_read_1 22 rfl rfl)
theorem dX3_read_48 : decode cX3_read 48 = .ok (.invokevirtual 105, 3) := dk_182 0 105 (dk_at dksX3_read_2 0 rfl rfl)
theorem dX3_read_51 : decode cX3_read 51 = .ok (.goto (-18), 3) := dk_167 255 238 (dk_at dksX3_read_2 3 rfl rfl)
theorem dX3_read_54 : decode cX3_read 54 = .ok (.aload_n 0, 1) := dk_42 (dk_at dksX3_read_2 6 rfl rfl)
theorem dX3_read_55 : decode cX3_read 55 = .ok (.getfield 38, 3) := dk_180 0 38 (dk_at dksX3_read_2 7 rfl rfl)
theorem dX3_read_58 : decode cX3_read 58 = .ok (.ifCond .eq 16, 3) := dk_153 0 16 (dk_at dksX3_read_2 10 rfl rfl)
theorem dX3_read_61 : decode cX3_read 61 = .ok (.aload_n 0, 1) := dk_42 (dk_at dksX3_read_2 13 rfl rfl)
theorem dX3_read_62 : decode cX3_read 62 = .ok (.aload_n 0, 1) := dk_42 (dk_at dksX3_read_2 14 rfl rfl)
theorem dX3_read_63 : decode cX3_read 63 = .ok (.getfield 38, 3) := dk_180 0 38 (dk_at dksX3_read_2 15 rfl rfl)
theorem dX3_read_66 : decode cX3_read 66 = .ok (.aload_n 0, 1) := dk_42 (dk_at dksX3_read_2 18 rfl rfl)
theorem dX3_read_67 : decode cX3_read 67 = .ok (.getfield 41, 3) := dk_180 0 41 (dk_at dksX3_read_2 19 rfl rfl)
theorem dX3_read_70 : decode cX3_read 70 = .ok (.invokevirtual 35, 3) := dk_182 0 35 (dk_at dksX3_read_3 0 rfl rfl)
theorem dX3_read_73 : decode cX3_read 73 = .ok (.athrow, 1) := dk_191 (dk_at dksX3_read_3 3 rfl rfl)
theorem dX3_read_74 : decode cX3_read 74 = .ok (.aload_n 0, 1) := dk_42 (dk_at dksX3_read_3 4 rfl rfl)
theorem dX3_read_75 : decode cX3_read 75 = .ok (.getfield 83, 3) := dk_180 0 83 (dk_at dksX3_read_3 5 rfl rfl)
theorem dX3_read_78 : decode cX3_read 78 = .ok (.areturn, 1) := dk_176 (dk_at dksX3_read_3 8 rfl rfl)
abbrev cX3_sort : ByteArray := prog_12_method_5_code
def yX3_sort : MethodName := ⟨RX3, "sort", "()I"⟩
def dkwX3_sort_1 : List UInt8 := [180, 0, 9, 180, 0, 44, 42, 180, 0, 31, 51, 172]
abbrev dktX3_sort_1 : List UInt8 := dkwX3_sort_1 ++ []
def dkwX3_sort_0 : List UInt8 := [42, 180, 0, 9, 180, 0, 44, 42, 180, 0, 31, 51, 8, 160, 0, 9, 42, 4, 182, 0, 48, 191, 42]
abbrev dktX3_sort_0 : List UInt8 := dkwX3_sort_0 ++ dktX3_sort_1
theorem dksX3_sort_0 : cX3_sort.data.toList.drop 0 = dktX3_sort_0 := by decide +kernel
theorem dksX3_sort_1 : cX3_sort.data.toList.drop 23 = dktX3_sort_1 := dk_seg dksX3_sort_0 23 rfl rfl
theorem dX3_sort_0 : decode cX3_sort 0 = .ok (.aload_n 0, 1) := dk_42 (dk_at dksX3_sort_0 0 rfl rfl)
theorem dX3_sort_1 : decode cX3_sort 1 = .ok (.getfield 9, 3) := dk_180 0 9 (dk_at dksX3_sort_0 1 rfl rfl)
theorem dX3_sort_4 : decode cX3_sort 4 = .ok (.getfield 44, 3) := dk_180 0 44 (dk_at dksX3_sort_0 4 rfl rfl)
theorem dX3_sort_7 : decode cX3_sort 7 = .ok (.aload_n 0, 1) := dk_42 (dk_at dksX3_sort_0 7 rfl rfl)
theorem dX3_sort_8 : decode cX3_sort 8 = .ok (.getfield 31, 3) := dk_180 0 31 (dk_at dksX3_sort_0 8 rfl rfl)
theorem dX3_sort_11 : decode cX3_sort 11 = .ok (.baload, 1) := dk_51 (dk_at dksX3_sort_0 11 rfl rfl)
theorem dX3_sort_12 : decode cX3_sort 12 = .ok (.iconst 5, 1) := dk_8 (dk_at dksX3_sort_0 12 rfl rfl)
theorem dX3_sort_13 : decode cX3_sort 13 = .ok (.if_icmp .ne 9, 3) := dk_160 0 9 (dk_at dksX3_sort_0 13 rfl rfl)
theorem dX3_sort_16 : decode cX3_sort 16 = .ok (.aload_n 0, 1) := dk_42 (dk_at dksX3_sort_0 16 rfl rfl)
theorem dX3_sort_17 : decode cX3_sort 17 = .ok (.iconst 1, 1) := dk_4 (dk_at dksX3_sort_0 17 rfl rfl)
theorem dX3_sort_18 : decode cX3_sort 18 = .ok (.invokevirtual 48, 3) := dk_182 0 48 (dk_at dksX3_sort_0 18 rfl rfl)
theorem dX3_sort_21 : decode cX3_sort 21 = .ok (.athrow, 1) := dk_191 (dk_at dksX3_sort_0 21 rfl rfl)
theorem dX3_sort_22 : decode cX3_sort 22 = .ok (.aload_n 0, 1) := dk_42 (dk_at dksX3_sort_0 22 rfl rfl)
theorem dX3_sort_23 : decode cX3_sort 23 = .ok (.getfield 9, 3) := dk_180 0 9 (dk_at dksX3_sort_1 0 rfl rfl)
theorem dX3_sort_26 : decode cX3_sort 26 = .ok (.getfield 44, 3) := dk_180 0 44 (dk_at dksX3_sort_1 3 rfl rfl)
theorem dX3_sort_29 : decode cX3_sort 29 = .ok (.aload_n 0, 1) := dk_42 (dk_at dksX3_sort_1 6 rfl rfl)
theorem dX3_sort_30 : decode cX3_sort 30 = .ok (.getfield 31, 3) := dk_180 0 31 (dk_at dksX3_sort_1 7 rfl rfl)
theorem dX3_sort_33 : decode cX3_sort 33 = .ok (.baload, 1) := dk_51 (dk_at dksX3_sort_1 10 rfl rfl)
theorem dX3_sort_34 : decode cX3_sort 34 = .ok (.ireturn, 1) := dk_172 (dk_at dksX3_sort_1 11 rfl rfl)
abbrev cX3_wrong : ByteArray := prog_12_method_3_code
def yX3_wrong : MethodName := ⟨RX3, "wrong", "(I)LLentSundays$Fault;"⟩
def dkwX3_wrong_0 : List UInt8 := [42, 27, 42, 180, 0, 31, 182, 0, 35, 176]
abbrev dktX3_wrong_0 : List UInt8 := dkwX3_wrong_0 ++ []
theorem dksX3_wrong_0 : cX3_wrong.data.toList.drop 0 = dktX3_wrong_0 := by decide +kernel
theorem dX3_wrong_0 : decode cX3_wrong 0 = .ok (.aload_n 0, 1) := dk_42 (dk_at dksX3_wrong_0 0 rfl rfl)
theorem dX3_wrong_1 : decode cX3_wrong 1 = .ok (.iload_n 1, 1) := dk_27 (dk_at dksX3_wrong_0 1 rfl rfl)
theorem dX3_wrong_2 : decode cX3_wrong 2 = .ok (.aload_n 0, 1) := dk_42 (dk_at dksX3_wrong_0 2 rfl rfl)
theorem dX3_wrong_3 : decode cX3_wrong 3 = .ok (.getfield 31, 3) := dk_180 0 31 (dk_at dksX3_wrong_0 3 rfl rfl)
theorem dX3_wrong_6 : decode cX3_wrong 6 = .ok (.invokevirtual 35, 3) := dk_182 0 35 (dk_at dksX3_wrong_0 6 rfl rfl)
theorem dX3_wrong_9 : decode cX3_wrong 9 = .ok (.areturn, 1) := dk_176 (dk_at dksX3_wrong_0 9 rfl rfl)
abbrev cX3_wrongAt : ByteArray := prog_12_method_2_code
def yX3_wrongAt : MethodName := ⟨RX3, "wrongAt", "(II)LLentSundays$Fault;"⟩
def dkwX3_wrongAt_0 : List UInt8 := [42, 180, 0, 15, 27, 42, 180, 0, 9, 180, 0, 19, 28, 53, 182, 0, 25, 176]
abbrev dktX3_wrongAt_0 : List UInt8 := dkwX3_wrongAt_0 ++ []
theorem dksX3_wrongAt_0 : cX3_wrongAt.data.toList.drop 0 = dktX3_wrongAt_0 := by decide +kernel
theorem dX3_wrongAt_0 : decode cX3_wrongAt 0 = .ok (.aload_n 0, 1) := dk_42 (dk_at dksX3_wrongAt_0 0 rfl rfl)
theorem dX3_wrongAt_1 : decode cX3_wrongAt 1 = .ok (.getfield 15, 3) := dk_180 0 15 (dk_at dksX3_wrongAt_0 1 rfl rfl)
theorem dX3_wrongAt_4 : decode cX3_wrongAt 4 = .ok (.iload_n 1, 1) := dk_27 (dk_at dksX3_wrongAt_0 4 rfl rfl)
theorem dX3_wrongAt_5 : decode cX3_wrongAt 5 = .ok (.aload_n 0, 1) := dk_42 (dk_at dksX3_wrongAt_0 5 rfl rfl)
theorem dX3_wrongAt_6 : decode cX3_wrongAt 6 = .ok (.getfield 9, 3) := dk_180 0 9 (dk_at dksX3_wrongAt_0 6 rfl rfl)
theorem dX3_wrongAt_9 : decode cX3_wrongAt 9 = .ok (.getfield 19, 3) := dk_180 0 19 (dk_at dksX3_wrongAt_0 9 rfl rfl)
theorem dX3_wrongAt_12 : decode cX3_wrongAt 12 = .ok (.iload_n 2, 1) := dk_28 (dk_at dksX3_wrongAt_0 12 rfl rfl)
theorem dX3_wrongAt_13 : decode cX3_wrongAt 13 = .ok (.saload, 1) := dk_53 (dk_at dksX3_wrongAt_0 13 rfl rfl)
theorem dX3_wrongAt_14 : decode cX3_wrongAt 14 = .ok (.invokevirtual 25, 3) := dk_182 0 25 (dk_at dksX3_wrongAt_0 14 rfl rfl)
theorem dX3_wrongAt_17 : decode cX3_wrongAt 17 = .ok (.areturn, 1) := dk_176 (dk_at dksX3_wrongAt_0 17 rfl rfl)
abbrev cX3_told : ByteArray := prog_12_method_17_code
def yX3_told : MethodName := ⟨RX3, "told", "()V"⟩
def dkwX3_told_13 : List UInt8 := [181, 0, 172, 167, 0, 9, 42, 4, 182, 0, 48, 191, 177]
abbrev dktX3_told_13 : List UInt8 := dkwX3_told_13 ++ []
def dkwX3_told_12 : List UInt8 := [181, 0, 169, 167, 0, 31, 42, 182, 0, 59, 42, 180, 0, 83, 42, 3, 17, 39, 15, 182, 0, 138]
abbrev dktX3_told_12 : List UInt8 := dkwX3_told_12 ++ dktX3_told_13
def dkwX3_told_11 : List UInt8 := [4, 96, 181, 0, 164, 167, 0, 53, 42, 182, 0, 59, 42, 180, 0, 83, 42, 4, 17, 3, 231, 182, 0, 138]
abbrev dktX3_told_11 : List UInt8 := dkwX3_told_11 ++ dktX3_told_12
def dkwX3_told_10 : List UInt8 := [42, 180, 0, 83, 180, 0, 164, 16, 8, 182, 0, 126, 42, 182, 0, 167, 42, 180, 0, 83, 89, 180, 0, 164]
abbrev dktX3_told_10 : List UInt8 := dkwX3_told_10 ++ dktX3_told_11
def dkwX3_told_9 : List UInt8 := [16, 99, 182, 0, 138, 181, 0, 161, 42, 180, 0, 83, 180, 0, 151, 44, 182, 0, 147, 87, 167, 0, 86, 42]
abbrev dktX3_told_9 : List UInt8 := dkwX3_told_9 ++ dktX3_told_10
def dkwX3_told_8 : List UInt8 := [42, 3, 16, 23, 182, 0, 138, 181, 0, 157, 44, 42, 4, 16, 12, 182, 0, 138, 181, 0, 160, 44, 42, 3]
abbrev dktX3_told_8 : List UInt8 := dkwX3_told_8 ++ dktX3_told_9
def dkwX3_told_7 : List UInt8 := [180, 0, 151, 182, 0, 121, 16, 7, 182, 0, 126, 187, 0, 154, 89, 42, 182, 0, 131, 183, 0, 156, 77, 44]
abbrev dktX3_told_7 : List UInt8 := dkwX3_told_7 ++ dktX3_told_8
def dkwX3_told_6 : List UInt8 := [181, 0, 144, 42, 180, 0, 83, 180, 0, 117, 44, 182, 0, 147, 87, 167, 0, 162, 42, 42, 180, 0, 83]
abbrev dktX3_told_6 : List UInt8 := dkwX3_told_6 ++ dktX3_told_7
def dkwX3_told_5 : List UInt8 := [183, 0, 135, 77, 44, 42, 4, 16, 24, 182, 0, 138, 181, 0, 141, 44, 42, 3, 16, 99, 182, 0, 138]
abbrev dktX3_told_5 : List UInt8 := dkwX3_told_5 ++ dktX3_told_6
def dkwX3_told_4 : List UInt8 := [42, 42, 180, 0, 83, 180, 0, 117, 182, 0, 121, 7, 182, 0, 126, 187, 0, 129, 89, 42, 182, 0, 131]
abbrev dktX3_told_4 : List UInt8 := dkwX3_told_4 ++ dktX3_told_5
def dkwX3_told_3 : List UInt8 := [170, 0, 0, 0, 0, 1, 12, 0, 0, 0, 0, 0, 0, 0, 8, 0, 0, 0, 51, 0, 0, 0, 115, 0, 0, 0, 191, 0, 0, 1, 12, 0, 0, 1, 12, 0, 0, 1, 12, 0, 0, 1, 12, 0, 0, 0, 224, 0, 0, 0, 246]
abbrev dktX3_told_3 : List UInt8 := dkwX3_told_3 ++ dktX3_told_4
def dkwX3_told_2 : List UInt8 := [6, 100, 42, 182, 0, 113, 83, 177, 27]
abbrev dktX3_told_2 : List UInt8 := dkwX3_told_2 ++ dktX3_told_3
def dkwX3_told_1 : List UInt8 := [60, 27, 6, 161, 0, 29, 27, 16, 6, 163, 0, 23, 42, 182, 0, 59, 42, 180, 0, 83, 180, 0, 109, 27]
abbrev dktX3_told_1 : List UInt8 := dkwX3_told_1 ++ dktX3_told_2
def dkwX3_told_0 : List UInt8 := [42, 182, 0, 65, 6, 160, 0, 18, 42, 180, 0, 9, 180, 0, 52, 42, 180, 0, 31, 53, 167, 0, 4, 2]
abbrev dktX3_told_0 : List UInt8 := dkwX3_told_0 ++ dktX3_told_1
theorem dksX3_told_0 : cX3_told.data.toList.drop 0 = dktX3_told_0 := by decide +kernel
theorem dksX3_told_1 : cX3_told.data.toList.drop 24 = dktX3_told_1 := dk_seg dksX3_told_0 24 rfl rfl
theorem dksX3_told_2 : cX3_told.data.toList.drop 48 = dktX3_told_2 := dk_seg dksX3_told_1 24 rfl rfl
theorem dksX3_told_3 : cX3_told.data.toList.drop 57 = dktX3_told_3 := dk_seg dksX3_told_2 9 rfl rfl
theorem dksX3_told_4 : cX3_told.data.toList.drop 108 = dktX3_told_4 := dk_seg dksX3_told_3 51 rfl rfl
theorem dksX3_told_5 : cX3_told.data.toList.drop 131 = dktX3_told_5 := dk_seg dksX3_told_4 23 rfl rfl
theorem dksX3_told_6 : cX3_told.data.toList.drop 154 = dktX3_told_6 := dk_seg dksX3_told_5 23 rfl rfl
theorem dksX3_told_7 : cX3_told.data.toList.drop 177 = dktX3_told_7 := dk_seg dksX3_told_6 23 rfl rfl
theorem dksX3_told_8 : cX3_told.data.toList.drop 201 = dktX3_told_8 := dk_seg dksX3_told_7 24 rfl rfl
theorem dksX3_told_9 : cX3_told.data.toList.drop 225 = dktX3_told_9 := dk_seg dksX3_told_8 24 rfl rfl
theorem dksX3_told_10 : cX3_told.data.toList.drop 249 = dktX3_told_10 := dk_seg dksX3_told_9 24 rfl rfl
theorem dksX3_told_11 : cX3_told.data.toList.drop 273 = dktX3_told_11 := dk_seg dksX3_told_10 24 rfl rfl
theorem dksX3_told_12 : cX3_told.data.toList.drop 297 = dktX3_told_12 := dk_seg dksX3_told_11 24 rfl rfl
theorem dksX3_told_13 : cX3_told.data.toList.drop 319 = dktX3_told_13 := dk_seg dksX3_told_12 22 rfl rfl
theorem dX3_told_0 : decode cX3_told 0 = .ok (.aload_n 0, 1) := dk_42 (dk_at dksX3_told_0 0 rfl rfl)
theorem dX3_told_1 : decode cX3_told 1 = .ok (.invokevirtual 65, 3) := dk_182 0 65 (dk_at dksX3_told_0 1 rfl rfl)
theorem dX3_told_4 : decode cX3_told 4 = .ok (.iconst 3, 1) := dk_6 (dk_at dksX3_told_0 4 rfl rfl)
theorem dX3_told_5 : decode cX3_told 5 = .ok (.if_icmp .ne 18, 3) := dk_160 0 18 (dk_at dksX3_told_0 5 rfl rfl)
theorem dX3_told_8 : decode cX3_told 8 = .ok (.aload_n 0, 1) := dk_42 (dk_at dksX3_told_0 8 rfl rfl)
theorem dX3_told_9 : decode cX3_told 9 = .ok (.getfield 9, 3) := dk_180 0 9 (dk_at dksX3_told_0 9 rfl rfl)
theorem dX3_told_12 : decode cX3_told 12 = .ok (.getfield 52, 3) := dk_180 0 52 (dk_at dksX3_told_0 12 rfl rfl)
theorem dX3_told_15 : decode cX3_told 15 = .ok (.aload_n 0, 1) := dk_42 (dk_at dksX3_told_0 15 rfl rfl)
theorem dX3_told_16 : decode cX3_told 16 = .ok (.getfield 31, 3) := dk_180 0 31 (dk_at dksX3_told_0 16 rfl rfl)
theorem dX3_told_19 : decode cX3_told 19 = .ok (.saload, 1) := dk_53 (dk_at dksX3_told_0 19 rfl rfl)
theorem dX3_told_20 : decode cX3_told 20 = .ok (.goto 4, 3) := dk_167 0 4 (dk_at dksX3_told_0 20 rfl rfl)
theorem dX3_told_23 : decode cX3_told 23 = .ok (.iconst (-1), 1) := dk_2 (dk_at dksX3_told_0 23 rfl rfl)
theorem dX3_told_24 : decode cX3_told 24 = .ok (.istore_n 1, 1) := dk_60 (dk_at dksX3_told_1 0 rfl rfl)
theorem dX3_told_25 : decode cX3_told 25 = .ok (.iload_n 1, 1) := dk_27 (dk_at dksX3_told_1 1 rfl rfl)
theorem dX3_told_26 : decode cX3_told 26 = .ok (.iconst 3, 1) := dk_6 (dk_at dksX3_told_1 2 rfl rfl)
theorem dX3_told_27 : decode cX3_told 27 = .ok (.if_icmp .lt 29, 3) := dk_161 0 29 (dk_at dksX3_told_1 3 rfl rfl)
theorem dX3_told_30 : decode cX3_told 30 = .ok (.iload_n 1, 1) := dk_27 (dk_at dksX3_told_1 6 rfl rfl)
theorem dX3_told_31 : decode cX3_told 31 = .ok (.bipush 6, 2) := dk_16 6 (dk_at dksX3_told_1 7 rfl rfl)
theorem dX3_told_33 : decode cX3_told 33 = .ok (.if_icmp .gt 23, 3) := dk_163 0 23 (dk_at dksX3_told_1 9 rfl rfl)
theorem dX3_told_36 : decode cX3_told 36 = .ok (.aload_n 0, 1) := dk_42 (dk_at dksX3_told_1 12 rfl rfl)
theorem dX3_told_37 : decode cX3_told 37 = .ok (.invokevirtual 59, 3) := dk_182 0 59 (dk_at dksX3_told_1 13 rfl rfl)
theorem dX3_told_40 : decode cX3_told 40 = .ok (.aload_n 0, 1) := dk_42 (dk_at dksX3_told_1 16 rfl rfl)
theorem dX3_told_41 : decode cX3_told 41 = .ok (.getfield 83, 3) := dk_180 0 83 (dk_at dksX3_told_1 17 rfl rfl)
theorem dX3_told_44 : decode cX3_told 44 = .ok (.getfield 109, 3) := dk_180 0 109 (dk_at dksX3_told_1 20 rfl rfl)
theorem dX3_told_47 : decode cX3_told 47 = .ok (.iload_n 1, 1) := dk_27 (dk_at dksX3_told_1 23 rfl rfl)
theorem dX3_told_48 : decode cX3_told 48 = .ok (.iconst 3, 1) := dk_6 (dk_at dksX3_told_2 0 rfl rfl)
theorem dX3_told_49 : decode cX3_told 49 = .ok (.isub, 1) := dk_100 (dk_at dksX3_told_2 1 rfl rfl)
theorem dX3_told_50 : decode cX3_told 50 = .ok (.aload_n 0, 1) := dk_42 (dk_at dksX3_told_2 2 rfl rfl)
theorem dX3_told_51 : decode cX3_told 51 = .ok (.invokevirtual 113, 3) := dk_182 0 113 (dk_at dksX3_told_2 3 rfl rfl)
theorem dX3_told_54 : decode cX3_told 54 = .ok (.aastore, 1) := dk_83 (dk_at dksX3_told_2 6 rfl rfl)
theorem dX3_told_55 : decode cX3_told 55 = .ok (.return_, 1) := dk_177 (dk_at dksX3_told_2 7 rfl rfl)
theorem dX3_told_56 : decode cX3_told 56 = .ok (.iload_n 1, 1) := dk_27 (dk_at dksX3_told_2 8 rfl rfl)
theorem dX3_told_57 : decode cX3_told 57 = .ok (.tableswitch 268 0 8 #[51, 115, 191, 268, 268, 268, 268, 224, 246], 51) := by decide +kernel
theorem dX3_told_108 : decode cX3_told 108 = .ok (.aload_n 0, 1) := dk_42 (dk_at dksX3_told_4 0 rfl rfl)
theorem dX3_told_109 : decode cX3_told 109 = .ok (.aload_n 0, 1) := dk_42 (dk_at dksX3_told_4 1 rfl rfl)
theorem dX3_told_110 : decode cX3_told 110 = .ok (.getfield 83, 3) := dk_180 0 83 (dk_at dksX3_told_4 2 rfl rfl)
theorem dX3_told_113 : decode cX3_told 113 = .ok (.getfield 117, 3) := dk_180 0 117 (dk_at dksX3_told_4 5 rfl rfl)
theorem dX3_told_116 : decode cX3_told 116 = .ok (.invokevirtual 121, 3) := dk_182 0 121 (dk_at dksX3_told_4 8 rfl rfl)
theorem dX3_told_119 : decode cX3_told 119 = .ok (.iconst 4, 1) := dk_7 (dk_at dksX3_told_4 11 rfl rfl)
theorem dX3_told_120 : decode cX3_told 120 = .ok (.invokevirtual 126, 3) := dk_182 0 126 (dk_at dksX3_told_4 12 rfl rfl)
theorem dX3_told_123 : decode cX3_told 123 = .ok (.new 129, 3) := dk_187 0 129 (dk_at dksX3_told_4 15 rfl rfl)
theorem dX3_told_126 : decode cX3_told 126 = .ok (.dup, 1) := dk_89 (dk_at dksX3_told_4 18 rfl rfl)
theorem dX3_told_127 : decode cX3_told 127 = .ok (.aload_n 0, 1) := dk_42 (dk_at dksX3_told_4 19 rfl rfl)
theorem dX3_told_128 : decode cX3_told 128 = .ok (.invokevirtual 131, 3) := dk_182 0 131 (dk_at dksX3_told_4 20 rfl rfl)
theorem dX3_told_131 : decode cX3_told 131 = .ok (.invokespecial 135, 3) := dk_183 0 135 (dk_at dksX3_told_5 0 rfl rfl)
theorem dX3_told_134 : decode cX3_told 134 = .ok (.astore_n 2, 1) := dk_77 (dk_at dksX3_told_5 3 rfl rfl)
theorem dX3_told_135 : decode cX3_told 135 = .ok (.aload_n 2, 1) := dk_44 (dk_at dksX3_told_5 4 rfl rfl)
theorem dX3_told_136 : decode cX3_told 136 = .ok (.aload_n 0, 1) := dk_42 (dk_at dksX3_told_5 5 rfl rfl)
theorem dX3_told_137 : decode cX3_told 137 = .ok (.iconst 1, 1) := dk_4 (dk_at dksX3_told_5 6 rfl rfl)
theorem dX3_told_138 : decode cX3_told 138 = .ok (.bipush 24, 2) := dk_16 24 (dk_at dksX3_told_5 7 rfl rfl)
theorem dX3_told_140 : decode cX3_told 140 = .ok (.invokevirtual 138, 3) := dk_182 0 138 (dk_at dksX3_told_5 9 rfl rfl)
theorem dX3_told_143 : decode cX3_told 143 = .ok (.putfield 141, 3) := dk_181 0 141 (dk_at dksX3_told_5 12 rfl rfl)
theorem dX3_told_146 : decode cX3_told 146 = .ok (.aload_n 2, 1) := dk_44 (dk_at dksX3_told_5 15 rfl rfl)
theorem dX3_told_147 : decode cX3_told 147 = .ok (.aload_n 0, 1) := dk_42 (dk_at dksX3_told_5 16 rfl rfl)
theorem dX3_told_148 : decode cX3_told 148 = .ok (.iconst 0, 1) := dk_3 (dk_at dksX3_told_5 17 rfl rfl)
theorem dX3_told_149 : decode cX3_told 149 = .ok (.bipush 99, 2) := dk_16 99 (dk_at dksX3_told_5 18 rfl rfl)
theorem dX3_told_151 : decode cX3_told 151 = .ok (.invokevirtual 138, 3) := dk_182 0 138 (dk_at dksX3_told_5 20 rfl rfl)
theorem dX3_told_154 : decode cX3_told 154 = .ok (.putfield 144, 3) := dk_181 0 144 (dk_at dksX3_told_6 0 rfl rfl)
theorem dX3_told_157 : decode cX3_told 157 = .ok (.aload_n 0, 1) := dk_42 (dk_at dksX3_told_6 3 rfl rfl)
theorem dX3_told_158 : decode cX3_told 158 = .ok (.getfield 83, 3) := dk_180 0 83 (dk_at dksX3_told_6 4 rfl rfl)
theorem dX3_told_161 : decode cX3_told 161 = .ok (.getfield 117, 3) := dk_180 0 117 (dk_at dksX3_told_6 7 rfl rfl)
theorem dX3_told_164 : decode cX3_told 164 = .ok (.aload_n 2, 1) := dk_44 (dk_at dksX3_told_6 10 rfl rfl)
theorem dX3_told_165 : decode cX3_told 165 = .ok (.invokevirtual 147, 3) := dk_182 0 147 (dk_at dksX3_told_6 11 rfl rfl)
theorem dX3_told_168 : decode cX3_told 168 = .ok (.pop, 1) := dk_87 (dk_at dksX3_told_6 14 rfl rfl)
theorem dX3_told_169 : decode cX3_told 169 = .ok (.goto 162, 3) := dk_167 0 162 (dk_at dksX3_told_6 15 rfl rfl)
theorem dX3_told_172 : decode cX3_told 172 = .ok (.aload_n 0, 1) := dk_42 (dk_at dksX3_told_6 18 rfl rfl)
theorem dX3_told_173 : decode cX3_told 173 = .ok (.aload_n 0, 1) := dk_42 (dk_at dksX3_told_6 19 rfl rfl)
theorem dX3_told_174 : decode cX3_told 174 = .ok (.getfield 83, 3) := dk_180 0 83 (dk_at dksX3_told_6 20 rfl rfl)
theorem dX3_told_177 : decode cX3_told 177 = .ok (.getfield 151, 3) := dk_180 0 151 (dk_at dksX3_told_7 0 rfl rfl)
theorem dX3_told_180 : decode cX3_told 180 = .ok (.invokevirtual 121, 3) := dk_182 0 121 (dk_at dksX3_told_7 3 rfl rfl)
theorem dX3_told_183 : decode cX3_told 183 = .ok (.bipush 7, 2) := dk_16 7 (dk_at dksX3_told_7 6 rfl rfl)
theorem dX3_told_185 : decode cX3_told 185 = .ok (.invokevirtual 126, 3) := dk_182 0 126 (dk_at dksX3_told_7 8 rfl rfl)
theorem dX3_told_188 : decode cX3_told 188 = .ok (.new 154, 3) := dk_187 0 154 (dk_at dksX3_told_7 11 rfl rfl)
theorem dX3_told_191 : decode cX3_told 191 = .ok (.dup, 1) := dk_89 (dk_at dksX3_told_7 14 rfl rfl)
theorem dX3_told_192 : decode cX3_told 192 = .ok (.aload_n 0, 1) := dk_42 (dk_at dksX3_told_7 15 rfl rfl)
theorem dX3_told_193 : decode cX3_told 193 = .ok (.invokevirtual 131, 3) := dk_182 0 131 (dk_at dksX3_told_7 16 rfl rfl)
theorem dX3_told_196 : decode cX3_told 196 = .ok (.invokespecial 156, 3) := dk_183 0 156 (dk_at dksX3_told_7 19 rfl rfl)
theorem dX3_told_199 : decode cX3_told 199 = .ok (.astore_n 2, 1) := dk_77 (dk_at dksX3_told_7 22 rfl rfl)
theorem dX3_told_200 : decode cX3_told 200 = .ok (.aload_n 2, 1) := dk_44 (dk_at dksX3_told_7 23 rfl rfl)
theorem dX3_told_201 : decode cX3_told 201 = .ok (.aload_n 0, 1) := dk_42 (dk_at dksX3_told_8 0 rfl rfl)
theorem dX3_told_202 : decode cX3_told 202 = .ok (.iconst 0, 1) := dk_3 (dk_at dksX3_told_8 1 rfl rfl)
theorem dX3_told_203 : decode cX3_told 203 = .ok (.bipush 23, 2) := dk_16 23 (dk_at dksX3_told_8 2 rfl rfl)
theorem dX3_told_205 : decode cX3_told 205 = .ok (.invokevirtual 138, 3) := dk_182 0 138 (dk_at dksX3_told_8 4 rfl rfl)
theorem dX3_told_208 : decode cX3_told 208 = .ok (.putfield 157, 3) := dk_181 0 157 (dk_at dksX3_told_8 7 rfl rfl)
theorem dX3_told_211 : decode cX3_told 211 = .ok (.aload_n 2, 1) := dk_44 (dk_at dksX3_told_8 10 rfl rfl)
theorem dX3_told_212 : decode cX3_told 212 = .ok (.aload_n 0, 1) := dk_42 (dk_at dksX3_told_8 11 rfl rfl)
theorem dX3_told_213 : decode cX3_told 213 = .ok (.iconst 1, 1) := dk_4 (dk_at dksX3_told_8 12 rfl rfl)
theorem dX3_told_214 : decode cX3_told 214 = .ok (.bipush 12, 2) := dk_16 12 (dk_at dksX3_told_8 13 rfl rfl)
theorem dX3_told_216 : decode cX3_told 216 = .ok (.invokevirtual 138, 3) := dk_182 0 138 (dk_at dksX3_told_8 15 rfl rfl)
theorem dX3_told_219 : decode cX3_told 219 = .ok (.putfield 160, 3) := dk_181 0 160 (dk_at dksX3_told_8 18 rfl rfl)
theorem dX3_told_222 : decode cX3_told 222 = .ok (.aload_n 2, 1) := dk_44 (dk_at dksX3_told_8 21 rfl rfl)
theorem dX3_told_223 : decode cX3_told 223 = .ok (.aload_n 0, 1) := dk_42 (dk_at dksX3_told_8 22 rfl rfl)
theorem dX3_told_224 : decode cX3_told 224 = .ok (.iconst 0, 1) := dk_3 (dk_at dksX3_told_8 23 rfl rfl)
theorem dX3_told_225 : decode cX3_told 225 = .ok (.bipush 99, 2) := dk_16 99 (dk_at dksX3_told_9 0 rfl rfl)
theorem dX3_told_227 : decode cX3_told 227 = .ok (.invokevirtual 138, 3) := dk_182 0 138 (dk_at dksX3_told_9 2 rfl rfl)
theorem dX3_told_230 : decode cX3_told 230 = .ok (.putfield 161, 3) := dk_181 0 161 (dk_at dksX3_told_9 5 rfl rfl)
theorem dX3_told_233 : decode cX3_told 233 = .ok (.aload_n 0, 1) := dk_42 (dk_at dksX3_told_9 8 rfl rfl)
theorem dX3_told_234 : decode cX3_told 234 = .ok (.getfield 83, 3) := dk_180 0 83 (dk_at dksX3_told_9 9 rfl rfl)
theorem dX3_told_237 : decode cX3_told 237 = .ok (.getfield 151, 3) := dk_180 0 151 (dk_at dksX3_told_9 12 rfl rfl)
theorem dX3_told_240 : decode cX3_told 240 = .ok (.aload_n 2, 1) := dk_44 (dk_at dksX3_told_9 15 rfl rfl)
theorem dX3_told_241 : decode cX3_told 241 = .ok (.invokevirtual 147, 3) := dk_182 0 147 (dk_at dksX3_told_9 16 rfl rfl)
theorem dX3_told_244 : decode cX3_told 244 = .ok (.pop, 1) := dk_87 (dk_at dksX3_told_9 19 rfl rfl)
theorem dX3_told_245 : decode cX3_told 245 = .ok (.goto 86, 3) := dk_167 0 86 (dk_at dksX3_told_9 20 rfl rfl)
theorem dX3_told_248 : decode cX3_told 248 = .ok (.aload_n 0, 1) := dk_42 (dk_at dksX3_told_9 23 rfl rfl)
theorem dX3_told_249 : decode cX3_told 249 = .ok (.aload_n 0, 1) := dk_42 (dk_at dksX3_told_10 0 rfl rfl)
theorem dX3_told_250 : decode cX3_told 250 = .ok (.getfield 83, 3) := dk_180 0 83 (dk_at dksX3_told_10 1 rfl rfl)
theorem dX3_told_253 : decode cX3_told 253 = .ok (.getfield 164, 3) := dk_180 0 164 (dk_at dksX3_told_10 4 rfl rfl)
theorem dX3_told_256 : decode cX3_told 256 = .ok (.bipush 8, 2) := dk_16 8 (dk_at dksX3_told_10 7 rfl rfl)
theorem dX3_told_258 : decode cX3_told 258 = .ok (.invokevirtual 126, 3) := dk_182 0 126 (dk_at dksX3_told_10 9 rfl rfl)
theorem dX3_told_261 : decode cX3_told 261 = .ok (.aload_n 0, 1) := dk_42 (dk_at dksX3_told_10 12 rfl rfl)
theorem dX3_told_262 : decode cX3_told 262 = .ok (.invokevirtual 167, 3) := dk_182 0 167 (dk_at dksX3_told_10 13 rfl rfl)
theorem dX3_told_265 : decode cX3_told 265 = .ok (.aload_n 0, 1) := dk_42 (dk_at dksX3_told_10 16 rfl rfl)
theorem dX3_told_266 : decode cX3_told 266 = .ok (.getfield 83, 3) := dk_180 0 83 (dk_at dksX3_told_10 17 rfl rfl)
theorem dX3_told_269 : decode cX3_told 269 = .ok (.dup, 1) := dk_89 (dk_at dksX3_told_10 20 rfl rfl)
theorem dX3_told_270 : decode cX3_told 270 = .ok (.getfield 164, 3) := dk_180 0 164 (dk_at dksX3_told_10 21 rfl rfl)
theorem dX3_told_273 : decode cX3_told 273 = .ok (.iconst 1, 1) := dk_4 (dk_at dksX3_told_11 0 rfl rfl)
theorem dX3_told_274 : decode cX3_told 274 = .ok (.iadd, 1) := dk_96 (dk_at dksX3_told_11 1 rfl rfl)
theorem dX3_told_275 : decode cX3_told 275 = .ok (.putfield 164, 3) := dk_181 0 164 (dk_at dksX3_told_11 2 rfl rfl)
theorem dX3_told_278 : decode cX3_told 278 = .ok (.goto 53, 3) := dk_167 0 53 (dk_at dksX3_told_11 5 rfl rfl)
theorem dX3_told_281 : decode cX3_told 281 = .ok (.aload_n 0, 1) := dk_42 (dk_at dksX3_told_11 8 rfl rfl)
theorem dX3_told_282 : decode cX3_told 282 = .ok (.invokevirtual 59, 3) := dk_182 0 59 (dk_at dksX3_told_11 9 rfl rfl)
theorem dX3_told_285 : decode cX3_told 285 = .ok (.aload_n 0, 1) := dk_42 (dk_at dksX3_told_11 12 rfl rfl)
theorem dX3_told_286 : decode cX3_told 286 = .ok (.getfield 83, 3) := dk_180 0 83 (dk_at dksX3_told_11 13 rfl rfl)
theorem dX3_told_289 : decode cX3_told 289 = .ok (.aload_n 0, 1) := dk_42 (dk_at dksX3_told_11 16 rfl rfl)
theorem dX3_told_290 : decode cX3_told 290 = .ok (.iconst 1, 1) := dk_4 (dk_at dksX3_told_11 17 rfl rfl)
theorem dX3_told_291 : decode cX3_told 291 = .ok (.sipush 999, 3) := dk_17 3 231 (dk_at dksX3_told_11 18 rfl rfl)
theorem dX3_told_294 : decode cX3_told 294 = .ok (.invokevirtual 138, 3) := dk_182 0 138 (dk_at dksX3_told_11 21 rfl rfl)
theorem dX3_told_297 : decode cX3_told 297 = .ok (.putfield 169, 3) := dk_181 0 169 (dk_at dksX3_told_12 0 rfl rfl)
theorem dX3_told_300 : decode cX3_told 300 = .ok (.goto 31, 3) := dk_167 0 31 (dk_at dksX3_told_12 3 rfl rfl)
theorem dX3_told_303 : decode cX3_told 303 = .ok (.aload_n 0, 1) := dk_42 (dk_at dksX3_told_12 6 rfl rfl)
theorem dX3_told_304 : decode cX3_told 304 = .ok (.invokevirtual 59, 3) := dk_182 0 59 (dk_at dksX3_told_12 7 rfl rfl)
theorem dX3_told_307 : decode cX3_told 307 = .ok (.aload_n 0, 1) := dk_42 (dk_at dksX3_told_12 10 rfl rfl)
theorem dX3_told_308 : decode cX3_told 308 = .ok (.getfield 83, 3) := dk_180 0 83 (dk_at dksX3_told_12 11 rfl rfl)
theorem dX3_told_311 : decode cX3_told 311 = .ok (.aload_n 0, 1) := dk_42 (dk_at dksX3_told_12 14 rfl rfl)
theorem dX3_told_312 : decode cX3_told 312 = .ok (.iconst 0, 1) := dk_3 (dk_at dksX3_told_12 15 rfl rfl)
theorem dX3_told_313 : decode cX3_told 313 = .ok (.sipush 9999, 3) := dk_17 39 15 (dk_at dksX3_told_12 16 rfl rfl)
theorem dX3_told_316 : decode cX3_told 316 = .ok (.invokevirtual 138, 3) := dk_182 0 138 (dk_at dksX3_told_12 19 rfl rfl)
theorem dX3_told_319 : decode cX3_told 319 = .ok (.putfield 172, 3) := dk_181 0 172 (dk_at dksX3_told_13 0 rfl rfl)
theorem dX3_told_322 : decode cX3_told 322 = .ok (.goto 9, 3) := dk_167 0 9 (dk_at dksX3_told_13 3 rfl rfl)
theorem dX3_told_325 : decode cX3_told 325 = .ok (.aload_n 0, 1) := dk_42 (dk_at dksX3_told_13 6 rfl rfl)
theorem dX3_told_326 : decode cX3_told 326 = .ok (.iconst 1, 1) := dk_4 (dk_at dksX3_told_13 7 rfl rfl)
theorem dX3_told_327 : decode cX3_told 327 = .ok (.invokevirtual 48, 3) := dk_182 0 48 (dk_at dksX3_told_13 8 rfl rfl)
theorem dX3_told_330 : decode cX3_told 330 = .ok (.athrow, 1) := dk_191 (dk_at dksX3_told_13 11 rfl rfl)
theorem dX3_told_331 : decode cX3_told 331 = .ok (.return_, 1) := dk_177 (dk_at dksX3_told_13 12 rfl rfl)
abbrev cX3_pass : ByteArray := prog_12_method_6_code
def yX3_pass : MethodName := ⟨RX3, "pass", "()V"⟩
def dkwX3_pass_1 : List UInt8 := [181, 0, 31, 177]
abbrev dktX3_pass_1 : List UInt8 := dkwX3_pass_1 ++ []
def dkwX3_pass_0 : List UInt8 := [42, 180, 0, 31, 17, 1, 144, 161, 0, 9, 42, 5, 182, 0, 48, 191, 42, 89, 180, 0, 31, 4, 96]
abbrev dktX3_pass_0 : List UInt8 := dkwX3_pass_0 ++ dktX3_pass_1
theorem dksX3_pass_0 : cX3_pass.data.toList.drop 0 = dktX3_pass_0 := by decide +kernel
theorem dksX3_pass_1 : cX3_pass.data.toList.drop 23 = dktX3_pass_1 := dk_seg dksX3_pass_0 23 rfl rfl
theorem dX3_pass_0 : decode cX3_pass 0 = .ok (.aload_n 0, 1) := dk_42 (dk_at dksX3_pass_0 0 rfl rfl)
theorem dX3_pass_1 : decode cX3_pass 1 = .ok (.getfield 31, 3) := dk_180 0 31 (dk_at dksX3_pass_0 1 rfl rfl)
theorem dX3_pass_4 : decode cX3_pass 4 = .ok (.sipush 400, 3) := dk_17 1 144 (dk_at dksX3_pass_0 4 rfl rfl)
theorem dX3_pass_7 : decode cX3_pass 7 = .ok (.if_icmp .lt 9, 3) := dk_161 0 9 (dk_at dksX3_pass_0 7 rfl rfl)
theorem dX3_pass_10 : decode cX3_pass 10 = .ok (.aload_n 0, 1) := dk_42 (dk_at dksX3_pass_0 10 rfl rfl)
theorem dX3_pass_11 : decode cX3_pass 11 = .ok (.iconst 2, 1) := dk_5 (dk_at dksX3_pass_0 11 rfl rfl)
theorem dX3_pass_12 : decode cX3_pass 12 = .ok (.invokevirtual 48, 3) := dk_182 0 48 (dk_at dksX3_pass_0 12 rfl rfl)
theorem dX3_pass_15 : decode cX3_pass 15 = .ok (.athrow, 1) := dk_191 (dk_at dksX3_pass_0 15 rfl rfl)
theorem dX3_pass_16 : decode cX3_pass 16 = .ok (.aload_n 0, 1) := dk_42 (dk_at dksX3_pass_0 16 rfl rfl)
theorem dX3_pass_17 : decode cX3_pass 17 = .ok (.dup, 1) := dk_89 (dk_at dksX3_pass_0 17 rfl rfl)
theorem dX3_pass_18 : decode cX3_pass 18 = .ok (.getfield 31, 3) := dk_180 0 31 (dk_at dksX3_pass_0 18 rfl rfl)
theorem dX3_pass_21 : decode cX3_pass 21 = .ok (.iconst 1, 1) := dk_4 (dk_at dksX3_pass_0 21 rfl rfl)
theorem dX3_pass_22 : decode cX3_pass 22 = .ok (.iadd, 1) := dk_96 (dk_at dksX3_pass_0 22 rfl rfl)
theorem dX3_pass_23 : decode cX3_pass 23 = .ok (.putfield 31, 3) := dk_181 0 31 (dk_at dksX3_pass_1 0 rfl rfl)
theorem dX3_pass_26 : decode cX3_pass 26 = .ok (.return_, 1) := dk_177 (dk_at dksX3_pass_1 3 rfl rfl)
abbrev cX3_law : ByteArray := prog_12_method_19_code
def yX3_law : MethodName := ⟨RX3, "law", "()LLentSundays$Law;"⟩
def dkwX3_law_4 : List UInt8 := [96, 181, 0, 187, 167, 255, 171, 43, 180, 0, 204, 43, 180, 0, 187, 42, 182, 0, 194, 83, 43, 176]
abbrev dktX3_law_4 : List UInt8 := dkwX3_law_4 ++ []
def dkwX3_law_3 : List UInt8 := [180, 0, 204, 43, 180, 0, 187, 42, 182, 0, 194, 83, 42, 16, 11, 182, 0, 201, 43, 89, 180, 0, 187, 4]
abbrev dktX3_law_3 : List UInt8 := dkwX3_law_3 ++ dktX3_law_4
def dkwX3_law_2 : List UInt8 := [182, 0, 105, 43, 180, 0, 198, 43, 180, 0, 187, 42, 182, 0, 194, 83, 42, 16, 10, 182, 0, 201, 43]
abbrev dktX3_law_2 : List UInt8 := dkwX3_law_2 ++ dktX3_law_3
def dkwX3_law_1 : List UInt8 := [43, 180, 0, 187, 7, 182, 0, 126, 43, 180, 0, 190, 43, 180, 0, 187, 42, 182, 0, 194, 83, 42, 16, 60]
abbrev dktX3_law_1 : List UInt8 := dkwX3_law_1 ++ dktX3_law_2
def dkwX3_law_0 : List UInt8 := [187, 0, 184, 89, 183, 0, 186, 76, 42, 16, 61, 182, 0, 105, 42, 16, 9, 182, 0, 62, 153, 0, 82, 42]
abbrev dktX3_law_0 : List UInt8 := dkwX3_law_0 ++ dktX3_law_1
theorem dksX3_law_0 : cX3_law.data.toList.drop 0 = dktX3_law_0 := by decide +kernel
theorem dksX3_law_1 : cX3_law.data.toList.drop 24 = dktX3_law_1 := dk_seg dksX3_law_0 24 rfl rfl
theorem dksX3_law_2 : cX3_law.data.toList.drop 48 = dktX3_law_2 := dk_seg dksX3_law_1 24 rfl rfl
theorem dksX3_law_3 : cX3_law.data.toList.drop 71 = dktX3_law_3 := dk_seg dksX3_law_2 23 rfl rfl
theorem dksX3_law_4 : cX3_law.data.toList.drop 95 = dktX3_law_4 := dk_seg dksX3_law_3 24 rfl rfl
theorem dX3_law_0 : decode cX3_law 0 = .ok (.new 184, 3) := dk_187 0 184 (dk_at dksX3_law_0 0 rfl rfl)
theorem dX3_law_3 : decode cX3_law 3 = .ok (.dup, 1) := dk_89 (dk_at dksX3_law_0 3 rfl rfl)
theorem dX3_law_4 : decode cX3_law 4 = .ok (.invokespecial 186, 3) := dk_183 0 186 (dk_at dksX3_law_0 4 rfl rfl)
theorem dX3_law_7 : decode cX3_law 7 = .ok (.astore_n 1, 1) := dk_76 (dk_at dksX3_law_0 7 rfl rfl)
theorem dX3_law_8 : decode cX3_law 8 = .ok (.aload_n 0, 1) := dk_42 (dk_at dksX3_law_0 8 rfl rfl)
theorem dX3_law_9 : decode cX3_law 9 = .ok (.bipush 61, 2) := dk_16 61 (dk_at dksX3_law_0 9 rfl rfl)
theorem dX3_law_11 : decode cX3_law 11 = .ok (.invokevirtual 105, 3) := dk_182 0 105 (dk_at dksX3_law_0 11 rfl rfl)
theorem dX3_law_14 : decode cX3_law 14 = .ok (.aload_n 0, 1) := dk_42 (dk_at dksX3_law_0 14 rfl rfl)
theorem dX3_law_15 : decode cX3_law 15 = .ok (.bipush 9, 2) := dk_16 9 (dk_at dksX3_law_0 15 rfl rfl)
theorem dX3_law_17 : decode cX3_law 17 = .ok (.invokevirtual 62, 3) := dk_182 0 62 (dk_at dksX3_law_0 17 rfl rfl)
theorem dX3_law_20 : decode cX3_law 20 = .ok (.ifCond .eq 82, 3) := dk_153 0 82 (dk_at dksX3_law_0 20 rfl rfl)
theorem dX3_law_23 : decode cX3_law 23 = .ok (.aload_n 0, 1) := dk_42 (dk_at dksX3_law_0 23 rfl rfl)
theorem dX3_law_24 : decode cX3_law 24 = .ok (.aload_n 1, 1) := dk_43 (dk_at dksX3_law_1 0 rfl rfl)
theorem dX3_law_25 : decode cX3_law 25 = .ok (.getfield 187, 3) := dk_180 0 187 (dk_at dksX3_law_1 1 rfl rfl)
theorem dX3_law_28 : decode cX3_law 28 = .ok (.iconst 4, 1) := dk_7 (dk_at dksX3_law_1 4 rfl rfl)
theorem dX3_law_29 : decode cX3_law 29 = .ok (.invokevirtual 126, 3) := dk_182 0 126 (dk_at dksX3_law_1 5 rfl rfl)
theorem dX3_law_32 : decode cX3_law 32 = .ok (.aload_n 1, 1) := dk_43 (dk_at dksX3_law_1 8 rfl rfl)
theorem dX3_law_33 : decode cX3_law 33 = .ok (.getfield 190, 3) := dk_180 0 190 (dk_at dksX3_law_1 9 rfl rfl)
theorem dX3_law_36 : decode cX3_law 36 = .ok (.aload_n 1, 1) := dk_43 (dk_at dksX3_law_1 12 rfl rfl)
theorem dX3_law_37 : decode cX3_law 37 = .ok (.getfield 187, 3) := dk_180 0 187 (dk_at dksX3_law_1 13 rfl rfl)
theorem dX3_law_40 : decode cX3_law 40 = .ok (.aload_n 0, 1) := dk_42 (dk_at dksX3_law_1 16 rfl rfl)
theorem dX3_law_41 : decode cX3_law 41 = .ok (.invokevirtual 194, 3) := dk_182 0 194 (dk_at dksX3_law_1 17 rfl rfl)
theorem dX3_law_44 : decode cX3_law 44 = .ok (.aastore, 1) := dk_83 (dk_at dksX3_law_1 20 rfl rfl)
theorem dX3_law_45 : decode cX3_law 45 = .ok (.aload_n 0, 1) := dk_42 (dk_at dksX3_law_1 21 rfl rfl)
theorem dX3_law_46 : decode cX3_law 46 = .ok (.bipush 60, 2) := dk_16 60 (dk_at dksX3_law_1 22 rfl rfl)
theorem dX3_law_48 : decode cX3_law 48 = .ok (.invokevirtual 105, 3) := dk_182 0 105 (dk_at dksX3_law_2 0 rfl rfl)
theorem dX3_law_51 : decode cX3_law 51 = .ok (.aload_n 1, 1) := dk_43 (dk_at dksX3_law_2 3 rfl rfl)
theorem dX3_law_52 : decode cX3_law 52 = .ok (.getfield 198, 3) := dk_180 0 198 (dk_at dksX3_law_2 4 rfl rfl)
theorem dX3_law_55 : decode cX3_law 55 = .ok (.aload_n 1, 1) := dk_43 (dk_at dksX3_law_2 7 rfl rfl)
theorem dX3_law_56 : decode cX3_law 56 = .ok (.getfield 187, 3) := dk_180 0 187 (dk_at dksX3_law_2 8 rfl rfl)
theorem dX3_law_59 : decode cX3_law 59 = .ok (.aload_n 0, 1) := dk_42 (dk_at dksX3_law_2 11 rfl rfl)
theorem dX3_law_60 : decode cX3_law 60 = .ok (.invokevirtual 194, 3) := dk_182 0 194 (dk_at dksX3_law_2 12 rfl rfl)
theorem dX3_law_63 : decode cX3_law 63 = .ok (.aastore, 1) := dk_83 (dk_at dksX3_law_2 15 rfl rfl)
theorem dX3_law_64 : decode cX3_law 64 = .ok (.aload_n 0, 1) := dk_42 (dk_at dksX3_law_2 16 rfl rfl)
theorem dX3_law_65 : decode cX3_law 65 = .ok (.bipush 10, 2) := dk_16 10 (dk_at dksX3_law_2 17 rfl rfl)
theorem dX3_law_67 : decode cX3_law 67 = .ok (.invokevirtual 201, 3) := dk_182 0 201 (dk_at dksX3_law_2 19 rfl rfl)
theorem dX3_law_70 : decode cX3_law 70 = .ok (.aload_n 1, 1) := dk_43 (dk_at dksX3_law_2 22 rfl rfl)
theorem dX3_law_71 : decode cX3_law 71 = .ok (.getfield 204, 3) := dk_180 0 204 (dk_at dksX3_law_3 0 rfl rfl)
theorem dX3_law_74 : decode cX3_law 74 = .ok (.aload_n 1, 1) := dk_43 (dk_at dksX3_law_3 3 rfl rfl)
theorem dX3_law_75 : decode cX3_law 75 = .ok (.getfield 187, 3) := dk_180 0 187 (dk_at dksX3_law_3 4 rfl rfl)
theorem dX3_law_78 : decode cX3_law 78 = .ok (.aload_n 0, 1) := dk_42 (dk_at dksX3_law_3 7 rfl rfl)
theorem dX3_law_79 : decode cX3_law 79 = .ok (.invokevirtual 194, 3) := dk_182 0 194 (dk_at dksX3_law_3 8 rfl rfl)
theorem dX3_law_82 : decode cX3_law 82 = .ok (.aastore, 1) := dk_83 (dk_at dksX3_law_3 11 rfl rfl)
theorem dX3_law_83 : decode cX3_law 83 = .ok (.aload_n 0, 1) := dk_42 (dk_at dksX3_law_3 12 rfl rfl)
theorem dX3_law_84 : decode cX3_law 84 = .ok (.bipush 11, 2) := dk_16 11 (dk_at dksX3_law_3 13 rfl rfl)
theorem dX3_law_86 : decode cX3_law 86 = .ok (.invokevirtual 201, 3) := dk_182 0 201 (dk_at dksX3_law_3 15 rfl rfl)
theorem dX3_law_89 : decode cX3_law 89 = .ok (.aload_n 1, 1) := dk_43 (dk_at dksX3_law_3 18 rfl rfl)
theorem dX3_law_90 : decode cX3_law 90 = .ok (.dup, 1) := dk_89 (dk_at dksX3_law_3 19 rfl rfl)
theorem dX3_law_91 : decode cX3_law 91 = .ok (.getfield 187, 3) := dk_180 0 187 (dk_at dksX3_law_3 20 rfl rfl)
theorem dX3_law_94 : decode cX3_law 94 = .ok (.iconst 1, 1) := dk_4 (dk_at dksX3_law_3 23 rfl rfl)
theorem dX3_law_95 : decode cX3_law 95 = .ok (.iadd, 1) := dk_96 (dk_at dksX3_law_4 0 rfl rfl)
theorem dX3_law_96 : decode cX3_law 96 = .ok (.putfield 187, 3) := dk_181 0 187 (dk_at dksX3_law_4 1 rfl rfl)
theorem dX3_law_99 : decode cX3_law 99 = .ok (.goto (-85), 3) := dk_167 255 171 (dk_at dksX3_law_4 4 rfl rfl)
theorem dX3_law_102 : decode cX3_law 102 = .ok (.aload_n 1, 1) := dk_43 (dk_at dksX3_law_4 7 rfl rfl)
theorem dX3_law_103 : decode cX3_law 103 = .ok (.getfield 204, 3) := dk_180 0 204 (dk_at dksX3_law_4 8 rfl rfl)
theorem dX3_law_106 : decode cX3_law 106 = .ok (.aload_n 1, 1) := dk_43 (dk_at dksX3_law_4 11 rfl rfl)
theorem dX3_law_107 : decode cX3_law 107 = .ok (.getfield 187, 3) := dk_180 0 187 (dk_at dksX3_law_4 12 rfl rfl)
theorem dX3_law_110 : decode cX3_law 110 = .ok (.aload_n 0, 1) := dk_42 (dk_at dksX3_law_4 15 rfl rfl)
theorem dX3_law_111 : decode cX3_law 111 = .ok (.invokevirtual 194, 3) := dk_182 0 194 (dk_at dksX3_law_4 16 rfl rfl)
theorem dX3_law_114 : decode cX3_law 114 = .ok (.aastore, 1) := dk_83 (dk_at dksX3_law_4 19 rfl rfl)
theorem dX3_law_115 : decode cX3_law 115 = .ok (.aload_n 1, 1) := dk_43 (dk_at dksX3_law_4 20 rfl rfl)
theorem dX3_law_116 : decode cX3_law 116 = .ok (.areturn, 1) := dk_176 (dk_at dksX3_law_4 21 rfl rfl)
abbrev cX3_sign : ByteArray := prog_12_method_9_code
def yX3_sign : MethodName := ⟨RX3, "sign", "(I)V"⟩
def dkwX3_sign_0 : List UInt8 := [42, 27, 182, 0, 55, 154, 0, 9, 42, 4, 182, 0, 48, 191, 42, 182, 0, 59, 177]
abbrev dktX3_sign_0 : List UInt8 := dkwX3_sign_0 ++ []
theorem dksX3_sign_0 : cX3_sign.data.toList.drop 0 = dktX3_sign_0 := by decide +kernel
theorem dX3_sign_0 : decode cX3_sign 0 = .ok (.aload_n 0, 1) := dk_42 (dk_at dksX3_sign_0 0 rfl rfl)
theorem dX3_sign_1 : decode cX3_sign 1 = .ok (.iload_n 1, 1) := dk_27 (dk_at dksX3_sign_0 1 rfl rfl)
theorem dX3_sign_2 : decode cX3_sign 2 = .ok (.invokevirtual 55, 3) := dk_182 0 55 (dk_at dksX3_sign_0 2 rfl rfl)
theorem dX3_sign_5 : decode cX3_sign 5 = .ok (.ifCond .ne 9, 3) := dk_154 0 9 (dk_at dksX3_sign_0 5 rfl rfl)
theorem dX3_sign_8 : decode cX3_sign 8 = .ok (.aload_n 0, 1) := dk_42 (dk_at dksX3_sign_0 8 rfl rfl)
theorem dX3_sign_9 : decode cX3_sign 9 = .ok (.iconst 1, 1) := dk_4 (dk_at dksX3_sign_0 9 rfl rfl)
theorem dX3_sign_10 : decode cX3_sign 10 = .ok (.invokevirtual 48, 3) := dk_182 0 48 (dk_at dksX3_sign_0 10 rfl rfl)
theorem dX3_sign_13 : decode cX3_sign 13 = .ok (.athrow, 1) := dk_191 (dk_at dksX3_sign_0 13 rfl rfl)
theorem dX3_sign_14 : decode cX3_sign 14 = .ok (.aload_n 0, 1) := dk_42 (dk_at dksX3_sign_0 14 rfl rfl)
theorem dX3_sign_15 : decode cX3_sign 15 = .ok (.invokevirtual 59, 3) := dk_182 0 59 (dk_at dksX3_sign_0 15 rfl rfl)
theorem dX3_sign_18 : decode cX3_sign 18 = .ok (.return_, 1) := dk_177 (dk_at dksX3_sign_0 18 rfl rfl)
abbrev cX3_isSign : ByteArray := prog_12_method_7_code
def yX3_isSign : MethodName := ⟨RX3, "isSign", "(I)Z"⟩
def dkwX3_isSign_1 : List UInt8 := [180, 0, 31, 53, 27, 160, 0, 7, 4, 167, 0, 4, 3, 172]
abbrev dktX3_isSign_1 : List UInt8 := dkwX3_isSign_1 ++ []
def dkwX3_isSign_0 : List UInt8 := [42, 180, 0, 9, 180, 0, 44, 42, 180, 0, 31, 51, 5, 160, 0, 23, 42, 180, 0, 9, 180, 0, 52, 42]
abbrev dktX3_isSign_0 : List UInt8 := dkwX3_isSign_0 ++ dktX3_isSign_1
theorem dksX3_isSign_0 : cX3_isSign.data.toList.drop 0 = dktX3_isSign_0 := by decide +kernel
theorem dksX3_isSign_1 : cX3_isSign.data.toList.drop 24 = dktX3_isSign_1 := dk_seg dksX3_isSign_0 24 rfl rfl
theorem dX3_isSign_0 : decode cX3_isSign 0 = .ok (.aload_n 0, 1) := dk_42 (dk_at dksX3_isSign_0 0 rfl rfl)
theorem dX3_isSign_1 : decode cX3_isSign 1 = .ok (.getfield 9, 3) := dk_180 0 9 (dk_at dksX3_isSign_0 1 rfl rfl)
theorem dX3_isSign_4 : decode cX3_isSign 4 = .ok (.getfield 44, 3) := dk_180 0 44 (dk_at dksX3_isSign_0 4 rfl rfl)
theorem dX3_isSign_7 : decode cX3_isSign 7 = .ok (.aload_n 0, 1) := dk_42 (dk_at dksX3_isSign_0 7 rfl rfl)
theorem dX3_isSign_8 : decode cX3_isSign 8 = .ok (.getfield 31, 3) := dk_180 0 31 (dk_at dksX3_isSign_0 8 rfl rfl)
theorem dX3_isSign_11 : decode cX3_isSign 11 = .ok (.baload, 1) := dk_51 (dk_at dksX3_isSign_0 11 rfl rfl)
theorem dX3_isSign_12 : decode cX3_isSign 12 = .ok (.iconst 2, 1) := dk_5 (dk_at dksX3_isSign_0 12 rfl rfl)
theorem dX3_isSign_13 : decode cX3_isSign 13 = .ok (.if_icmp .ne 23, 3) := dk_160 0 23 (dk_at dksX3_isSign_0 13 rfl rfl)
theorem dX3_isSign_16 : decode cX3_isSign 16 = .ok (.aload_n 0, 1) := dk_42 (dk_at dksX3_isSign_0 16 rfl rfl)
theorem dX3_isSign_17 : decode cX3_isSign 17 = .ok (.getfield 9, 3) := dk_180 0 9 (dk_at dksX3_isSign_0 17 rfl rfl)
theorem dX3_isSign_20 : decode cX3_isSign 20 = .ok (.getfield 52, 3) := dk_180 0 52 (dk_at dksX3_isSign_0 20 rfl rfl)
theorem dX3_isSign_23 : decode cX3_isSign 23 = .ok (.aload_n 0, 1) := dk_42 (dk_at dksX3_isSign_0 23 rfl rfl)
theorem dX3_isSign_24 : decode cX3_isSign 24 = .ok (.getfield 31, 3) := dk_180 0 31 (dk_at dksX3_isSign_1 0 rfl rfl)
theorem dX3_isSign_27 : decode cX3_isSign 27 = .ok (.saload, 1) := dk_53 (dk_at dksX3_isSign_1 3 rfl rfl)
theorem dX3_isSign_28 : decode cX3_isSign 28 = .ok (.iload_n 1, 1) := dk_27 (dk_at dksX3_isSign_1 4 rfl rfl)
theorem dX3_isSign_29 : decode cX3_isSign 29 = .ok (.if_icmp .ne 7, 3) := dk_160 0 7 (dk_at dksX3_isSign_1 5 rfl rfl)
theorem dX3_isSign_32 : decode cX3_isSign 32 = .ok (.iconst 1, 1) := dk_4 (dk_at dksX3_isSign_1 8 rfl rfl)
theorem dX3_isSign_33 : decode cX3_isSign 33 = .ok (.goto 4, 3) := dk_167 0 4 (dk_at dksX3_isSign_1 9 rfl rfl)
theorem dX3_isSign_36 : decode cX3_isSign 36 = .ok (.iconst 0, 1) := dk_3 (dk_at dksX3_isSign_1 12 rfl rfl)
theorem dX3_isSign_37 : decode cX3_isSign 37 = .ok (.ireturn, 1) := dk_172 (dk_at dksX3_isSign_1 13 rfl rfl)
abbrev cX3_isWord : ByteArray := prog_12_method_8_code
def yX3_isWord : MethodName := ⟨RX3, "isWord", "(I)Z"⟩
def dkwX3_isWord_1 : List UInt8 := [180, 0, 31, 53, 27, 160, 0, 7, 4, 167, 0, 4, 3, 172]
abbrev dktX3_isWord_1 : List UInt8 := dkwX3_isWord_1 ++ []
def dkwX3_isWord_0 : List UInt8 := [42, 180, 0, 9, 180, 0, 44, 42, 180, 0, 31, 51, 6, 160, 0, 23, 42, 180, 0, 9, 180, 0, 52, 42]
abbrev dktX3_isWord_0 : List UInt8 := dkwX3_isWord_0 ++ dktX3_isWord_1
theorem dksX3_isWord_0 : cX3_isWord.data.toList.drop 0 = dktX3_isWord_0 := by decide +kernel
theorem dksX3_isWord_1 : cX3_isWord.data.toList.drop 24 = dktX3_isWord_1 := dk_seg dksX3_isWord_0 24 rfl rfl
theorem dX3_isWord_0 : decode cX3_isWord 0 = .ok (.aload_n 0, 1) := dk_42 (dk_at dksX3_isWord_0 0 rfl rfl)
theorem dX3_isWord_1 : decode cX3_isWord 1 = .ok (.getfield 9, 3) := dk_180 0 9 (dk_at dksX3_isWord_0 1 rfl rfl)
theorem dX3_isWord_4 : decode cX3_isWord 4 = .ok (.getfield 44, 3) := dk_180 0 44 (dk_at dksX3_isWord_0 4 rfl rfl)
theorem dX3_isWord_7 : decode cX3_isWord 7 = .ok (.aload_n 0, 1) := dk_42 (dk_at dksX3_isWord_0 7 rfl rfl)
theorem dX3_isWord_8 : decode cX3_isWord 8 = .ok (.getfield 31, 3) := dk_180 0 31 (dk_at dksX3_isWord_0 8 rfl rfl)
theorem dX3_isWord_11 : decode cX3_isWord 11 = .ok (.baload, 1) := dk_51 (dk_at dksX3_isWord_0 11 rfl rfl)
theorem dX3_isWord_12 : decode cX3_isWord 12 = .ok (.iconst 3, 1) := dk_6 (dk_at dksX3_isWord_0 12 rfl rfl)
theorem dX3_isWord_13 : decode cX3_isWord 13 = .ok (.if_icmp .ne 23, 3) := dk_160 0 23 (dk_at dksX3_isWord_0 13 rfl rfl)
theorem dX3_isWord_16 : decode cX3_isWord 16 = .ok (.aload_n 0, 1) := dk_42 (dk_at dksX3_isWord_0 16 rfl rfl)
theorem dX3_isWord_17 : decode cX3_isWord 17 = .ok (.getfield 9, 3) := dk_180 0 9 (dk_at dksX3_isWord_0 17 rfl rfl)
theorem dX3_isWord_20 : decode cX3_isWord 20 = .ok (.getfield 52, 3) := dk_180 0 52 (dk_at dksX3_isWord_0 20 rfl rfl)
theorem dX3_isWord_23 : decode cX3_isWord 23 = .ok (.aload_n 0, 1) := dk_42 (dk_at dksX3_isWord_0 23 rfl rfl)
theorem dX3_isWord_24 : decode cX3_isWord 24 = .ok (.getfield 31, 3) := dk_180 0 31 (dk_at dksX3_isWord_1 0 rfl rfl)
theorem dX3_isWord_27 : decode cX3_isWord 27 = .ok (.saload, 1) := dk_53 (dk_at dksX3_isWord_1 3 rfl rfl)
theorem dX3_isWord_28 : decode cX3_isWord 28 = .ok (.iload_n 1, 1) := dk_27 (dk_at dksX3_isWord_1 4 rfl rfl)
theorem dX3_isWord_29 : decode cX3_isWord 29 = .ok (.if_icmp .ne 7, 3) := dk_160 0 7 (dk_at dksX3_isWord_1 5 rfl rfl)
theorem dX3_isWord_32 : decode cX3_isWord 32 = .ok (.iconst 1, 1) := dk_4 (dk_at dksX3_isWord_1 8 rfl rfl)
theorem dX3_isWord_33 : decode cX3_isWord 33 = .ok (.goto 4, 3) := dk_167 0 4 (dk_at dksX3_isWord_1 9 rfl rfl)
theorem dX3_isWord_36 : decode cX3_isWord 36 = .ok (.iconst 0, 1) := dk_3 (dk_at dksX3_isWord_1 12 rfl rfl)
theorem dX3_isWord_37 : decode cX3_isWord 37 = .ok (.ireturn, 1) := dk_172 (dk_at dksX3_isWord_1 13 rfl rfl)
abbrev cX3_begins : ByteArray := prog_12_method_15_code
def yX3_begins : MethodName := ⟨RX3, "begins", "(II)V"⟩
def dkwX3_begins_0 : List UInt8 := [27, 28, 160, 0, 9, 42, 5, 182, 0, 48, 191, 42, 182, 0, 59, 177]
abbrev dktX3_begins_0 : List UInt8 := dkwX3_begins_0 ++ []
theorem dksX3_begins_0 : cX3_begins.data.toList.drop 0 = dktX3_begins_0 := by decide +kernel
theorem dX3_begins_0 : decode cX3_begins 0 = .ok (.iload_n 1, 1) := dk_27 (dk_at dksX3_begins_0 0 rfl rfl)
theorem dX3_begins_1 : decode cX3_begins 1 = .ok (.iload_n 2, 1) := dk_28 (dk_at dksX3_begins_0 1 rfl rfl)
theorem dX3_begins_2 : decode cX3_begins 2 = .ok (.if_icmp .ne 9, 3) := dk_160 0 9 (dk_at dksX3_begins_0 2 rfl rfl)
theorem dX3_begins_5 : decode cX3_begins 5 = .ok (.aload_n 0, 1) := dk_42 (dk_at dksX3_begins_0 5 rfl rfl)
theorem dX3_begins_6 : decode cX3_begins 6 = .ok (.iconst 2, 1) := dk_5 (dk_at dksX3_begins_0 6 rfl rfl)
theorem dX3_begins_7 : decode cX3_begins 7 = .ok (.invokevirtual 48, 3) := dk_182 0 48 (dk_at dksX3_begins_0 7 rfl rfl)
theorem dX3_begins_10 : decode cX3_begins 10 = .ok (.athrow, 1) := dk_191 (dk_at dksX3_begins_0 10 rfl rfl)
theorem dX3_begins_11 : decode cX3_begins 11 = .ok (.aload_n 0, 1) := dk_42 (dk_at dksX3_begins_0 11 rfl rfl)
theorem dX3_begins_12 : decode cX3_begins 12 = .ok (.invokevirtual 59, 3) := dk_182 0 59 (dk_at dksX3_begins_0 12 rfl rfl)
theorem dX3_begins_15 : decode cX3_begins 15 = .ok (.return_, 1) := dk_177 (dk_at dksX3_begins_0 15 rfl rfl)
abbrev cX3_sum : ByteArray := prog_12_method_20_code
def yX3_sum : MethodName := ⟨RX3, "sum", "()LLentSundays$Sum;"⟩
def dkwX3_sum_2 : List UInt8 := [182, 0, 207, 183, 0, 212, 76, 167, 255, 207, 43, 176]
abbrev dktX3_sum_2 : List UInt8 := dkwX3_sum_2 ++ []
def dkwX3_sum_1 : List UInt8 := [180, 0, 9, 180, 0, 52, 42, 180, 0, 31, 53, 61, 42, 182, 0, 59, 187, 0, 210, 89, 28, 43, 42]
abbrev dktX3_sum_1 : List UInt8 := dkwX3_sum_1 ++ dktX3_sum_2
def dkwX3_sum_0 : List UInt8 := [42, 182, 0, 207, 76, 42, 16, 43, 182, 0, 55, 154, 0, 12, 42, 16, 45, 182, 0, 55, 153, 0, 37, 42]
abbrev dktX3_sum_0 : List UInt8 := dkwX3_sum_0 ++ dktX3_sum_1
theorem dksX3_sum_0 : cX3_sum.data.toList.drop 0 = dktX3_sum_0 := by decide +kernel
theorem dksX3_sum_1 : cX3_sum.data.toList.drop 24 = dktX3_sum_1 := dk_seg dksX3_sum_0 24 rfl rfl
theorem dksX3_sum_2 : cX3_sum.data.toList.drop 47 = dktX3_sum_2 := dk_seg dksX3_sum_1 23 rfl rfl
theorem dX3_sum_0 : decode cX3_sum 0 = .ok (.aload_n 0, 1) := dk_42 (dk_at dksX3_sum_0 0 rfl rfl)
theorem dX3_sum_1 : decode cX3_sum 1 = .ok (.invokevirtual 207, 3) := dk_182 0 207 (dk_at dksX3_sum_0 1 rfl rfl)
theorem dX3_sum_4 : decode cX3_sum 4 = .ok (.astore_n 1, 1) := dk_76 (dk_at dksX3_sum_0 4 rfl rfl)
theorem dX3_sum_5 : decode cX3_sum 5 = .ok (.aload_n 0, 1) := dk_42 (dk_at dksX3_sum_0 5 rfl rfl)
theorem dX3_sum_6 : decode cX3_sum 6 = .ok (.bipush 43, 2) := dk_16 43 (dk_at dksX3_sum_0 6 rfl rfl)
theorem dX3_sum_8 : decode cX3_sum 8 = .ok (.invokevirtual 55, 3) := dk_182 0 55 (dk_at dksX3_sum_0 8 rfl rfl)
theorem dX3_sum_11 : decode cX3_sum 11 = .ok (.ifCond .ne 12, 3) := dk_154 0 12 (dk_at dksX3_sum_0 11 rfl rfl)
theorem dX3_sum_14 : decode cX3_sum 14 = .ok (.aload_n 0, 1) := dk_42 (dk_at dksX3_sum_0 14 rfl rfl)
theorem dX3_sum_15 : decode cX3_sum 15 = .ok (.bipush 45, 2) := dk_16 45 (dk_at dksX3_sum_0 15 rfl rfl)
theorem dX3_sum_17 : decode cX3_sum 17 = .ok (.invokevirtual 55, 3) := dk_182 0 55 (dk_at dksX3_sum_0 17 rfl rfl)
theorem dX3_sum_20 : decode cX3_sum 20 = .ok (.ifCond .eq 37, 3) := dk_153 0 37 (dk_at dksX3_sum_0 20 rfl rfl)
theorem dX3_sum_23 : decode cX3_sum 23 = .ok (.aload_n 0, 1) := dk_42 (dk_at dksX3_sum_0 23 rfl rfl)
theorem dX3_sum_24 : decode cX3_sum 24 = .ok (.getfield 9, 3) := dk_180 0 9 (dk_at dksX3_sum_1 0 rfl rfl)
theorem dX3_sum_27 : decode cX3_sum 27 = .ok (.getfield 52, 3) := dk_180 0 52 (dk_at dksX3_sum_1 3 rfl rfl)
theorem dX3_sum_30 : decode cX3_sum 30 = .ok (.aload_n 0, 1) := dk_42 (dk_at dksX3_sum_1 6 rfl rfl)
theorem dX3_sum_31 : decode cX3_sum 31 = .ok (.getfield 31, 3) := dk_180 0 31 (dk_at dksX3_sum_1 7 rfl rfl)
theorem dX3_sum_34 : decode cX3_sum 34 = .ok (.saload, 1) := dk_53 (dk_at dksX3_sum_1 10 rfl rfl)
theorem dX3_sum_35 : decode cX3_sum 35 = .ok (.istore_n 2, 1) := dk_61 (dk_at dksX3_sum_1 11 rfl rfl)
theorem dX3_sum_36 : decode cX3_sum 36 = .ok (.aload_n 0, 1) := dk_42 (dk_at dksX3_sum_1 12 rfl rfl)
theorem dX3_sum_37 : decode cX3_sum 37 = .ok (.invokevirtual 59, 3) := dk_182 0 59 (dk_at dksX3_sum_1 13 rfl rfl)
theorem dX3_sum_40 : decode cX3_sum 40 = .ok (.new 210, 3) := dk_187 0 210 (dk_at dksX3_sum_1 16 rfl rfl)
theorem dX3_sum_43 : decode cX3_sum 43 = .ok (.dup, 1) := dk_89 (dk_at dksX3_sum_1 19 rfl rfl)
theorem dX3_sum_44 : decode cX3_sum 44 = .ok (.iload_n 2, 1) := dk_28 (dk_at dksX3_sum_1 20 rfl rfl)
theorem dX3_sum_45 : decode cX3_sum 45 = .ok (.aload_n 1, 1) := dk_43 (dk_at dksX3_sum_1 21 rfl rfl)
theorem dX3_sum_46 : decode cX3_sum 46 = .ok (.aload_n 0, 1) := dk_42 (dk_at dksX3_sum_1 22 rfl rfl)
theorem dX3_sum_47 : decode cX3_sum 47 = .ok (.invokevirtual 207, 3) := dk_182 0 207 (dk_at dksX3_sum_2 0 rfl rfl)
theorem dX3_sum_50 : decode cX3_sum 50 = .ok (.invokespecial 212, 3) := dk_183 0 212 (dk_at dksX3_sum_2 3 rfl rfl)
theorem dX3_sum_53 : decode cX3_sum 53 = .ok (.astore_n 1, 1) := dk_76 (dk_at dksX3_sum_2 6 rfl rfl)
theorem dX3_sum_54 : decode cX3_sum 54 = .ok (.goto (-49), 3) := dk_167 255 207 (dk_at dksX3_sum_2 7 rfl rfl)
theorem dX3_sum_57 : decode cX3_sum 57 = .ok (.aload_n 1, 1) := dk_43 (dk_at dksX3_sum_2 10 rfl rfl)
theorem dX3_sum_58 : decode cX3_sum 58 = .ok (.areturn, 1) := dk_176 (dk_at dksX3_sum_2 11 rfl rfl)
abbrev cX3_part : ByteArray := prog_12_method_21_code
def yX3_part : MethodName := ⟨RX3, "part", "()LLentSundays$Sum;"⟩
def dkwX3_part_2 : List UInt8 := [182, 0, 215, 183, 0, 212, 76, 167, 255, 207, 43, 176]
abbrev dktX3_part_2 : List UInt8 := dkwX3_part_2 ++ []
def dkwX3_part_1 : List UInt8 := [180, 0, 9, 180, 0, 52, 42, 180, 0, 31, 53, 61, 42, 182, 0, 59, 187, 0, 210, 89, 28, 43, 42]
abbrev dktX3_part_1 : List UInt8 := dkwX3_part_1 ++ dktX3_part_2
def dkwX3_part_0 : List UInt8 := [42, 182, 0, 215, 76, 42, 16, 42, 182, 0, 55, 154, 0, 12, 42, 16, 47, 182, 0, 55, 153, 0, 37, 42]
abbrev dktX3_part_0 : List UInt8 := dkwX3_part_0 ++ dktX3_part_1
theorem dksX3_part_0 : cX3_part.data.toList.drop 0 = dktX3_part_0 := by decide +kernel
theorem dksX3_part_1 : cX3_part.data.toList.drop 24 = dktX3_part_1 := dk_seg dksX3_part_0 24 rfl rfl
theorem dksX3_part_2 : cX3_part.data.toList.drop 47 = dktX3_part_2 := dk_seg dksX3_part_1 23 rfl rfl
theorem dX3_part_0 : decode cX3_part 0 = .ok (.aload_n 0, 1) := dk_42 (dk_at dksX3_part_0 0 rfl rfl)
theorem dX3_part_1 : decode cX3_part 1 = .ok (.invokevirtual 215, 3) := dk_182 0 215 (dk_at dksX3_part_0 1 rfl rfl)
theorem dX3_part_4 : decode cX3_part 4 = .ok (.astore_n 1, 1) := dk_76 (dk_at dksX3_part_0 4 rfl rfl)
theorem dX3_part_5 : decode cX3_part 5 = .ok (.aload_n 0, 1) := dk_42 (dk_at dksX3_part_0 5 rfl rfl)
theorem dX3_part_6 : decode cX3_part 6 = .ok (.bipush 42, 2) := dk_16 42 (dk_at dksX3_part_0 6 rfl rfl)
theorem dX3_part_8 : decode cX3_part 8 = .ok (.invokevirtual 55, 3) := dk_182 0 55 (dk_at dksX3_part_0 8 rfl rfl)
theorem dX3_part_11 : decode cX3_part 11 = .ok (.ifCond .ne 12, 3) := dk_154 0 12 (dk_at dksX3_part_0 11 rfl rfl)
theorem dX3_part_14 : decode cX3_part 14 = .ok (.aload_n 0, 1) := dk_42 (dk_at dksX3_part_0 14 rfl rfl)
theorem dX3_part_15 : decode cX3_part 15 = .ok (.bipush 47, 2) := dk_16 47 (dk_at dksX3_part_0 15 rfl rfl)
theorem dX3_part_17 : decode cX3_part 17 = .ok (.invokevirtual 55, 3) := dk_182 0 55 (dk_at dksX3_part_0 17 rfl rfl)
theorem dX3_part_20 : decode cX3_part 20 = .ok (.ifCond .eq 37, 3) := dk_153 0 37 (dk_at dksX3_part_0 20 rfl rfl)
theorem dX3_part_23 : decode cX3_part 23 = .ok (.aload_n 0, 1) := dk_42 (dk_at dksX3_part_0 23 rfl rfl)
theorem dX3_part_24 : decode cX3_part 24 = .ok (.getfield 9, 3) := dk_180 0 9 (dk_at dksX3_part_1 0 rfl rfl)
theorem dX3_part_27 : decode cX3_part 27 = .ok (.getfield 52, 3) := dk_180 0 52 (dk_at dksX3_part_1 3 rfl rfl)
theorem dX3_part_30 : decode cX3_part 30 = .ok (.aload_n 0, 1) := dk_42 (dk_at dksX3_part_1 6 rfl rfl)
theorem dX3_part_31 : decode cX3_part 31 = .ok (.getfield 31, 3) := dk_180 0 31 (dk_at dksX3_part_1 7 rfl rfl)
theorem dX3_part_34 : decode cX3_part 34 = .ok (.saload, 1) := dk_53 (dk_at dksX3_part_1 10 rfl rfl)
theorem dX3_part_35 : decode cX3_part 35 = .ok (.istore_n 2, 1) := dk_61 (dk_at dksX3_part_1 11 rfl rfl)
theorem dX3_part_36 : decode cX3_part 36 = .ok (.aload_n 0, 1) := dk_42 (dk_at dksX3_part_1 12 rfl rfl)
theorem dX3_part_37 : decode cX3_part 37 = .ok (.invokevirtual 59, 3) := dk_182 0 59 (dk_at dksX3_part_1 13 rfl rfl)
theorem dX3_part_40 : decode cX3_part 40 = .ok (.new 210, 3) := dk_187 0 210 (dk_at dksX3_part_1 16 rfl rfl)
theorem dX3_part_43 : decode cX3_part 43 = .ok (.dup, 1) := dk_89 (dk_at dksX3_part_1 19 rfl rfl)
theorem dX3_part_44 : decode cX3_part 44 = .ok (.iload_n 2, 1) := dk_28 (dk_at dksX3_part_1 20 rfl rfl)
theorem dX3_part_45 : decode cX3_part 45 = .ok (.aload_n 1, 1) := dk_43 (dk_at dksX3_part_1 21 rfl rfl)
theorem dX3_part_46 : decode cX3_part 46 = .ok (.aload_n 0, 1) := dk_42 (dk_at dksX3_part_1 22 rfl rfl)
theorem dX3_part_47 : decode cX3_part 47 = .ok (.invokevirtual 215, 3) := dk_182 0 215 (dk_at dksX3_part_2 0 rfl rfl)
theorem dX3_part_50 : decode cX3_part 50 = .ok (.invokespecial 212, 3) := dk_183 0 212 (dk_at dksX3_part_2 3 rfl rfl)
theorem dX3_part_53 : decode cX3_part 53 = .ok (.astore_n 1, 1) := dk_76 (dk_at dksX3_part_2 6 rfl rfl)
theorem dX3_part_54 : decode cX3_part 54 = .ok (.goto (-49), 3) := dk_167 255 207 (dk_at dksX3_part_2 7 rfl rfl)
theorem dX3_part_57 : decode cX3_part 57 = .ok (.aload_n 1, 1) := dk_43 (dk_at dksX3_part_2 10 rfl rfl)
theorem dX3_part_58 : decode cX3_part 58 = .ok (.areturn, 1) := dk_176 (dk_at dksX3_part_2 11 rfl rfl)
abbrev cX3_unit : ByteArray := prog_12_method_22_code
def yX3_unit : MethodName := ⟨RX3, "unit", "()LLentSundays$Sum;"⟩
def dkwX3_unit_6 : List UInt8 := [182, 0, 105, 42, 89, 180, 0, 99, 4, 100, 181, 0, 99, 43, 176]
abbrev dktX3_unit_6 : List UInt8 := dkwX3_unit_6 ++ []
def dkwX3_unit_5 : List UInt8 := [42, 89, 180, 0, 99, 4, 96, 181, 0, 99, 42, 182, 0, 59, 42, 182, 0, 194, 76, 42, 16, 41]
abbrev dktX3_unit_5 : List UInt8 := dkwX3_unit_5 ++ dktX3_unit_6
def dkwX3_unit_4 : List UInt8 := [154, 0, 9, 42, 4, 182, 0, 48, 191, 42, 180, 0, 99, 16, 6, 160, 0, 9, 42, 5, 182, 0, 48, 191]
abbrev dktX3_unit_4 : List UInt8 := dkwX3_unit_4 ++ dktX3_unit_5
def dkwX3_unit_3 : List UInt8 := [180, 0, 52, 42, 180, 0, 31, 4, 100, 53, 16, 12, 100, 183, 0, 224, 176, 42, 16, 40, 182, 0, 55]
abbrev dktX3_unit_3 : List UInt8 := dkwX3_unit_3 ++ dktX3_unit_4
def dkwX3_unit_2 : List UInt8 := [42, 180, 0, 31, 53, 16, 12, 161, 0, 32, 42, 182, 0, 59, 187, 0, 222, 89, 42, 180, 0, 9]
abbrev dktX3_unit_2 : List UInt8 := dkwX3_unit_2 ++ dktX3_unit_3
def dkwX3_unit_1 : List UInt8 := [4, 100, 182, 0, 72, 183, 0, 220, 176, 42, 182, 0, 65, 6, 160, 0, 49, 42, 180, 0, 9, 180, 0, 52]
abbrev dktX3_unit_1 : List UInt8 := dkwX3_unit_1 ++ dktX3_unit_2
def dkwX3_unit_0 : List UInt8 := [42, 182, 0, 65, 4, 160, 0, 28, 42, 182, 0, 59, 187, 0, 218, 89, 42, 180, 0, 9, 42, 180, 0, 31]
abbrev dktX3_unit_0 : List UInt8 := dkwX3_unit_0 ++ dktX3_unit_1
theorem dksX3_unit_0 : cX3_unit.data.toList.drop 0 = dktX3_unit_0 := by decide +kernel
theorem dksX3_unit_1 : cX3_unit.data.toList.drop 24 = dktX3_unit_1 := dk_seg dksX3_unit_0 24 rfl rfl
theorem dksX3_unit_2 : cX3_unit.data.toList.drop 48 = dktX3_unit_2 := dk_seg dksX3_unit_1 24 rfl rfl
theorem dksX3_unit_3 : cX3_unit.data.toList.drop 70 = dktX3_unit_3 := dk_seg dksX3_unit_2 22 rfl rfl
theorem dksX3_unit_4 : cX3_unit.data.toList.drop 93 = dktX3_unit_4 := dk_seg dksX3_unit_3 23 rfl rfl
theorem dksX3_unit_5 : cX3_unit.data.toList.drop 117 = dktX3_unit_5 := dk_seg dksX3_unit_4 24 rfl rfl
theorem dksX3_unit_6 : cX3_unit.data.toList.drop 139 = dktX3_unit_6 := dk_seg dksX3_unit_5 22 rfl rfl
theorem dX3_unit_0 : decode cX3_unit 0 = .ok (.aload_n 0, 1) := dk_42 (dk_at dksX3_unit_0 0 rfl rfl)
theorem dX3_unit_1 : decode cX3_unit 1 = .ok (.invokevirtual 65, 3) := dk_182 0 65 (dk_at dksX3_unit_0 1 rfl rfl)
theorem dX3_unit_4 : decode cX3_unit 4 = .ok (.iconst 1, 1) := dk_4 (dk_at dksX3_unit_0 4 rfl rfl)
theorem dX3_unit_5 : decode cX3_unit 5 = .ok (.if_icmp .ne 28, 3) := dk_160 0 28 (dk_at dksX3_unit_0 5 rfl rfl)
theorem dX3_unit_8 : decode cX3_unit 8 = .ok (.aload_n 0, 1) := dk_42 (dk_at dksX3_unit_0 8 rfl rfl)
theorem dX3_unit_9 : decode cX3_unit 9 = .ok (.invokevirtual 59, 3) := dk_182 0 59 (dk_at dksX3_unit_0 9 rfl rfl)
theorem dX3_unit_12 : decode cX3_unit 12 = .ok (.new 218, 3) := dk_187 0 218 (dk_at dksX3_unit_0 12 rfl rfl)
theorem dX3_unit_15 : decode cX3_unit 15 = .ok (.dup, 1) := dk_89 (dk_at dksX3_unit_0 15 rfl rfl)
theorem dX3_unit_16 : decode cX3_unit 16 = .ok (.aload_n 0, 1) := dk_42 (dk_at dksX3_unit_0 16 rfl rfl)
theorem dX3_unit_17 : decode cX3_unit 17 = .ok (.getfield 9, 3) := dk_180 0 9 (dk_at dksX3_unit_0 17 rfl rfl)
theorem dX3_unit_20 : decode cX3_unit 20 = .ok (.aload_n 0, 1) := dk_42 (dk_at dksX3_unit_0 20 rfl rfl)
theorem dX3_unit_21 : decode cX3_unit 21 = .ok (.getfield 31, 3) := dk_180 0 31 (dk_at dksX3_unit_0 21 rfl rfl)
theorem dX3_unit_24 : decode cX3_unit 24 = .ok (.iconst 1, 1) := dk_4 (dk_at dksX3_unit_1 0 rfl rfl)
theorem dX3_unit_25 : decode cX3_unit 25 = .ok (.isub, 1) := dk_100 (dk_at dksX3_unit_1 1 rfl rfl)
theorem dX3_unit_26 : decode cX3_unit 26 = .ok (.invokevirtual 72, 3) := dk_182 0 72 (dk_at dksX3_unit_1 2 rfl rfl)
theorem dX3_unit_29 : decode cX3_unit 29 = .ok (.invokespecial 220, 3) := dk_183 0 220 (dk_at dksX3_unit_1 5 rfl rfl)
theorem dX3_unit_32 : decode cX3_unit 32 = .ok (.areturn, 1) := dk_176 (dk_at dksX3_unit_1 8 rfl rfl)
theorem dX3_unit_33 : decode cX3_unit 33 = .ok (.aload_n 0, 1) := dk_42 (dk_at dksX3_unit_1 9 rfl rfl)
theorem dX3_unit_34 : decode cX3_unit 34 = .ok (.invokevirtual 65, 3) := dk_182 0 65 (dk_at dksX3_unit_1 10 rfl rfl)
theorem dX3_unit_37 : decode cX3_unit 37 = .ok (.iconst 3, 1) := dk_6 (dk_at dksX3_unit_1 13 rfl rfl)
theorem dX3_unit_38 : decode cX3_unit 38 = .ok (.if_icmp .ne 49, 3) := dk_160 0 49 (dk_at dksX3_unit_1 14 rfl rfl)
theorem dX3_unit_41 : decode cX3_unit 41 = .ok (.aload_n 0, 1) := dk_42 (dk_at dksX3_unit_1 17 rfl rfl)
theorem dX3_unit_42 : decode cX3_unit 42 = .ok (.getfield 9, 3) := dk_180 0 9 (dk_at dksX3_unit_1 18 rfl rfl)
theorem dX3_unit_45 : decode cX3_unit 45 = .ok (.getfield 52, 3) := dk_180 0 52 (dk_at dksX3_unit_1 21 rfl rfl)
theorem dX3_unit_48 : decode cX3_unit 48 = .ok (.aload_n 0, 1) := dk_42 (dk_at dksX3_unit_2 0 rfl rfl)
theorem dX3_unit_49 : decode cX3_unit 49 = .ok (.getfield 31, 3) := dk_180 0 31 (dk_at dksX3_unit_2 1 rfl rfl)
theorem dX3_unit_52 : decode cX3_unit 52 = .ok (.saload, 1) := dk_53 (dk_at dksX3_unit_2 4 rfl rfl)
theorem dX3_unit_53 : decode cX3_unit 53 = .ok (.bipush 12, 2) := dk_16 12 (dk_at dksX3_unit_2 5 rfl rfl)
theorem dX3_unit_55 : decode cX3_unit 55 = .ok (.if_icmp .lt 32, 3) := dk_161 0 32 (dk_at dksX3_unit_2 7 rfl rfl)
theorem dX3_unit_58 : decode cX3_unit 58 = .ok (.aload_n 0, 1) := dk_42 (dk_at dksX3_unit_2 10 rfl rfl)
theorem dX3_unit_59 : decode cX3_unit 59 = .ok (.invokevirtual 59, 3) := dk_182 0 59 (dk_at dksX3_unit_2 11 rfl rfl)
theorem dX3_unit_62 : decode cX3_unit 62 = .ok (.new 222, 3) := dk_187 0 222 (dk_at dksX3_unit_2 14 rfl rfl)
theorem dX3_unit_65 : decode cX3_unit 65 = .ok (.dup, 1) := dk_89 (dk_at dksX3_unit_2 17 rfl rfl)
theorem dX3_unit_66 : decode cX3_unit 66 = .ok (.aload_n 0, 1) := dk_42 (dk_at dksX3_unit_2 18 rfl rfl)
theorem dX3_unit_67 : decode cX3_unit 67 = .ok (.getfield 9, 3) := dk_180 0 9 (dk_at dksX3_unit_2 19 rfl rfl)
theorem dX3_unit_70 : decode cX3_unit 70 = .ok (.getfield 52, 3) := dk_180 0 52 (dk_at dksX3_unit_3 0 rfl rfl)
theorem dX3_unit_73 : decode cX3_unit 73 = .ok (.aload_n 0, 1) := dk_42 (dk_at dksX3_unit_3 3 rfl rfl)
theorem dX3_unit_74 : decode cX3_unit 74 = .ok (.getfield 31, 3) := dk_180 0 31 (dk_at dksX3_unit_3 4 rfl rfl)
theorem dX3_unit_77 : decode cX3_unit 77 = .ok (.iconst 1, 1) := dk_4 (dk_at dksX3_unit_3 7 rfl rfl)
theorem dX3_unit_78 : decode cX3_unit 78 = .ok (.isub, 1) := dk_100 (dk_at dksX3_unit_3 8 rfl rfl)
theorem dX3_unit_79 : decode cX3_unit 79 = .ok (.saload, 1) := dk_53 (dk_at dksX3_unit_3 9 rfl rfl)
theorem dX3_unit_80 : decode cX3_unit 80 = .ok (.bipush 12, 2) := dk_16 12 (dk_at dksX3_unit_3 10 rfl rfl)
theorem dX3_unit_82 : decode cX3_unit 82 = .ok (.isub, 1) := dk_100 (dk_at dksX3_unit_3 12 rfl rfl)
theorem dX3_unit_83 : decode cX3_unit 83 = .ok (.invokespecial 224, 3) := dk_183 0 224 (dk_at dksX3_unit_3 13 rfl rfl)
theorem dX3_unit_86 : decode cX3_unit 86 = .ok (.areturn, 1) := dk_176 (dk_at dksX3_unit_3 16 rfl rfl)
theorem dX3_unit_87 : decode cX3_unit 87 = .ok (.aload_n 0, 1) := dk_42 (dk_at dksX3_unit_3 17 rfl rfl)
theorem dX3_unit_88 : decode cX3_unit 88 = .ok (.bipush 40, 2) := dk_16 40 (dk_at dksX3_unit_3 18 rfl rfl)
theorem dX3_unit_90 : decode cX3_unit 90 = .ok (.invokevirtual 55, 3) := dk_182 0 55 (dk_at dksX3_unit_3 20 rfl rfl)
theorem dX3_unit_93 : decode cX3_unit 93 = .ok (.ifCond .ne 9, 3) := dk_154 0 9 (dk_at dksX3_unit_4 0 rfl rfl)
theorem dX3_unit_96 : decode cX3_unit 96 = .ok (.aload_n 0, 1) := dk_42 (dk_at dksX3_unit_4 3 rfl rfl)
theorem dX3_unit_97 : decode cX3_unit 97 = .ok (.iconst 1, 1) := dk_4 (dk_at dksX3_unit_4 4 rfl rfl)
theorem dX3_unit_98 : decode cX3_unit 98 = .ok (.invokevirtual 48, 3) := dk_182 0 48 (dk_at dksX3_unit_4 5 rfl rfl)
theorem dX3_unit_101 : decode cX3_unit 101 = .ok (.athrow, 1) := dk_191 (dk_at dksX3_unit_4 8 rfl rfl)
theorem dX3_unit_102 : decode cX3_unit 102 = .ok (.aload_n 0, 1) := dk_42 (dk_at dksX3_unit_4 9 rfl rfl)
theorem dX3_unit_103 : decode cX3_unit 103 = .ok (.getfield 99, 3) := dk_180 0 99 (dk_at dksX3_unit_4 10 rfl rfl)
theorem dX3_unit_106 : decode cX3_unit 106 = .ok (.bipush 6, 2) := dk_16 6 (dk_at dksX3_unit_4 13 rfl rfl)
theorem dX3_unit_108 : decode cX3_unit 108 = .ok (.if_icmp .ne 9, 3) := dk_160 0 9 (dk_at dksX3_unit_4 15 rfl rfl)
theorem dX3_unit_111 : decode cX3_unit 111 = .ok (.aload_n 0, 1) := dk_42 (dk_at dksX3_unit_4 18 rfl rfl)
theorem dX3_unit_112 : decode cX3_unit 112 = .ok (.iconst 2, 1) := dk_5 (dk_at dksX3_unit_4 19 rfl rfl)
theorem dX3_unit_113 : decode cX3_unit 113 = .ok (.invokevirtual 48, 3) := dk_182 0 48 (dk_at dksX3_unit_4 20 rfl rfl)
theorem dX3_unit_116 : decode cX3_unit 116 = .ok (.athrow, 1) := dk_191 (dk_at dksX3_unit_4 23 rfl rfl)
theorem dX3_unit_117 : decode cX3_unit 117 = .ok (.aload_n 0, 1) := dk_42 (dk_at dksX3_unit_5 0 rfl rfl)
theorem dX3_unit_118 : decode cX3_unit 118 = .ok (.dup, 1) := dk_89 (dk_at dksX3_unit_5 1 rfl rfl)
theorem dX3_unit_119 : decode cX3_unit 119 = .ok (.getfield 99, 3) := dk_180 0 99 (dk_at dksX3_unit_5 2 rfl rfl)
theorem dX3_unit_122 : decode cX3_unit 122 = .ok (.iconst 1, 1) := dk_4 (dk_at dksX3_unit_5 5 rfl rfl)
theorem dX3_unit_123 : decode cX3_unit 123 = .ok (.iadd, 1) := dk_96 (dk_at dksX3_unit_5 6 rfl rfl)
theorem dX3_unit_124 : decode cX3_unit 124 = .ok (.putfield 99, 3) := dk_181 0 99 (dk_at dksX3_unit_5 7 rfl rfl)
theorem dX3_unit_127 : decode cX3_unit 127 = .ok (.aload_n 0, 1) := dk_42 (dk_at dksX3_unit_5 10 rfl rfl)
theorem dX3_unit_128 : decode cX3_unit 128 = .ok (.invokevirtual 59, 3) := dk_182 0 59 (dk_at dksX3_unit_5 11 rfl rfl)
theorem dX3_unit_131 : decode cX3_unit 131 = .ok (.aload_n 0, 1) := dk_42 (dk_at dksX3_unit_5 14 rfl rfl)
theorem dX3_unit_132 : decode cX3_unit 132 = .ok (.invokevirtual 194, 3) := dk_182 0 194 (dk_at dksX3_unit_5 15 rfl rfl)
theorem dX3_unit_135 : decode cX3_unit 135 = .ok (.astore_n 1, 1) := dk_76 (dk_at dksX3_unit_5 18 rfl rfl)
theorem dX3_unit_136 : decode cX3_unit 136 = .ok (.aload_n 0, 1) := dk_42 (dk_at dksX3_unit_5 19 rfl rfl)
theorem dX3_unit_137 : decode cX3_unit 137 = .ok (.bipush 41, 2) := dk_16 41 (dk_at dksX3_unit_5 20 rfl rfl)
theorem dX3_unit_139 : decode cX3_unit 139 = .ok (.invokevirtual 105, 3) := dk_182 0 105 (dk_at dksX3_unit_6 0 rfl rfl)
theorem dX3_unit_142 : decode cX3_unit 142 = .ok (.aload_n 0, 1) := dk_42 (dk_at dksX3_unit_6 3 rfl rfl)
theorem dX3_unit_143 : decode cX3_unit 143 = .ok (.dup, 1) := dk_89 (dk_at dksX3_unit_6 4 rfl rfl)
theorem dX3_unit_144 : decode cX3_unit 144 = .ok (.getfield 99, 3) := dk_180 0 99 (dk_at dksX3_unit_6 5 rfl rfl)
theorem dX3_unit_147 : decode cX3_unit 147 = .ok (.iconst 1, 1) := dk_4 (dk_at dksX3_unit_6 8 rfl rfl)
theorem dX3_unit_148 : decode cX3_unit 148 = .ok (.isub, 1) := dk_100 (dk_at dksX3_unit_6 9 rfl rfl)
theorem dX3_unit_149 : decode cX3_unit 149 = .ok (.putfield 99, 3) := dk_181 0 99 (dk_at dksX3_unit_6 10 rfl rfl)
theorem dX3_unit_152 : decode cX3_unit 152 = .ok (.aload_n 1, 1) := dk_43 (dk_at dksX3_unit_6 13 rfl rfl)
theorem dX3_unit_153 : decode cX3_unit 153 = .ok (.areturn, 1) := dk_176 (dk_at dksX3_unit_6 14 rfl rfl)
abbrev cX3_word : ByteArray := prog_12_method_10_code
def yX3_word : MethodName := ⟨RX3, "word", "(I)V"⟩
def dkwX3_word_0 : List UInt8 := [42, 27, 182, 0, 62, 154, 0, 9, 42, 4, 182, 0, 48, 191, 42, 182, 0, 59, 177]
abbrev dktX3_word_0 : List UInt8 := dkwX3_word_0 ++ []
theorem dksX3_word_0 : cX3_word.data.toList.drop 0 = dktX3_word_0 := by decide +kernel
theorem dX3_word_0 : decode cX3_word 0 = .ok (.aload_n 0, 1) := dk_42 (dk_at dksX3_word_0 0 rfl rfl)
theorem dX3_word_1 : decode cX3_word 1 = .ok (.iload_n 1, 1) := dk_27 (dk_at dksX3_word_0 1 rfl rfl)
theorem dX3_word_2 : decode cX3_word 2 = .ok (.invokevirtual 62, 3) := dk_182 0 62 (dk_at dksX3_word_0 2 rfl rfl)
theorem dX3_word_5 : decode cX3_word 5 = .ok (.ifCond .ne 9, 3) := dk_154 0 9 (dk_at dksX3_word_0 5 rfl rfl)
theorem dX3_word_8 : decode cX3_word 8 = .ok (.aload_n 0, 1) := dk_42 (dk_at dksX3_word_0 8 rfl rfl)
theorem dX3_word_9 : decode cX3_word 9 = .ok (.iconst 1, 1) := dk_4 (dk_at dksX3_word_0 9 rfl rfl)
theorem dX3_word_10 : decode cX3_word 10 = .ok (.invokevirtual 48, 3) := dk_182 0 48 (dk_at dksX3_word_0 10 rfl rfl)
theorem dX3_word_13 : decode cX3_word 13 = .ok (.athrow, 1) := dk_191 (dk_at dksX3_word_0 13 rfl rfl)
theorem dX3_word_14 : decode cX3_word 14 = .ok (.aload_n 0, 1) := dk_42 (dk_at dksX3_word_0 14 rfl rfl)
theorem dX3_word_15 : decode cX3_word 15 = .ok (.invokevirtual 59, 3) := dk_182 0 59 (dk_at dksX3_word_0 15 rfl rfl)
theorem dX3_word_18 : decode cX3_word 18 = .ok (.return_, 1) := dk_177 (dk_at dksX3_word_0 18 rfl rfl)
abbrev cX3_name : ByteArray := prog_12_method_13_code
def yX3_name : MethodName := ⟨RX3, "name", "()Ljava/lang/String;"⟩
def dkwX3_name_1 : List UInt8 := [153, 0, 9, 42, 6, 27, 182, 0, 75, 44, 176]
abbrev dktX3_name_1 : List UInt8 := dkwX3_name_1 ++ []
def dkwX3_name_0 : List UInt8 := [42, 3, 182, 0, 68, 60, 42, 180, 0, 9, 27, 182, 0, 79, 77, 42, 180, 0, 83, 44, 182, 0, 86]
abbrev dktX3_name_0 : List UInt8 := dkwX3_name_0 ++ dktX3_name_1
theorem dksX3_name_0 : cX3_name.data.toList.drop 0 = dktX3_name_0 := by decide +kernel
theorem dksX3_name_1 : cX3_name.data.toList.drop 23 = dktX3_name_1 := dk_seg dksX3_name_0 23 rfl rfl
theorem dX3_name_0 : decode cX3_name 0 = .ok (.aload_n 0, 1) := dk_42 (dk_at dksX3_name_0 0 rfl rfl)
theorem dX3_name_1 : decode cX3_name 1 = .ok (.iconst 0, 1) := dk_3 (dk_at dksX3_name_0 1 rfl rfl)
theorem dX3_name_2 : decode cX3_name 2 = .ok (.invokevirtual 68, 3) := dk_182 0 68 (dk_at dksX3_name_0 2 rfl rfl)
theorem dX3_name_5 : decode cX3_name 5 = .ok (.istore_n 1, 1) := dk_60 (dk_at dksX3_name_0 5 rfl rfl)
theorem dX3_name_6 : decode cX3_name 6 = .ok (.aload_n 0, 1) := dk_42 (dk_at dksX3_name_0 6 rfl rfl)
theorem dX3_name_7 : decode cX3_name 7 = .ok (.getfield 9, 3) := dk_180 0 9 (dk_at dksX3_name_0 7 rfl rfl)
theorem dX3_name_10 : decode cX3_name 10 = .ok (.iload_n 1, 1) := dk_27 (dk_at dksX3_name_0 10 rfl rfl)
theorem dX3_name_11 : decode cX3_name 11 = .ok (.invokevirtual 79, 3) := dk_182 0 79 (dk_at dksX3_name_0 11 rfl rfl)
theorem dX3_name_14 : decode cX3_name 14 = .ok (.astore_n 2, 1) := dk_77 (dk_at dksX3_name_0 14 rfl rfl)
theorem dX3_name_15 : decode cX3_name 15 = .ok (.aload_n 0, 1) := dk_42 (dk_at dksX3_name_0 15 rfl rfl)
theorem dX3_name_16 : decode cX3_name 16 = .ok (.getfield 83, 3) := dk_180 0 83 (dk_at dksX3_name_0 16 rfl rfl)
theorem dX3_name_19 : decode cX3_name 19 = .ok (.aload_n 2, 1) := dk_44 (dk_at dksX3_name_0 19 rfl rfl)
theorem dX3_name_20 : decode cX3_name 20 = .ok (.invokevirtual 86, 3) := dk_182 0 86 (dk_at dksX3_name_0 20 rfl rfl)
theorem dX3_name_23 : decode cX3_name 23 = .ok (.ifCond .eq 9, 3) := dk_153 0 9 (dk_at dksX3_name_1 0 rfl rfl)
theorem dX3_name_26 : decode cX3_name 26 = .ok (.aload_n 0, 1) := dk_42 (dk_at dksX3_name_1 3 rfl rfl)
theorem dX3_name_27 : decode cX3_name 27 = .ok (.iconst 3, 1) := dk_6 (dk_at dksX3_name_1 4 rfl rfl)
theorem dX3_name_28 : decode cX3_name 28 = .ok (.iload_n 1, 1) := dk_27 (dk_at dksX3_name_1 5 rfl rfl)
theorem dX3_name_29 : decode cX3_name 29 = .ok (.invokevirtual 75, 3) := dk_182 0 75 (dk_at dksX3_name_1 6 rfl rfl)
theorem dX3_name_32 : decode cX3_name 32 = .ok (.aload_n 2, 1) := dk_44 (dk_at dksX3_name_1 9 rfl rfl)
theorem dX3_name_33 : decode cX3_name 33 = .ok (.areturn, 1) := dk_176 (dk_at dksX3_name_1 10 rfl rfl)
abbrev cX3_take : ByteArray := prog_12_method_11_code
def yX3_take : MethodName := ⟨RX3, "take", "(I)I"⟩
def dkwX3_take_1 : List UInt8 := [172]
abbrev dktX3_take_1 : List UInt8 := dkwX3_take_1 ++ []
def dkwX3_take_0 : List UInt8 := [42, 182, 0, 65, 27, 159, 0, 9, 42, 4, 182, 0, 48, 191, 42, 182, 0, 59, 42, 180, 0, 31, 4, 100]
abbrev dktX3_take_0 : List UInt8 := dkwX3_take_0 ++ dktX3_take_1
theorem dksX3_take_0 : cX3_take.data.toList.drop 0 = dktX3_take_0 := by decide +kernel
theorem dksX3_take_1 : cX3_take.data.toList.drop 24 = dktX3_take_1 := dk_seg dksX3_take_0 24 rfl rfl
theorem dX3_take_0 : decode cX3_take 0 = .ok (.aload_n 0, 1) := dk_42 (dk_at dksX3_take_0 0 rfl rfl)
theorem dX3_take_1 : decode cX3_take 1 = .ok (.invokevirtual 65, 3) := dk_182 0 65 (dk_at dksX3_take_0 1 rfl rfl)
theorem dX3_take_4 : decode cX3_take 4 = .ok (.iload_n 1, 1) := dk_27 (dk_at dksX3_take_0 4 rfl rfl)
theorem dX3_take_5 : decode cX3_take 5 = .ok (.if_icmp .eq 9, 3) := dk_159 0 9 (dk_at dksX3_take_0 5 rfl rfl)
theorem dX3_take_8 : decode cX3_take 8 = .ok (.aload_n 0, 1) := dk_42 (dk_at dksX3_take_0 8 rfl rfl)
theorem dX3_take_9 : decode cX3_take 9 = .ok (.iconst 1, 1) := dk_4 (dk_at dksX3_take_0 9 rfl rfl)
theorem dX3_take_10 : decode cX3_take 10 = .ok (.invokevirtual 48, 3) := dk_182 0 48 (dk_at dksX3_take_0 10 rfl rfl)
theorem dX3_take_13 : decode cX3_take 13 = .ok (.athrow, 1) := dk_191 (dk_at dksX3_take_0 13 rfl rfl)
theorem dX3_take_14 : decode cX3_take 14 = .ok (.aload_n 0, 1) := dk_42 (dk_at dksX3_take_0 14 rfl rfl)
theorem dX3_take_15 : decode cX3_take 15 = .ok (.invokevirtual 59, 3) := dk_182 0 59 (dk_at dksX3_take_0 15 rfl rfl)
theorem dX3_take_18 : decode cX3_take 18 = .ok (.aload_n 0, 1) := dk_42 (dk_at dksX3_take_0 18 rfl rfl)
theorem dX3_take_19 : decode cX3_take 19 = .ok (.getfield 31, 3) := dk_180 0 31 (dk_at dksX3_take_0 19 rfl rfl)
theorem dX3_take_22 : decode cX3_take 22 = .ok (.iconst 1, 1) := dk_4 (dk_at dksX3_take_0 22 rfl rfl)
theorem dX3_take_23 : decode cX3_take 23 = .ok (.isub, 1) := dk_100 (dk_at dksX3_take_0 23 rfl rfl)
theorem dX3_take_24 : decode cX3_take 24 = .ok (.ireturn, 1) := dk_172 (dk_at dksX3_take_1 0 rfl rfl)
abbrev cX3_tell : ByteArray := prog_12_method_4_code
def yX3_tell : MethodName := ⟨RX3, "tell", "(II)V"⟩
def dkwX3_tell_1 : List UInt8 := [42, 180, 0, 38, 161, 0, 4, 177, 42, 27, 181, 0, 38, 42, 28, 181, 0, 41, 177]
abbrev dktX3_tell_1 : List UInt8 := dkwX3_tell_1 ++ []
def dkwX3_tell_0 : List UInt8 := [42, 180, 0, 38, 153, 0, 28, 28, 42, 180, 0, 41, 163, 0, 19, 28, 42, 180, 0, 41, 160, 0, 12, 27]
abbrev dktX3_tell_0 : List UInt8 := dkwX3_tell_0 ++ dktX3_tell_1
theorem dksX3_tell_0 : cX3_tell.data.toList.drop 0 = dktX3_tell_0 := by decide +kernel
theorem dksX3_tell_1 : cX3_tell.data.toList.drop 24 = dktX3_tell_1 := dk_seg dksX3_tell_0 24 rfl rfl
theorem dX3_tell_0 : decode cX3_tell 0 = .ok (.aload_n 0, 1) := dk_42 (dk_at dksX3_tell_0 0 rfl rfl)
theorem dX3_tell_1 : decode cX3_tell 1 = .ok (.getfield 38, 3) := dk_180 0 38 (dk_at dksX3_tell_0 1 rfl rfl)
theorem dX3_tell_4 : decode cX3_tell 4 = .ok (.ifCond .eq 28, 3) := dk_153 0 28 (dk_at dksX3_tell_0 4 rfl rfl)
theorem dX3_tell_7 : decode cX3_tell 7 = .ok (.iload_n 2, 1) := dk_28 (dk_at dksX3_tell_0 7 rfl rfl)
theorem dX3_tell_8 : decode cX3_tell 8 = .ok (.aload_n 0, 1) := dk_42 (dk_at dksX3_tell_0 8 rfl rfl)
theorem dX3_tell_9 : decode cX3_tell 9 = .ok (.getfield 41, 3) := dk_180 0 41 (dk_at dksX3_tell_0 9 rfl rfl)
theorem dX3_tell_12 : decode cX3_tell 12 = .ok (.if_icmp .gt 19, 3) := dk_163 0 19 (dk_at dksX3_tell_0 12 rfl rfl)
theorem dX3_tell_15 : decode cX3_tell 15 = .ok (.iload_n 2, 1) := dk_28 (dk_at dksX3_tell_0 15 rfl rfl)
theorem dX3_tell_16 : decode cX3_tell 16 = .ok (.aload_n 0, 1) := dk_42 (dk_at dksX3_tell_0 16 rfl rfl)
theorem dX3_tell_17 : decode cX3_tell 17 = .ok (.getfield 41, 3) := dk_180 0 41 (dk_at dksX3_tell_0 17 rfl rfl)
theorem dX3_tell_20 : decode cX3_tell 20 = .ok (.if_icmp .ne 12, 3) := dk_160 0 12 (dk_at dksX3_tell_0 20 rfl rfl)
theorem dX3_tell_23 : decode cX3_tell 23 = .ok (.iload_n 1, 1) := dk_27 (dk_at dksX3_tell_0 23 rfl rfl)
theorem dX3_tell_24 : decode cX3_tell 24 = .ok (.aload_n 0, 1) := dk_42 (dk_at dksX3_tell_1 0 rfl rfl)
theorem dX3_tell_25 : decode cX3_tell 25 = .ok (.getfield 38, 3) := dk_180 0 38 (dk_at dksX3_tell_1 1 rfl rfl)
theorem dX3_tell_28 : decode cX3_tell 28 = .ok (.if_icmp .lt 4, 3) := dk_161 0 4 (dk_at dksX3_tell_1 4 rfl rfl)
theorem dX3_tell_31 : decode cX3_tell 31 = .ok (.return_, 1) := dk_177 (dk_at dksX3_tell_1 7 rfl rfl)
theorem dX3_tell_32 : decode cX3_tell 32 = .ok (.aload_n 0, 1) := dk_42 (dk_at dksX3_tell_1 8 rfl rfl)
theorem dX3_tell_33 : decode cX3_tell 33 = .ok (.iload_n 1, 1) := dk_27 (dk_at dksX3_tell_1 9 rfl rfl)
theorem dX3_tell_34 : decode cX3_tell 34 = .ok (.putfield 38, 3) := dk_181 0 38 (dk_at dksX3_tell_1 10 rfl rfl)
theorem dX3_tell_37 : decode cX3_tell 37 = .ok (.aload_n 0, 1) := dk_42 (dk_at dksX3_tell_1 13 rfl rfl)
theorem dX3_tell_38 : decode cX3_tell 38 = .ok (.iload_n 2, 1) := dk_28 (dk_at dksX3_tell_1 14 rfl rfl)
theorem dX3_tell_39 : decode cX3_tell 39 = .ok (.putfield 41, 3) := dk_181 0 41 (dk_at dksX3_tell_1 15 rfl rfl)
theorem dX3_tell_42 : decode cX3_tell 42 = .ok (.return_, 1) := dk_177 (dk_at dksX3_tell_1 18 rfl rfl)
abbrev cX3_number : ByteArray := prog_12_method_12_code
def yX3_number : MethodName := ⟨RX3, "number", "(II)I"⟩
def dkwX3_number_1 : List UInt8 := [28, 164, 0, 9, 42, 8, 29, 182, 0, 75, 21, 4, 172]
abbrev dktX3_number_1 : List UInt8 := dkwX3_number_1 ++ []
def dkwX3_number_0 : List UInt8 := [42, 4, 182, 0, 68, 62, 42, 180, 0, 9, 29, 182, 0, 72, 54, 4, 21, 4, 27, 161, 0, 9, 21, 4]
abbrev dktX3_number_0 : List UInt8 := dkwX3_number_0 ++ dktX3_number_1
theorem dksX3_number_0 : cX3_number.data.toList.drop 0 = dktX3_number_0 := by decide +kernel
theorem dksX3_number_1 : cX3_number.data.toList.drop 24 = dktX3_number_1 := dk_seg dksX3_number_0 24 rfl rfl
theorem dX3_number_0 : decode cX3_number 0 = .ok (.aload_n 0, 1) := dk_42 (dk_at dksX3_number_0 0 rfl rfl)
theorem dX3_number_1 : decode cX3_number 1 = .ok (.iconst 1, 1) := dk_4 (dk_at dksX3_number_0 1 rfl rfl)
theorem dX3_number_2 : decode cX3_number 2 = .ok (.invokevirtual 68, 3) := dk_182 0 68 (dk_at dksX3_number_0 2 rfl rfl)
theorem dX3_number_5 : decode cX3_number 5 = .ok (.istore_n 3, 1) := dk_62 (dk_at dksX3_number_0 5 rfl rfl)
theorem dX3_number_6 : decode cX3_number 6 = .ok (.aload_n 0, 1) := dk_42 (dk_at dksX3_number_0 6 rfl rfl)
theorem dX3_number_7 : decode cX3_number 7 = .ok (.getfield 9, 3) := dk_180 0 9 (dk_at dksX3_number_0 7 rfl rfl)
theorem dX3_number_10 : decode cX3_number 10 = .ok (.iload_n 3, 1) := dk_29 (dk_at dksX3_number_0 10 rfl rfl)
theorem dX3_number_11 : decode cX3_number 11 = .ok (.invokevirtual 72, 3) := dk_182 0 72 (dk_at dksX3_number_0 11 rfl rfl)
theorem dX3_number_14 : decode cX3_number 14 = .ok (.istore 4, 2) := dk_54 4 (dk_at dksX3_number_0 14 rfl rfl)
theorem dX3_number_16 : decode cX3_number 16 = .ok (.iload 4, 2) := dk_21 4 (dk_at dksX3_number_0 16 rfl rfl)
theorem dX3_number_18 : decode cX3_number 18 = .ok (.iload_n 1, 1) := dk_27 (dk_at dksX3_number_0 18 rfl rfl)
theorem dX3_number_19 : decode cX3_number 19 = .ok (.if_icmp .lt 9, 3) := dk_161 0 9 (dk_at dksX3_number_0 19 rfl rfl)
theorem dX3_number_22 : decode cX3_number 22 = .ok (.iload 4, 2) := dk_21 4 (dk_at dksX3_number_0 22 rfl rfl)
theorem dX3_number_24 : decode cX3_number 24 = .ok (.iload_n 2, 1) := dk_28 (dk_at dksX3_number_1 0 rfl rfl)
theorem dX3_number_25 : decode cX3_number 25 = .ok (.if_icmp .le 9, 3) := dk_164 0 9 (dk_at dksX3_number_1 1 rfl rfl)
theorem dX3_number_28 : decode cX3_number 28 = .ok (.aload_n 0, 1) := dk_42 (dk_at dksX3_number_1 4 rfl rfl)
theorem dX3_number_29 : decode cX3_number 29 = .ok (.iconst 5, 1) := dk_8 (dk_at dksX3_number_1 5 rfl rfl)
theorem dX3_number_30 : decode cX3_number 30 = .ok (.iload_n 3, 1) := dk_29 (dk_at dksX3_number_1 6 rfl rfl)
theorem dX3_number_31 : decode cX3_number 31 = .ok (.invokevirtual 75, 3) := dk_182 0 75 (dk_at dksX3_number_1 7 rfl rfl)
theorem dX3_number_34 : decode cX3_number 34 = .ok (.iload 4, 2) := dk_21 4 (dk_at dksX3_number_1 10 rfl rfl)
theorem dX3_number_36 : decode cX3_number 36 = .ok (.ireturn, 1) := dk_172 (dk_at dksX3_number_1 12 rfl rfl)
abbrev cX3_foes : ByteArray := prog_12_method_18_code
def yX3_foes : MethodName := ⟨RX3, "foes", "()V"⟩
def dkwX3_foes_5 : List UInt8 := [180, 0, 183, 4, 27, 120, 128, 181, 0, 183, 177]
abbrev dktX3_foes_5 : List UInt8 := dkwX3_foes_5 ++ []
def dkwX3_foes_4 : List UInt8 := [4, 29, 120, 128, 181, 0, 183, 42, 180, 0, 83, 180, 0, 151, 29, 182, 0, 179, 192, 0, 154, 89]
abbrev dktX3_foes_4 : List UInt8 := dkwX3_foes_4 ++ dktX3_foes_5
def dkwX3_foes_3 : List UInt8 := [42, 6, 28, 182, 0, 75, 42, 180, 0, 83, 180, 0, 151, 27, 182, 0, 179, 192, 0, 154, 89, 180, 0, 183]
abbrev dktX3_foes_3 : List UInt8 := dkwX3_foes_3 ++ dktX3_foes_4
def dkwX3_foes_2 : List UInt8 := [180, 0, 83, 180, 0, 151, 27, 182, 0, 179, 192, 0, 154, 180, 0, 183, 29, 122, 4, 126, 4, 160, 0, 9]
abbrev dktX3_foes_2 : List UInt8 := dkwX3_foes_2 ++ dktX3_foes_3
def dkwX3_foes_1 : List UInt8 := [180, 0, 151, 182, 0, 175, 62, 27, 155, 0, 7, 29, 156, 0, 4, 177, 27, 29, 159, 0, 28, 42]
abbrev dktX3_foes_1 : List UInt8 := dkwX3_foes_1 ++ dktX3_foes_2
def dkwX3_foes_0 : List UInt8 := [42, 42, 180, 0, 83, 180, 0, 151, 182, 0, 175, 60, 42, 180, 0, 31, 61, 42, 42, 180, 0, 83]
abbrev dktX3_foes_0 : List UInt8 := dkwX3_foes_0 ++ dktX3_foes_1
theorem dksX3_foes_0 : cX3_foes.data.toList.drop 0 = dktX3_foes_0 := by decide +kernel
theorem dksX3_foes_1 : cX3_foes.data.toList.drop 22 = dktX3_foes_1 := dk_seg dksX3_foes_0 22 rfl rfl
theorem dksX3_foes_2 : cX3_foes.data.toList.drop 44 = dktX3_foes_2 := dk_seg dksX3_foes_1 22 rfl rfl
theorem dksX3_foes_3 : cX3_foes.data.toList.drop 68 = dktX3_foes_3 := dk_seg dksX3_foes_2 24 rfl rfl
theorem dksX3_foes_4 : cX3_foes.data.toList.drop 92 = dktX3_foes_4 := dk_seg dksX3_foes_3 24 rfl rfl
theorem dksX3_foes_5 : cX3_foes.data.toList.drop 114 = dktX3_foes_5 := dk_seg dksX3_foes_4 22 rfl rfl
theorem dX3_foes_0 : decode cX3_foes 0 = .ok (.aload_n 0, 1) := dk_42 (dk_at dksX3_foes_0 0 rfl rfl)
theorem dX3_foes_1 : decode cX3_foes 1 = .ok (.aload_n 0, 1) := dk_42 (dk_at dksX3_foes_0 1 rfl rfl)
theorem dX3_foes_2 : decode cX3_foes 2 = .ok (.getfield 83, 3) := dk_180 0 83 (dk_at dksX3_foes_0 2 rfl rfl)
theorem dX3_foes_5 : decode cX3_foes 5 = .ok (.getfield 151, 3) := dk_180 0 151 (dk_at dksX3_foes_0 5 rfl rfl)
theorem dX3_foes_8 : decode cX3_foes 8 = .ok (.invokevirtual 175, 3) := dk_182 0 175 (dk_at dksX3_foes_0 8 rfl rfl)
theorem dX3_foes_11 : decode cX3_foes 11 = .ok (.istore_n 1, 1) := dk_60 (dk_at dksX3_foes_0 11 rfl rfl)
theorem dX3_foes_12 : decode cX3_foes 12 = .ok (.aload_n 0, 1) := dk_42 (dk_at dksX3_foes_0 12 rfl rfl)
theorem dX3_foes_13 : decode cX3_foes 13 = .ok (.getfield 31, 3) := dk_180 0 31 (dk_at dksX3_foes_0 13 rfl rfl)
theorem dX3_foes_16 : decode cX3_foes 16 = .ok (.istore_n 2, 1) := dk_61 (dk_at dksX3_foes_0 16 rfl rfl)
theorem dX3_foes_17 : decode cX3_foes 17 = .ok (.aload_n 0, 1) := dk_42 (dk_at dksX3_foes_0 17 rfl rfl)
theorem dX3_foes_18 : decode cX3_foes 18 = .ok (.aload_n 0, 1) := dk_42 (dk_at dksX3_foes_0 18 rfl rfl)
theorem dX3_foes_19 : decode cX3_foes 19 = .ok (.getfield 83, 3) := dk_180 0 83 (dk_at dksX3_foes_0 19 rfl rfl)
theorem dX3_foes_22 : decode cX3_foes 22 = .ok (.getfield 151, 3) := dk_180 0 151 (dk_at dksX3_foes_1 0 rfl rfl)
theorem dX3_foes_25 : decode cX3_foes 25 = .ok (.invokevirtual 175, 3) := dk_182 0 175 (dk_at dksX3_foes_1 3 rfl rfl)
theorem dX3_foes_28 : decode cX3_foes 28 = .ok (.istore_n 3, 1) := dk_62 (dk_at dksX3_foes_1 6 rfl rfl)
theorem dX3_foes_29 : decode cX3_foes 29 = .ok (.iload_n 1, 1) := dk_27 (dk_at dksX3_foes_1 7 rfl rfl)
theorem dX3_foes_30 : decode cX3_foes 30 = .ok (.ifCond .lt 7, 3) := dk_155 0 7 (dk_at dksX3_foes_1 8 rfl rfl)
theorem dX3_foes_33 : decode cX3_foes 33 = .ok (.iload_n 3, 1) := dk_29 (dk_at dksX3_foes_1 11 rfl rfl)
theorem dX3_foes_34 : decode cX3_foes 34 = .ok (.ifCond .ge 4, 3) := dk_156 0 4 (dk_at dksX3_foes_1 12 rfl rfl)
theorem dX3_foes_37 : decode cX3_foes 37 = .ok (.return_, 1) := dk_177 (dk_at dksX3_foes_1 15 rfl rfl)
theorem dX3_foes_38 : decode cX3_foes 38 = .ok (.iload_n 1, 1) := dk_27 (dk_at dksX3_foes_1 16 rfl rfl)
theorem dX3_foes_39 : decode cX3_foes 39 = .ok (.iload_n 3, 1) := dk_29 (dk_at dksX3_foes_1 17 rfl rfl)
theorem dX3_foes_40 : decode cX3_foes 40 = .ok (.if_icmp .eq 28, 3) := dk_159 0 28 (dk_at dksX3_foes_1 18 rfl rfl)
theorem dX3_foes_43 : decode cX3_foes 43 = .ok (.aload_n 0, 1) := dk_42 (dk_at dksX3_foes_1 21 rfl rfl)
theorem dX3_foes_44 : decode cX3_foes 44 = .ok (.getfield 83, 3) := dk_180 0 83 (dk_at dksX3_foes_2 0 rfl rfl)
theorem dX3_foes_47 : decode cX3_foes 47 = .ok (.getfield 151, 3) := dk_180 0 151 (dk_at dksX3_foes_2 3 rfl rfl)
theorem dX3_foes_50 : decode cX3_foes 50 = .ok (.iload_n 1, 1) := dk_27 (dk_at dksX3_foes_2 6 rfl rfl)
theorem dX3_foes_51 : decode cX3_foes 51 = .ok (.invokevirtual 179, 3) := dk_182 0 179 (dk_at dksX3_foes_2 7 rfl rfl)
theorem dX3_foes_54 : decode cX3_foes 54 = .ok (.checkcast 154, 3) := dk_192 0 154 (dk_at dksX3_foes_2 10 rfl rfl)
theorem dX3_foes_57 : decode cX3_foes 57 = .ok (.getfield 183, 3) := dk_180 0 183 (dk_at dksX3_foes_2 13 rfl rfl)
theorem dX3_foes_60 : decode cX3_foes 60 = .ok (.iload_n 3, 1) := dk_29 (dk_at dksX3_foes_2 16 rfl rfl)
theorem dX3_foes_61 : decode cX3_foes 61 = .ok (.ishr, 1) := dk_122 (dk_at dksX3_foes_2 17 rfl rfl)
theorem dX3_foes_62 : decode cX3_foes 62 = .ok (.iconst 1, 1) := dk_4 (dk_at dksX3_foes_2 18 rfl rfl)
theorem dX3_foes_63 : decode cX3_foes 63 = .ok (.iand, 1) := dk_126 (dk_at dksX3_foes_2 19 rfl rfl)
theorem dX3_foes_64 : decode cX3_foes 64 = .ok (.iconst 1, 1) := dk_4 (dk_at dksX3_foes_2 20 rfl rfl)
theorem dX3_foes_65 : decode cX3_foes 65 = .ok (.if_icmp .ne 9, 3) := dk_160 0 9 (dk_at dksX3_foes_2 21 rfl rfl)
theorem dX3_foes_68 : decode cX3_foes 68 = .ok (.aload_n 0, 1) := dk_42 (dk_at dksX3_foes_3 0 rfl rfl)
theorem dX3_foes_69 : decode cX3_foes 69 = .ok (.iconst 3, 1) := dk_6 (dk_at dksX3_foes_3 1 rfl rfl)
theorem dX3_foes_70 : decode cX3_foes 70 = .ok (.iload_n 2, 1) := dk_28 (dk_at dksX3_foes_3 2 rfl rfl)
theorem dX3_foes_71 : decode cX3_foes 71 = .ok (.invokevirtual 75, 3) := dk_182 0 75 (dk_at dksX3_foes_3 3 rfl rfl)
theorem dX3_foes_74 : decode cX3_foes 74 = .ok (.aload_n 0, 1) := dk_42 (dk_at dksX3_foes_3 6 rfl rfl)
theorem dX3_foes_75 : decode cX3_foes 75 = .ok (.getfield 83, 3) := dk_180 0 83 (dk_at dksX3_foes_3 7 rfl rfl)
theorem dX3_foes_78 : decode cX3_foes 78 = .ok (.getfield 151, 3) := dk_180 0 151 (dk_at dksX3_foes_3 10 rfl rfl)
theorem dX3_foes_81 : decode cX3_foes 81 = .ok (.iload_n 1, 1) := dk_27 (dk_at dksX3_foes_3 13 rfl rfl)
theorem dX3_foes_82 : decode cX3_foes 82 = .ok (.invokevirtual 179, 3) := dk_182 0 179 (dk_at dksX3_foes_3 14 rfl rfl)
theorem dX3_foes_85 : decode cX3_foes 85 = .ok (.checkcast 154, 3) := dk_192 0 154 (dk_at dksX3_foes_3 17 rfl rfl)
theorem dX3_foes_88 : decode cX3_foes 88 = .ok (.dup, 1) := dk_89 (dk_at dksX3_foes_3 20 rfl rfl)
theorem dX3_foes_89 : decode cX3_foes 89 = .ok (.getfield 183, 3) := dk_180 0 183 (dk_at dksX3_foes_3 21 rfl rfl)
theorem dX3_foes_92 : decode cX3_foes 92 = .ok (.iconst 1, 1) := dk_4 (dk_at dksX3_foes_4 0 rfl rfl)
theorem dX3_foes_93 : decode cX3_foes 93 = .ok (.iload_n 3, 1) := dk_29 (dk_at dksX3_foes_4 1 rfl rfl)
theorem dX3_foes_94 : decode cX3_foes 94 = .ok (.ishl, 1) := dk_120 (dk_at dksX3_foes_4 2 rfl rfl)
theorem dX3_foes_95 : decode cX3_foes 95 = .ok (.ior, 1) := dk_128 (dk_at dksX3_foes_4 3 rfl rfl)
theorem dX3_foes_96 : decode cX3_foes 96 = .ok (.putfield 183, 3) := dk_181 0 183 (dk_at dksX3_foes_4 4 rfl rfl)
theorem dX3_foes_99 : decode cX3_foes 99 = .ok (.aload_n 0, 1) := dk_42 (dk_at dksX3_foes_4 7 rfl rfl)
theorem dX3_foes_100 : decode cX3_foes 100 = .ok (.getfield 83, 3) := dk_180 0 83 (dk_at dksX3_foes_4 8 rfl rfl)
theorem dX3_foes_103 : decode cX3_foes 103 = .ok (.getfield 151, 3) := dk_180 0 151 (dk_at dksX3_foes_4 11 rfl rfl)
theorem dX3_foes_106 : decode cX3_foes 106 = .ok (.iload_n 3, 1) := dk_29 (dk_at dksX3_foes_4 14 rfl rfl)
theorem dX3_foes_107 : decode cX3_foes 107 = .ok (.invokevirtual 179, 3) := dk_182 0 179 (dk_at dksX3_foes_4 15 rfl rfl)
theorem dX3_foes_110 : decode cX3_foes 110 = .ok (.checkcast 154, 3) := dk_192 0 154 (dk_at dksX3_foes_4 18 rfl rfl)
theorem dX3_foes_113 : decode cX3_foes 113 = .ok (.dup, 1) := dk_89 (dk_at dksX3_foes_4 21 rfl rfl)
theorem dX3_foes_114 : decode cX3_foes 114 = .ok (.getfield 183, 3) := dk_180 0 183 (dk_at dksX3_foes_5 0 rfl rfl)
theorem dX3_foes_117 : decode cX3_foes 117 = .ok (.iconst 1, 1) := dk_4 (dk_at dksX3_foes_5 3 rfl rfl)
theorem dX3_foes_118 : decode cX3_foes 118 = .ok (.iload_n 1, 1) := dk_27 (dk_at dksX3_foes_5 4 rfl rfl)
theorem dX3_foes_119 : decode cX3_foes 119 = .ok (.ishl, 1) := dk_120 (dk_at dksX3_foes_5 5 rfl rfl)
theorem dX3_foes_120 : decode cX3_foes 120 = .ok (.ior, 1) := dk_128 (dk_at dksX3_foes_5 6 rfl rfl)
theorem dX3_foes_121 : decode cX3_foes 121 = .ok (.putfield 183, 3) := dk_181 0 183 (dk_at dksX3_foes_5 7 rfl rfl)
theorem dX3_foes_124 : decode cX3_foes 124 = .ok (.return_, 1) := dk_177 (dk_at dksX3_foes_5 10 rfl rfl)
abbrev cX3_known : ByteArray := prog_12_method_14_code
def yX3_known : MethodName := ⟨RX3, "known", "(Ljava/util/ArrayList;)I"⟩
def dkwX3_known_1 : List UInt8 := [7, 28, 182, 0, 75, 29, 172]
abbrev dktX3_known_1 : List UInt8 := dkwX3_known_1 ++ []
def dkwX3_known_0 : List UInt8 := [42, 3, 182, 0, 68, 61, 43, 42, 180, 0, 9, 28, 182, 0, 79, 184, 0, 92, 62, 29, 156, 0, 9, 42]
abbrev dktX3_known_0 : List UInt8 := dkwX3_known_0 ++ dktX3_known_1
theorem dksX3_known_0 : cX3_known.data.toList.drop 0 = dktX3_known_0 := by decide +kernel
theorem dksX3_known_1 : cX3_known.data.toList.drop 24 = dktX3_known_1 := dk_seg dksX3_known_0 24 rfl rfl
theorem dX3_known_0 : decode cX3_known 0 = .ok (.aload_n 0, 1) := dk_42 (dk_at dksX3_known_0 0 rfl rfl)
theorem dX3_known_1 : decode cX3_known 1 = .ok (.iconst 0, 1) := dk_3 (dk_at dksX3_known_0 1 rfl rfl)
theorem dX3_known_2 : decode cX3_known 2 = .ok (.invokevirtual 68, 3) := dk_182 0 68 (dk_at dksX3_known_0 2 rfl rfl)
theorem dX3_known_5 : decode cX3_known 5 = .ok (.istore_n 2, 1) := dk_61 (dk_at dksX3_known_0 5 rfl rfl)
theorem dX3_known_6 : decode cX3_known 6 = .ok (.aload_n 1, 1) := dk_43 (dk_at dksX3_known_0 6 rfl rfl)
theorem dX3_known_7 : decode cX3_known 7 = .ok (.aload_n 0, 1) := dk_42 (dk_at dksX3_known_0 7 rfl rfl)
theorem dX3_known_8 : decode cX3_known 8 = .ok (.getfield 9, 3) := dk_180 0 9 (dk_at dksX3_known_0 8 rfl rfl)
theorem dX3_known_11 : decode cX3_known 11 = .ok (.iload_n 2, 1) := dk_28 (dk_at dksX3_known_0 11 rfl rfl)
theorem dX3_known_12 : decode cX3_known 12 = .ok (.invokevirtual 79, 3) := dk_182 0 79 (dk_at dksX3_known_0 12 rfl rfl)
theorem dX3_known_15 : decode cX3_known 15 = .ok (.invokestatic 92, 3) := dk_184 0 92 (dk_at dksX3_known_0 15 rfl rfl)
theorem dX3_known_18 : decode cX3_known 18 = .ok (.istore_n 3, 1) := dk_62 (dk_at dksX3_known_0 18 rfl rfl)
theorem dX3_known_19 : decode cX3_known 19 = .ok (.iload_n 3, 1) := dk_29 (dk_at dksX3_known_0 19 rfl rfl)
theorem dX3_known_20 : decode cX3_known 20 = .ok (.ifCond .ge 9, 3) := dk_156 0 9 (dk_at dksX3_known_0 20 rfl rfl)
theorem dX3_known_23 : decode cX3_known 23 = .ok (.aload_n 0, 1) := dk_42 (dk_at dksX3_known_0 23 rfl rfl)
theorem dX3_known_24 : decode cX3_known 24 = .ok (.iconst 4, 1) := dk_7 (dk_at dksX3_known_1 0 rfl rfl)
theorem dX3_known_25 : decode cX3_known 25 = .ok (.iload_n 2, 1) := dk_28 (dk_at dksX3_known_1 1 rfl rfl)
theorem dX3_known_26 : decode cX3_known 26 = .ok (.invokevirtual 75, 3) := dk_182 0 75 (dk_at dksX3_known_1 2 rfl rfl)
theorem dX3_known_29 : decode cX3_known 29 = .ok (.iload_n 3, 1) := dk_29 (dk_at dksX3_known_1 5 rfl rfl)
theorem dX3_known_30 : decode cX3_known 30 = .ok (.ireturn, 1) := dk_172 (dk_at dksX3_known_1 6 rfl rfl)
theorem q134 : (Jvm.Cond.initialized "LentSundays$Parser") ∈ lw_all := lw_g (lw_at lw_m1 7 rfl) rfl
theorem q282 : (Jvm.Cond.fieldLink "LentSundays$Parser" (44 : Nat) "LentSundays$Tokens" "sort" "[B") ∈ lw_all := lw_g (lw_at lw_m1 155 rfl) rfl
theorem q284 : (Jvm.Cond.fieldLink "LentSundays$Parser" (19 : Nat) "LentSundays$Tokens" "from" "[S") ∈ lw_all := lw_g (lw_at lw_m1 157 rfl) rfl
theorem q287 : (Jvm.Cond.fieldLink "LentSundays$Parser" (52 : Nat) "LentSundays$Tokens" "what" "[S") ∈ lw_all := lw_g (lw_at lw_m1 160 rfl) rfl
theorem q308 : (Jvm.Cond.instantiable "LentSundays$Parser" (7 : Nat)) ∈ lw_all := lw_g (lw_at lw_m1 181 rfl) rfl
theorem q310 : (Jvm.Cond.instanceMethod ({ cls := "LentSundays$Parser", name := "<init>", desc := "(LLentSundays$Tokens;LLentSundays$Fault;)V" } : Jvm.MethodName)) ∈ lw_all := lw_g (lw_at lw_m1 183 rfl) rfl
theorem q311 : (Jvm.Cond.code ({ cls := "LentSundays$Parser", name := "<init>", desc := "(LLentSundays$Tokens;LLentSundays$Fault;)V" } : Jvm.MethodName) prog_12_method_1_code (3 : Nat) (Option.none : Option Jvm.ClassFile.FieldType)) ∈ lw_all := lw_g (lw_at lw_m1 184 rfl) rfl
theorem q312 : (Jvm.Cond.methodLink "LentSundays$Parser" (3 : Nat) ({ cls := "java/lang/Object", name := "<init>", desc := "()V" } : Jvm.MethodName)) ∈ lw_all := lw_g (lw_at lw_m1 185 rfl) rfl
theorem q313 : (Jvm.Cond.fieldLink "LentSundays$Parser" (9 : Nat) "LentSundays$Parser" "t" "LLentSundays$Tokens;") ∈ lw_all := lw_g (lw_at lw_m1 186 rfl) rfl
theorem q314 : (Jvm.Cond.fieldLink "LentSundays$Parser" (15 : Nat) "LentSundays$Parser" "fault" "LLentSundays$Fault;") ∈ lw_all := lw_g (lw_at lw_m1 187 rfl) rfl
theorem q315 : (Jvm.Cond.fieldLink "LentSundays$Parser" (83 : Nat) "LentSundays$Parser" "text" "LLentSundays$Text;") ∈ lw_all := lw_g (lw_at lw_m1 188 rfl) rfl
theorem q316 : (Jvm.Cond.fieldLink "LentSundays$Parser" (31 : Nat) "LentSundays$Parser" "at" "I") ∈ lw_all := lw_g (lw_at lw_m1 189 rfl) rfl
theorem q317 : (Jvm.Cond.fieldLink "LentSundays$Parser" (99 : Nat) "LentSundays$Parser" "open" "I") ∈ lw_all := lw_g (lw_at lw_m1 190 rfl) rfl
theorem q318 : (Jvm.Cond.fieldLink "LentSundays$Parser" (38 : Nat) "LentSundays$Parser" "worst" "I") ∈ lw_all := lw_g (lw_at lw_m1 191 rfl) rfl
theorem q319 : (Jvm.Cond.fieldLink "LentSundays$Parser" (41 : Nat) "LentSundays$Parser" "worstToken" "I") ∈ lw_all := lw_g (lw_at lw_m1 192 rfl) rfl
theorem q320 : (Jvm.Cond.laysFinal "LentSundays$Parser" "LentSundays$Parser" "t" "LLentSundays$Tokens;") ∈ lw_all := lw_g (lw_at lw_m1 193 rfl) rfl
theorem q321 : (Jvm.Cond.soleField "LentSundays$Parser" "t") ∈ lw_all := lw_g (lw_at lw_m1 194 rfl) rfl
theorem q322 : (Jvm.Cond.laysFinal "LentSundays$Parser" "LentSundays$Parser" "fault" "LLentSundays$Fault;") ∈ lw_all := lw_g (lw_at lw_m1 195 rfl) rfl
theorem q323 : (Jvm.Cond.soleField "LentSundays$Parser" "fault") ∈ lw_all := lw_g (lw_at lw_m1 196 rfl) rfl
theorem q324 : (Jvm.Cond.lays "LentSundays$Parser" "LentSundays$Parser" "text" "LLentSundays$Text;") ∈ lw_all := lw_g (lw_at lw_m1 197 rfl) rfl
theorem q325 : (Jvm.Cond.soleField "LentSundays$Parser" "text") ∈ lw_all := lw_g (lw_at lw_m1 198 rfl) rfl
theorem q326 : (Jvm.Cond.lays "LentSundays$Parser" "LentSundays$Parser" "at" "I") ∈ lw_all := lw_g (lw_at lw_m1 199 rfl) rfl
theorem q327 : (Jvm.Cond.soleField "LentSundays$Parser" "at") ∈ lw_all := lw_g (lw_at lw_m1 200 rfl) rfl
theorem q328 : (Jvm.Cond.lays "LentSundays$Parser" "LentSundays$Parser" "open" "I") ∈ lw_all := lw_g (lw_at lw_m1 201 rfl) rfl
theorem q329 : (Jvm.Cond.soleField "LentSundays$Parser" "open") ∈ lw_all := lw_g (lw_at lw_m1 202 rfl) rfl
theorem q330 : (Jvm.Cond.lays "LentSundays$Parser" "LentSundays$Parser" "worst" "I") ∈ lw_all := lw_g (lw_at lw_m1 203 rfl) rfl
theorem q331 : (Jvm.Cond.soleField "LentSundays$Parser" "worst") ∈ lw_all := lw_g (lw_at lw_m1 204 rfl) rfl
theorem q332 : (Jvm.Cond.lays "LentSundays$Parser" "LentSundays$Parser" "worstToken" "I") ∈ lw_all := lw_g (lw_at lw_m1 205 rfl) rfl
theorem q333 : (Jvm.Cond.soleField "LentSundays$Parser" "worstToken") ∈ lw_all := lw_g (lw_at lw_m1 206 rfl) rfl
theorem q334 : (Jvm.Cond.superclass "LentSundays$Parser" "java/lang/Object") ∈ lw_all := lw_g (lw_at lw_m1 207 rfl) rfl
theorem q372 : (Jvm.Cond.fieldLink "LentSundays$Parser" (117 : Nat) "LentSundays$Text" "sundays" "Ljava/util/ArrayList;") ∈ lw_all := lw_g (lw_at lw_m2 5 rfl) rfl
theorem q376 : (Jvm.Cond.fieldLink "LentSundays$Parser" (151 : Nat) "LentSundays$Text" "guests" "Ljava/util/ArrayList;") ∈ lw_all := lw_g (lw_at lw_m2 9 rfl) rfl
theorem q379 : (Jvm.Cond.fieldLink "LentSundays$Parser" (109 : Nat) "LentSundays$Text" "laws" "[LLentSundays$Law;") ∈ lw_all := lw_g (lw_at lw_m2 12 rfl) rfl
theorem q380 : (Jvm.Cond.fieldLink "LentSundays$Parser" (164 : Nat) "LentSundays$Text" "foes" "I") ∈ lw_all := lw_g (lw_at lw_m2 13 rfl) rfl
theorem q383 : (Jvm.Cond.fieldLink "LentSundays$Parser" (169 : Nat) "LentSundays$Text" "death" "I") ∈ lw_all := lw_g (lw_at lw_m2 16 rfl) rfl
theorem q387 : (Jvm.Cond.fieldLink "LentSundays$Parser" (172 : Nat) "LentSundays$Text" "seed" "I") ∈ lw_all := lw_g (lw_at lw_m2 20 rfl) rfl
theorem q576 : (Jvm.Cond.instanceMethod ({ cls := "LentSundays$Parser", name := "read", desc := "()LLentSundays$Text;" } : Jvm.MethodName)) ∈ lw_all := lw_g (lw_at lw_m2 209 rfl) rfl
theorem q577 : (Jvm.Cond.selects "LentSundays$Parser" ({ cls := "LentSundays$Parser", name := "read", desc := "()LLentSundays$Text;" } : Jvm.MethodName) ({ cls := "LentSundays$Parser", name := "read", desc := "()LLentSundays$Text;" } : Jvm.MethodName)) ∈ lw_all := lw_g (lw_at lw_m2 210 rfl) rfl
theorem q578 : (Jvm.Cond.code ({ cls := "LentSundays$Parser", name := "read", desc := "()LLentSundays$Text;" } : Jvm.MethodName) prog_12_method_16_code (1 : Nat) (Option.some (Jvm.ClassFile.FieldType.object "LentSundays$Text"))) ∈ lw_all := lw_g (lw_at lw_m2 211 rfl) rfl
theorem q579 : (Jvm.Cond.methodLink "LentSundays$Parser" (95 : Nat) ({ cls := "LentSundays$Tokens", name := "read", desc := "()V" } : Jvm.MethodName)) ∈ lw_all := lw_g (lw_at lw_m2 212 rfl) rfl
theorem q655 : (Jvm.Cond.classLink "LentSundays$Parser" (87 : Nat) "LentSundays$Text") ∈ lw_all := lw_g (lw_at lw_m3 48 rfl) rfl
theorem q656 : (Jvm.Cond.methodLinkNest "LentSundays$Parser" (98 : Nat) ({ cls := "LentSundays$Text", name := "<init>", desc := "()V" } : Jvm.MethodName) "LentSundays") ∈ lw_tbl := lw_at lw_m3 49 rfl
theorem q657 : (Jvm.Cond.methodLink "LentSundays$Parser" (65 : Nat) ({ cls := "LentSundays$Parser", name := "sort", desc := "()I" } : Jvm.MethodName)) ∈ lw_all := lw_g (lw_at lw_m3 50 rfl) rfl
theorem q658 : (Jvm.Cond.privateMethod ({ cls := "LentSundays$Parser", name := "sort", desc := "()I" } : Jvm.MethodName)) ∈ lw_tbl := lw_at lw_m3 51 rfl
theorem q659 : (Jvm.Cond.instanceMethod ({ cls := "LentSundays$Parser", name := "sort", desc := "()I" } : Jvm.MethodName)) ∈ lw_all := lw_g (lw_at lw_m3 52 rfl) rfl
theorem q660 : (Jvm.Cond.code ({ cls := "LentSundays$Parser", name := "sort", desc := "()I" } : Jvm.MethodName) prog_12_method_5_code (1 : Nat) (Option.some Jvm.ClassFile.FieldType.int)) ∈ lw_all := lw_g (lw_at lw_m3 53 rfl) rfl
theorem q661 : (Jvm.Cond.methodLink "LentSundays$Parser" (48 : Nat) ({ cls := "LentSundays$Parser", name := "wrong", desc := "(I)LLentSundays$Fault;" } : Jvm.MethodName)) ∈ lw_all := lw_g (lw_at lw_m3 54 rfl) rfl
theorem q662 : (Jvm.Cond.privateMethod ({ cls := "LentSundays$Parser", name := "wrong", desc := "(I)LLentSundays$Fault;" } : Jvm.MethodName)) ∈ lw_tbl := lw_at lw_m3 55 rfl
theorem q663 : (Jvm.Cond.instanceMethod ({ cls := "LentSundays$Parser", name := "wrong", desc := "(I)LLentSundays$Fault;" } : Jvm.MethodName)) ∈ lw_all := lw_g (lw_at lw_m3 56 rfl) rfl
theorem q664 : (Jvm.Cond.code ({ cls := "LentSundays$Parser", name := "wrong", desc := "(I)LLentSundays$Fault;" } : Jvm.MethodName) prog_12_method_3_code (2 : Nat) (Option.some (Jvm.ClassFile.FieldType.object "LentSundays$Fault"))) ∈ lw_all := lw_g (lw_at lw_m3 57 rfl) rfl
theorem q665 : (Jvm.Cond.methodLink "LentSundays$Parser" (35 : Nat) ({ cls := "LentSundays$Parser", name := "wrongAt", desc := "(II)LLentSundays$Fault;" } : Jvm.MethodName)) ∈ lw_all := lw_g (lw_at lw_m3 58 rfl) rfl
theorem q666 : (Jvm.Cond.privateMethod ({ cls := "LentSundays$Parser", name := "wrongAt", desc := "(II)LLentSundays$Fault;" } : Jvm.MethodName)) ∈ lw_tbl := lw_at lw_m3 59 rfl
theorem q667 : (Jvm.Cond.instanceMethod ({ cls := "LentSundays$Parser", name := "wrongAt", desc := "(II)LLentSundays$Fault;" } : Jvm.MethodName)) ∈ lw_all := lw_g (lw_at lw_m3 60 rfl) rfl
theorem q668 : (Jvm.Cond.code ({ cls := "LentSundays$Parser", name := "wrongAt", desc := "(II)LLentSundays$Fault;" } : Jvm.MethodName) prog_12_method_2_code (3 : Nat) (Option.some (Jvm.ClassFile.FieldType.object "LentSundays$Fault"))) ∈ lw_all := lw_g (lw_at lw_m3 61 rfl) rfl
theorem q669 : (Jvm.Cond.methodLink "LentSundays$Parser" (25 : Nat) ({ cls := "LentSundays$Fault", name := "of", desc := "(II)LLentSundays$Fault;" } : Jvm.MethodName)) ∈ lw_all := lw_g (lw_at lw_m3 62 rfl) rfl
theorem q673 : (Jvm.Cond.methodLink "LentSundays$Parser" (102 : Nat) ({ cls := "LentSundays$Parser", name := "told", desc := "()V" } : Jvm.MethodName)) ∈ lw_all := lw_g (lw_at lw_m3 66 rfl) rfl
theorem q674 : (Jvm.Cond.privateMethod ({ cls := "LentSundays$Parser", name := "told", desc := "()V" } : Jvm.MethodName)) ∈ lw_tbl := lw_at lw_m3 67 rfl
theorem q675 : (Jvm.Cond.instanceMethod ({ cls := "LentSundays$Parser", name := "told", desc := "()V" } : Jvm.MethodName)) ∈ lw_all := lw_g (lw_at lw_m3 68 rfl) rfl
theorem q676 : (Jvm.Cond.code ({ cls := "LentSundays$Parser", name := "told", desc := "()V" } : Jvm.MethodName) prog_12_method_17_code (3 : Nat) (Option.none : Option Jvm.ClassFile.FieldType)) ∈ lw_all := lw_g (lw_at lw_m3 69 rfl) rfl
theorem q677 : (Jvm.Cond.methodLink "LentSundays$Parser" (59 : Nat) ({ cls := "LentSundays$Parser", name := "pass", desc := "()V" } : Jvm.MethodName)) ∈ lw_all := lw_g (lw_at lw_m3 70 rfl) rfl
theorem q678 : (Jvm.Cond.privateMethod ({ cls := "LentSundays$Parser", name := "pass", desc := "()V" } : Jvm.MethodName)) ∈ lw_tbl := lw_at lw_m3 71 rfl
theorem q679 : (Jvm.Cond.instanceMethod ({ cls := "LentSundays$Parser", name := "pass", desc := "()V" } : Jvm.MethodName)) ∈ lw_all := lw_g (lw_at lw_m3 72 rfl) rfl
theorem q680 : (Jvm.Cond.code ({ cls := "LentSundays$Parser", name := "pass", desc := "()V" } : Jvm.MethodName) prog_12_method_6_code (1 : Nat) (Option.none : Option Jvm.ClassFile.FieldType)) ∈ lw_all := lw_g (lw_at lw_m3 73 rfl) rfl
theorem q681 : (Jvm.Cond.methodLink "LentSundays$Parser" (113 : Nat) ({ cls := "LentSundays$Parser", name := "law", desc := "()LLentSundays$Law;" } : Jvm.MethodName)) ∈ lw_all := lw_g (lw_at lw_m3 74 rfl) rfl
theorem q682 : (Jvm.Cond.privateMethod ({ cls := "LentSundays$Parser", name := "law", desc := "()LLentSundays$Law;" } : Jvm.MethodName)) ∈ lw_tbl := lw_at lw_m3 75 rfl
theorem q683 : (Jvm.Cond.instanceMethod ({ cls := "LentSundays$Parser", name := "law", desc := "()LLentSundays$Law;" } : Jvm.MethodName)) ∈ lw_all := lw_g (lw_at lw_m3 76 rfl) rfl
theorem q684 : (Jvm.Cond.code ({ cls := "LentSundays$Parser", name := "law", desc := "()LLentSundays$Law;" } : Jvm.MethodName) prog_12_method_19_code (2 : Nat) (Option.some (Jvm.ClassFile.FieldType.object "LentSundays$Law"))) ∈ lw_all := lw_g (lw_at lw_m3 77 rfl) rfl
theorem q685 : (Jvm.Cond.classLink "LentSundays$Parser" (184 : Nat) "LentSundays$Law") ∈ lw_all := lw_g (lw_at lw_m3 78 rfl) rfl
theorem q687 : (Jvm.Cond.methodLinkNest "LentSundays$Parser" (186 : Nat) ({ cls := "LentSundays$Law", name := "<init>", desc := "()V" } : Jvm.MethodName) "LentSundays") ∈ lw_tbl := lw_at lw_m3 80 rfl
theorem q694 : (Jvm.Cond.fieldLink "LentSundays$Parser" (190 : Nat) "LentSundays$Law" "less" "[LLentSundays$Sum;") ∈ lw_all := lw_g (lw_at lw_m3 87 rfl) rfl
theorem q696 : (Jvm.Cond.fieldLink "LentSundays$Parser" (198 : Nat) "LentSundays$Law" "than" "[LLentSundays$Sum;") ∈ lw_all := lw_g (lw_at lw_m3 89 rfl) rfl
theorem q698 : (Jvm.Cond.fieldLink "LentSundays$Parser" (204 : Nat) "LentSundays$Law" "then" "[LLentSundays$Sum;") ∈ lw_all := lw_g (lw_at lw_m3 91 rfl) rfl
theorem q700 : (Jvm.Cond.fieldLink "LentSundays$Parser" (187 : Nat) "LentSundays$Law" "ifs" "I") ∈ lw_all := lw_g (lw_at lw_m3 93 rfl) rfl
theorem q710 : (Jvm.Cond.methodLink "LentSundays$Parser" (105 : Nat) ({ cls := "LentSundays$Parser", name := "sign", desc := "(I)V" } : Jvm.MethodName)) ∈ lw_all := lw_g (lw_at lw_m3 103 rfl) rfl
theorem q711 : (Jvm.Cond.privateMethod ({ cls := "LentSundays$Parser", name := "sign", desc := "(I)V" } : Jvm.MethodName)) ∈ lw_tbl := lw_at lw_m3 104 rfl
theorem q712 : (Jvm.Cond.instanceMethod ({ cls := "LentSundays$Parser", name := "sign", desc := "(I)V" } : Jvm.MethodName)) ∈ lw_all := lw_g (lw_at lw_m3 105 rfl) rfl
theorem q713 : (Jvm.Cond.code ({ cls := "LentSundays$Parser", name := "sign", desc := "(I)V" } : Jvm.MethodName) prog_12_method_9_code (2 : Nat) (Option.none : Option Jvm.ClassFile.FieldType)) ∈ lw_all := lw_g (lw_at lw_m3 106 rfl) rfl
theorem q714 : (Jvm.Cond.methodLink "LentSundays$Parser" (55 : Nat) ({ cls := "LentSundays$Parser", name := "isSign", desc := "(I)Z" } : Jvm.MethodName)) ∈ lw_all := lw_g (lw_at lw_m3 107 rfl) rfl
theorem q715 : (Jvm.Cond.privateMethod ({ cls := "LentSundays$Parser", name := "isSign", desc := "(I)Z" } : Jvm.MethodName)) ∈ lw_tbl := lw_at lw_m3 108 rfl
theorem q716 : (Jvm.Cond.instanceMethod ({ cls := "LentSundays$Parser", name := "isSign", desc := "(I)Z" } : Jvm.MethodName)) ∈ lw_all := lw_g (lw_at lw_m3 109 rfl) rfl
theorem q717 : (Jvm.Cond.code ({ cls := "LentSundays$Parser", name := "isSign", desc := "(I)Z" } : Jvm.MethodName) prog_12_method_7_code (2 : Nat) (Option.some Jvm.ClassFile.FieldType.boolean)) ∈ lw_all := lw_g (lw_at lw_m3 110 rfl) rfl
theorem q718 : (Jvm.Cond.methodLink "LentSundays$Parser" (62 : Nat) ({ cls := "LentSundays$Parser", name := "isWord", desc := "(I)Z" } : Jvm.MethodName)) ∈ lw_all := lw_g (lw_at lw_m3 111 rfl) rfl
theorem q719 : (Jvm.Cond.privateMethod ({ cls := "LentSundays$Parser", name := "isWord", desc := "(I)Z" } : Jvm.MethodName)) ∈ lw_tbl := lw_at lw_m3 112 rfl
theorem q720 : (Jvm.Cond.instanceMethod ({ cls := "LentSundays$Parser", name := "isWord", desc := "(I)Z" } : Jvm.MethodName)) ∈ lw_all := lw_g (lw_at lw_m3 113 rfl) rfl
theorem q721 : (Jvm.Cond.code ({ cls := "LentSundays$Parser", name := "isWord", desc := "(I)Z" } : Jvm.MethodName) prog_12_method_8_code (2 : Nat) (Option.some Jvm.ClassFile.FieldType.boolean)) ∈ lw_all := lw_g (lw_at lw_m3 114 rfl) rfl
theorem q722 : (Jvm.Cond.methodLink "LentSundays$Parser" (126 : Nat) ({ cls := "LentSundays$Parser", name := "begins", desc := "(II)V" } : Jvm.MethodName)) ∈ lw_all := lw_g (lw_at lw_m3 115 rfl) rfl
theorem q723 : (Jvm.Cond.privateMethod ({ cls := "LentSundays$Parser", name := "begins", desc := "(II)V" } : Jvm.MethodName)) ∈ lw_tbl := lw_at lw_m3 116 rfl
theorem q724 : (Jvm.Cond.instanceMethod ({ cls := "LentSundays$Parser", name := "begins", desc := "(II)V" } : Jvm.MethodName)) ∈ lw_all := lw_g (lw_at lw_m3 117 rfl) rfl
theorem q725 : (Jvm.Cond.code ({ cls := "LentSundays$Parser", name := "begins", desc := "(II)V" } : Jvm.MethodName) prog_12_method_15_code (3 : Nat) (Option.none : Option Jvm.ClassFile.FieldType)) ∈ lw_all := lw_g (lw_at lw_m3 118 rfl) rfl
theorem q726 : (Jvm.Cond.methodLink "LentSundays$Parser" (194 : Nat) ({ cls := "LentSundays$Parser", name := "sum", desc := "()LLentSundays$Sum;" } : Jvm.MethodName)) ∈ lw_all := lw_g (lw_at lw_m3 119 rfl) rfl
theorem q727 : (Jvm.Cond.privateMethod ({ cls := "LentSundays$Parser", name := "sum", desc := "()LLentSundays$Sum;" } : Jvm.MethodName)) ∈ lw_tbl := lw_at lw_m3 120 rfl
theorem q728 : (Jvm.Cond.instanceMethod ({ cls := "LentSundays$Parser", name := "sum", desc := "()LLentSundays$Sum;" } : Jvm.MethodName)) ∈ lw_all := lw_g (lw_at lw_m3 121 rfl) rfl
theorem q729 : (Jvm.Cond.code ({ cls := "LentSundays$Parser", name := "sum", desc := "()LLentSundays$Sum;" } : Jvm.MethodName) prog_12_method_20_code (3 : Nat) (Option.some (Jvm.ClassFile.FieldType.object "LentSundays$Sum"))) ∈ lw_all := lw_g (lw_at lw_m3 122 rfl) rfl
theorem q730 : (Jvm.Cond.methodLink "LentSundays$Parser" (207 : Nat) ({ cls := "LentSundays$Parser", name := "part", desc := "()LLentSundays$Sum;" } : Jvm.MethodName)) ∈ lw_all := lw_g (lw_at lw_m3 123 rfl) rfl
theorem q731 : (Jvm.Cond.privateMethod ({ cls := "LentSundays$Parser", name := "part", desc := "()LLentSundays$Sum;" } : Jvm.MethodName)) ∈ lw_tbl := lw_at lw_m3 124 rfl
theorem q732 : (Jvm.Cond.instanceMethod ({ cls := "LentSundays$Parser", name := "part", desc := "()LLentSundays$Sum;" } : Jvm.MethodName)) ∈ lw_all := lw_g (lw_at lw_m3 125 rfl) rfl
theorem q733 : (Jvm.Cond.code ({ cls := "LentSundays$Parser", name := "part", desc := "()LLentSundays$Sum;" } : Jvm.MethodName) prog_12_method_21_code (3 : Nat) (Option.some (Jvm.ClassFile.FieldType.object "LentSundays$Sum"))) ∈ lw_all := lw_g (lw_at lw_m3 126 rfl) rfl
theorem q734 : (Jvm.Cond.methodLink "LentSundays$Parser" (215 : Nat) ({ cls := "LentSundays$Parser", name := "unit", desc := "()LLentSundays$Sum;" } : Jvm.MethodName)) ∈ lw_all := lw_g (lw_at lw_m3 127 rfl) rfl
theorem q735 : (Jvm.Cond.privateMethod ({ cls := "LentSundays$Parser", name := "unit", desc := "()LLentSundays$Sum;" } : Jvm.MethodName)) ∈ lw_tbl := lw_at lw_m3 128 rfl
theorem q736 : (Jvm.Cond.instanceMethod ({ cls := "LentSundays$Parser", name := "unit", desc := "()LLentSundays$Sum;" } : Jvm.MethodName)) ∈ lw_all := lw_g (lw_at lw_m3 129 rfl) rfl
theorem q737 : (Jvm.Cond.code ({ cls := "LentSundays$Parser", name := "unit", desc := "()LLentSundays$Sum;" } : Jvm.MethodName) prog_12_method_22_code (2 : Nat) (Option.some (Jvm.ClassFile.FieldType.object "LentSundays$Sum"))) ∈ lw_all := lw_g (lw_at lw_m3 130 rfl) rfl
theorem q738 : (Jvm.Cond.classLink "LentSundays$Parser" (218 : Nat) "LentSundays$Number") ∈ lw_all := lw_g (lw_at lw_m3 131 rfl) rfl
theorem q740 : (Jvm.Cond.methodLink "LentSundays$Parser" (72 : Nat) ({ cls := "LentSundays$Tokens", name := "number", desc := "(I)I" } : Jvm.MethodName)) ∈ lw_all := lw_g (lw_at lw_m3 133 rfl) rfl
theorem q744 : (Jvm.Cond.methodLink "LentSundays$Parser" (220 : Nat) ({ cls := "LentSundays$Number", name := "<init>", desc := "(I)V" } : Jvm.MethodName)) ∈ lw_all := lw_g (lw_at lw_m3 137 rfl) rfl
theorem q755 : (Jvm.Cond.classLink "LentSundays$Parser" (222 : Nat) "LentSundays$Var") ∈ lw_all := lw_g (lw_at lw_m3 148 rfl) rfl
theorem q757 : (Jvm.Cond.methodLink "LentSundays$Parser" (224 : Nat) ({ cls := "LentSundays$Var", name := "<init>", desc := "(I)V" } : Jvm.MethodName)) ∈ lw_all := lw_g (lw_at lw_m3 150 rfl) rfl
theorem q765 : (Jvm.Cond.classLink "LentSundays$Parser" (210 : Nat) "LentSundays$Joined") ∈ lw_all := lw_g (lw_at lw_m3 158 rfl) rfl
theorem q767 : (Jvm.Cond.methodLink "LentSundays$Parser" (212 : Nat) ({ cls := "LentSundays$Joined", name := "<init>", desc := "(ILLentSundays$Sum;LLentSundays$Sum;)V" } : Jvm.MethodName)) ∈ lw_all := lw_g (lw_at lw_m3 160 rfl) rfl
theorem q781 : (Jvm.Cond.methodLink "LentSundays$Parser" (201 : Nat) ({ cls := "LentSundays$Parser", name := "word", desc := "(I)V" } : Jvm.MethodName)) ∈ lw_all := lw_g (lw_at lw_m3 174 rfl) rfl
theorem q782 : (Jvm.Cond.privateMethod ({ cls := "LentSundays$Parser", name := "word", desc := "(I)V" } : Jvm.MethodName)) ∈ lw_tbl := lw_at lw_m3 175 rfl
theorem q783 : (Jvm.Cond.instanceMethod ({ cls := "LentSundays$Parser", name := "word", desc := "(I)V" } : Jvm.MethodName)) ∈ lw_all := lw_g (lw_at lw_m3 176 rfl) rfl
theorem q784 : (Jvm.Cond.code ({ cls := "LentSundays$Parser", name := "word", desc := "(I)V" } : Jvm.MethodName) prog_12_method_10_code (2 : Nat) (Option.none : Option Jvm.ClassFile.FieldType)) ∈ lw_all := lw_g (lw_at lw_m3 177 rfl) rfl
theorem q785 : (Jvm.Cond.methodLink "LentSundays$Parser" (121 : Nat) ({ cls := "java/util/ArrayList", name := "size", desc := "()I" } : Jvm.MethodName)) ∈ lw_all := lw_g (lw_at lw_m3 178 rfl) rfl
theorem q789 : (Jvm.Cond.classLink "LentSundays$Parser" (129 : Nat) "LentSundays$Sunday") ∈ lw_all := lw_g (lw_at lw_m3 182 rfl) rfl
theorem q791 : (Jvm.Cond.methodLink "LentSundays$Parser" (131 : Nat) ({ cls := "LentSundays$Parser", name := "name", desc := "()Ljava/lang/String;" } : Jvm.MethodName)) ∈ lw_all := lw_g (lw_at lw_m3 184 rfl) rfl
theorem q792 : (Jvm.Cond.privateMethod ({ cls := "LentSundays$Parser", name := "name", desc := "()Ljava/lang/String;" } : Jvm.MethodName)) ∈ lw_tbl := lw_at lw_m3 185 rfl
theorem q793 : (Jvm.Cond.instanceMethod ({ cls := "LentSundays$Parser", name := "name", desc := "()Ljava/lang/String;" } : Jvm.MethodName)) ∈ lw_all := lw_g (lw_at lw_m3 186 rfl) rfl
theorem q794 : (Jvm.Cond.code ({ cls := "LentSundays$Parser", name := "name", desc := "()Ljava/lang/String;" } : Jvm.MethodName) prog_12_method_13_code (3 : Nat) (Option.some (Jvm.ClassFile.FieldType.object "java/lang/String"))) ∈ lw_all := lw_g (lw_at lw_m3 187 rfl) rfl
theorem q795 : (Jvm.Cond.methodLink "LentSundays$Parser" (68 : Nat) ({ cls := "LentSundays$Parser", name := "take", desc := "(I)I" } : Jvm.MethodName)) ∈ lw_all := lw_g (lw_at lw_m3 188 rfl) rfl
theorem q796 : (Jvm.Cond.privateMethod ({ cls := "LentSundays$Parser", name := "take", desc := "(I)I" } : Jvm.MethodName)) ∈ lw_tbl := lw_at lw_m3 189 rfl
theorem q797 : (Jvm.Cond.instanceMethod ({ cls := "LentSundays$Parser", name := "take", desc := "(I)I" } : Jvm.MethodName)) ∈ lw_all := lw_g (lw_at lw_m3 190 rfl) rfl
theorem q798 : (Jvm.Cond.code ({ cls := "LentSundays$Parser", name := "take", desc := "(I)I" } : Jvm.MethodName) prog_12_method_11_code (2 : Nat) (Option.some Jvm.ClassFile.FieldType.int)) ∈ lw_all := lw_g (lw_at lw_m3 191 rfl) rfl
theorem q799 : (Jvm.Cond.methodLink "LentSundays$Parser" (79 : Nat) ({ cls := "LentSundays$Tokens", name := "text", desc := "(I)Ljava/lang/String;" } : Jvm.MethodName)) ∈ lw_all := lw_g (lw_at lw_m3 192 rfl) rfl
theorem q965 : (Jvm.Cond.methodLink "LentSundays$Parser" (86 : Nat) ({ cls := "LentSundays$Text", name := "has", desc := "(Ljava/lang/String;)Z" } : Jvm.MethodName)) ∈ lw_all := lw_g (lw_at lw_m4 118 rfl) rfl
theorem q994 : (Jvm.Cond.methodLink "LentSundays$Parser" (75 : Nat) ({ cls := "LentSundays$Parser", name := "tell", desc := "(II)V" } : Jvm.MethodName)) ∈ lw_all := lw_g (lw_at lw_m4 147 rfl) rfl
theorem q995 : (Jvm.Cond.privateMethod ({ cls := "LentSundays$Parser", name := "tell", desc := "(II)V" } : Jvm.MethodName)) ∈ lw_tbl := lw_at lw_m4 148 rfl
theorem q996 : (Jvm.Cond.instanceMethod ({ cls := "LentSundays$Parser", name := "tell", desc := "(II)V" } : Jvm.MethodName)) ∈ lw_all := lw_g (lw_at lw_m4 149 rfl) rfl
theorem q997 : (Jvm.Cond.code ({ cls := "LentSundays$Parser", name := "tell", desc := "(II)V" } : Jvm.MethodName) prog_12_method_4_code (3 : Nat) (Option.none : Option Jvm.ClassFile.FieldType)) ∈ lw_all := lw_g (lw_at lw_m4 150 rfl) rfl
theorem q998 : (Jvm.Cond.methodLink "LentSundays$Parser" (135 : Nat) ({ cls := "LentSundays$Sunday", name := "<init>", desc := "(Ljava/lang/String;)V" } : Jvm.MethodName)) ∈ lw_all := lw_g (lw_at lw_m4 151 rfl) rfl
theorem q1007 : (Jvm.Cond.fieldLink "LentSundays$Parser" (141 : Nat) "LentSundays$Sunday" "hours" "I") ∈ lw_all := lw_g (lw_at lw_m4 160 rfl) rfl
theorem q1010 : (Jvm.Cond.fieldLink "LentSundays$Parser" (144 : Nat) "LentSundays$Sunday" "worth" "I") ∈ lw_all := lw_g (lw_at lw_m4 163 rfl) rfl
theorem q1020 : (Jvm.Cond.methodLink "LentSundays$Parser" (138 : Nat) ({ cls := "LentSundays$Parser", name := "number", desc := "(II)I" } : Jvm.MethodName)) ∈ lw_all := lw_g (lw_at lw_m4 173 rfl) rfl
theorem q1021 : (Jvm.Cond.privateMethod ({ cls := "LentSundays$Parser", name := "number", desc := "(II)I" } : Jvm.MethodName)) ∈ lw_tbl := lw_at lw_m4 174 rfl
theorem q1022 : (Jvm.Cond.instanceMethod ({ cls := "LentSundays$Parser", name := "number", desc := "(II)I" } : Jvm.MethodName)) ∈ lw_all := lw_g (lw_at lw_m4 175 rfl) rfl
theorem q1023 : (Jvm.Cond.code ({ cls := "LentSundays$Parser", name := "number", desc := "(II)I" } : Jvm.MethodName) prog_12_method_12_code (5 : Nat) (Option.some Jvm.ClassFile.FieldType.int)) ∈ lw_all := lw_g (lw_at lw_m4 176 rfl) rfl
theorem q1024 : (Jvm.Cond.methodLink "LentSundays$Parser" (147 : Nat) ({ cls := "java/util/ArrayList", name := "add", desc := "(Ljava/lang/Object;)Z" } : Jvm.MethodName)) ∈ lw_all := lw_g (lw_at lw_m4 177 rfl) rfl
theorem q1056 : (Jvm.Cond.selects "LentSundays$Parser" ({ cls := "java/lang/Object", name := "getClass", desc := "()Ljava/lang/Class;" } : Jvm.MethodName) ({ cls := "java/lang/Object", name := "getClass", desc := "()Ljava/lang/Class;" } : Jvm.MethodName)) ∈ lw_all := lw_g (lw_at lw_m4 209 rfl) rfl
theorem q1075 : (Jvm.Cond.classLink "LentSundays$Parser" (154 : Nat) "LentSundays$Guest") ∈ lw_all := lw_g (lw_at lw_m4 228 rfl) rfl
theorem q1077 : (Jvm.Cond.methodLink "LentSundays$Parser" (156 : Nat) ({ cls := "LentSundays$Guest", name := "<init>", desc := "(Ljava/lang/String;)V" } : Jvm.MethodName)) ∈ lw_all := lw_g (lw_at lw_m4 230 rfl) rfl
theorem q1085 : (Jvm.Cond.fieldLink "LentSundays$Parser" (157 : Nat) "LentSundays$Guest" "hour" "I") ∈ lw_all := lw_g (lw_at lw_m4 238 rfl) rfl
theorem q1090 : (Jvm.Cond.fieldLink "LentSundays$Parser" (160 : Nat) "LentSundays$Guest" "hours" "I") ∈ lw_all := lw_g (lw_at lw_m5 3 rfl) rfl
theorem q1093 : (Jvm.Cond.fieldLink "LentSundays$Parser" (161 : Nat) "LentSundays$Guest" "fee" "I") ∈ lw_all := lw_g (lw_at lw_m5 6 rfl) rfl
theorem q1095 : (Jvm.Cond.fieldLink "LentSundays$Parser" (183 : Nat) "LentSundays$Guest" "foes" "I") ∈ lw_all := lw_g (lw_at lw_m5 8 rfl) rfl
theorem q1106 : (Jvm.Cond.methodLink "LentSundays$Parser" (167 : Nat) ({ cls := "LentSundays$Parser", name := "foes", desc := "()V" } : Jvm.MethodName)) ∈ lw_all := lw_g (lw_at lw_m5 19 rfl) rfl
theorem q1107 : (Jvm.Cond.privateMethod ({ cls := "LentSundays$Parser", name := "foes", desc := "()V" } : Jvm.MethodName)) ∈ lw_tbl := lw_at lw_m5 20 rfl
theorem q1108 : (Jvm.Cond.instanceMethod ({ cls := "LentSundays$Parser", name := "foes", desc := "()V" } : Jvm.MethodName)) ∈ lw_all := lw_g (lw_at lw_m5 21 rfl) rfl
theorem q1109 : (Jvm.Cond.code ({ cls := "LentSundays$Parser", name := "foes", desc := "()V" } : Jvm.MethodName) prog_12_method_18_code (4 : Nat) (Option.none : Option Jvm.ClassFile.FieldType)) ∈ lw_all := lw_g (lw_at lw_m5 22 rfl) rfl
theorem q1110 : (Jvm.Cond.methodLink "LentSundays$Parser" (175 : Nat) ({ cls := "LentSundays$Parser", name := "known", desc := "(Ljava/util/ArrayList;)I" } : Jvm.MethodName)) ∈ lw_all := lw_g (lw_at lw_m5 23 rfl) rfl
theorem q1111 : (Jvm.Cond.privateMethod ({ cls := "LentSundays$Parser", name := "known", desc := "(Ljava/util/ArrayList;)I" } : Jvm.MethodName)) ∈ lw_tbl := lw_at lw_m5 24 rfl
theorem q1112 : (Jvm.Cond.instanceMethod ({ cls := "LentSundays$Parser", name := "known", desc := "(Ljava/util/ArrayList;)I" } : Jvm.MethodName)) ∈ lw_all := lw_g (lw_at lw_m5 25 rfl) rfl
theorem q1113 : (Jvm.Cond.code ({ cls := "LentSundays$Parser", name := "known", desc := "(Ljava/util/ArrayList;)I" } : Jvm.MethodName) prog_12_method_14_code (4 : Nat) (Option.some Jvm.ClassFile.FieldType.int)) ∈ lw_all := lw_g (lw_at lw_m5 26 rfl) rfl
theorem q1114 : (Jvm.Cond.methodLink "LentSundays$Parser" (92 : Nat) ({ cls := "LentSundays$Text", name := "at", desc := "(Ljava/util/ArrayList;Ljava/lang/String;)I" } : Jvm.MethodName)) ∈ lw_all := lw_g (lw_at lw_m5 27 rfl) rfl
theorem q1115 : (Jvm.Cond.methodLink "LentSundays$Parser" (179 : Nat) ({ cls := "java/util/ArrayList", name := "get", desc := "(I)Ljava/lang/Object;" } : Jvm.MethodName)) ∈ lw_all := lw_g (lw_at lw_m5 28 rfl) rfl
theorem q2236 : (Jvm.Cond.castable "LentSundays$Parser" "java/lang/Object") ∈ lw_tbl := lw_at lw_m9 189 rfl
theorem in_X3 : ∀ w ∈ wsX30, w ∈ lw_all := lw_in wsX30 [320, 322, 324, 326, 328, 330, 332] (by decide +kernel) (by decide +kernel)
/-! LentSundays$Text -/
set_option maxRecDepth 100000
def RX4 : String := "LentSundays$Text"
def TX4 : u_T := fun k => match k with
  | 0 => ("LentSundays$Text", "sundays", "Ljava/util/ArrayList;", true)
  | 1 => ("LentSundays$Text", "guests", "Ljava/util/ArrayList;", true)
  | 2 => ("LentSundays$Text", "laws", "[LLentSundays$Law;", true)
  | 3 => ("LentSundays$Text", "foes", "I", false)
  | 4 => ("LentSundays$Text", "death", "I", false)
  | _ => ("LentSundays$Text", "seed", "I", false)
def tyX4 : Nat → FieldType := fun k => match k with
  | 0 => .object "java/util/ArrayList"
  | 1 => .object "java/util/ArrayList"
  | 2 => .array (.object "LentSundays$Law")
  | 3 => .int
  | 4 => .int
  | _ => .int
abbrev wsX40 : List Cond := u_ws RX4 TX4 6
theorem nmX4 : ∀ a, a < 6 → ∀ b, b < 6 → a ≠ b → (TX4 a).2.1 ≠ (TX4 b).2.1 := by decide +kernel
theorem tyX4_ok : ∀ k, k < 6 → parseFieldDescriptor (TX4 k).2.2.1 = some (tyX4 k) := by decide +kernel
abbrev cX4_init : ByteArray := prog_16_method_1_code
def yX4_init : MethodName := ⟨RX4, "<init>", "()V"⟩
def dkwX4_init_1 : List UInt8 := [181, 0, 18, 42, 7, 189, 0, 21, 181, 0, 23, 42, 16, 100, 181, 0, 27, 177]
abbrev dktX4_init_1 : List UInt8 := dkwX4_init_1 ++ []
def dkwX4_init_0 : List UInt8 := [42, 183, 0, 3, 42, 187, 0, 9, 89, 183, 0, 11, 181, 0, 12, 42, 187, 0, 9, 89, 183, 0, 11]
abbrev dktX4_init_0 : List UInt8 := dkwX4_init_0 ++ dktX4_init_1
theorem dksX4_init_0 : cX4_init.data.toList.drop 0 = dktX4_init_0 := by decide +kernel
theorem dksX4_init_1 : cX4_init.data.toList.drop 23 = dktX4_init_1 := dk_seg dksX4_init_0 23 rfl rfl
theorem dX4_init_0 : decode cX4_init 0 = .ok (.aload_n 0, 1) := dk_42 (dk_at dksX4_init_0 0 rfl rfl)
theorem dX4_init_1 : decode cX4_init 1 = .ok (.invokespecial 3, 3) := dk_183 0 3 (dk_at dksX4_init_0 1 rfl rfl)
theorem dX4_init_4 : decode cX4_init 4 = .ok (.aload_n 0, 1) := dk_42 (dk_at dksX4_init_0 4 rfl rfl)
theorem dX4_init_5 : decode cX4_init 5 = .ok (.new 9, 3) := dk_187 0 9 (dk_at dksX4_init_0 5 rfl rfl)
theorem dX4_init_8 : decode cX4_init 8 = .ok (.dup, 1) := dk_89 (dk_at dksX4_init_0 8 rfl rfl)
theorem dX4_init_9 : decode cX4_init 9 = .ok (.invokespecial 11, 3) := dk_183 0 11 (dk_at dksX4_init_0 9 rfl rfl)
theorem dX4_init_12 : decode cX4_init 12 = .ok (.putfield 12, 3) := dk_181 0 12 (dk_at dksX4_init_0 12 rfl rfl)
theorem dX4_init_15 : decode cX4_init 15 = .ok (.aload_n 0, 1) := dk_42 (dk_at dksX4_init_0 15 rfl rfl)
theorem dX4_init_16 : decode cX4_init 16 = .ok (.new 9, 3) := dk_187 0 9 (dk_at dksX4_init_0 16 rfl rfl)
theorem dX4_init_19 : decode cX4_init 19 = .ok (.dup, 1) := dk_89 (dk_at dksX4_init_0 19 rfl rfl)
theorem dX4_init_20 : decode cX4_init 20 = .ok (.invokespecial 11, 3) := dk_183 0 11 (dk_at dksX4_init_0 20 rfl rfl)
theorem dX4_init_23 : decode cX4_init 23 = .ok (.putfield 18, 3) := dk_181 0 18 (dk_at dksX4_init_1 0 rfl rfl)
theorem dX4_init_26 : decode cX4_init 26 = .ok (.aload_n 0, 1) := dk_42 (dk_at dksX4_init_1 3 rfl rfl)
theorem dX4_init_27 : decode cX4_init 27 = .ok (.iconst 4, 1) := dk_7 (dk_at dksX4_init_1 4 rfl rfl)
theorem dX4_init_28 : decode cX4_init 28 = .ok (.anewarray 21, 3) := dk_189 0 21 (dk_at dksX4_init_1 5 rfl rfl)
theorem dX4_init_31 : decode cX4_init 31 = .ok (.putfield 23, 3) := dk_181 0 23 (dk_at dksX4_init_1 8 rfl rfl)
theorem dX4_init_34 : decode cX4_init 34 = .ok (.aload_n 0, 1) := dk_42 (dk_at dksX4_init_1 11 rfl rfl)
theorem dX4_init_35 : decode cX4_init 35 = .ok (.bipush 100, 2) := dk_16 100 (dk_at dksX4_init_1 12 rfl rfl)
theorem dX4_init_37 : decode cX4_init 37 = .ok (.putfield 27, 3) := dk_181 0 27 (dk_at dksX4_init_1 14 rfl rfl)
theorem dX4_init_40 : decode cX4_init 40 = .ok (.return_, 1) := dk_177 (dk_at dksX4_init_1 17 rfl rfl)
abbrev cX4_has : ByteArray := prog_16_method_3_code
def yX4_has : MethodName := ⟨RX4, "has", "(Ljava/lang/String;)Z"⟩
def dkwX4_has_1 : List UInt8 := [167, 0, 4, 3, 172]
abbrev dktX4_has_1 : List UInt8 := dkwX4_has_1 ++ []
def dkwX4_has_0 : List UInt8 := [42, 180, 0, 12, 43, 184, 0, 51, 156, 0, 14, 42, 180, 0, 18, 43, 184, 0, 51, 155, 0, 7, 4]
abbrev dktX4_has_0 : List UInt8 := dkwX4_has_0 ++ dktX4_has_1
theorem dksX4_has_0 : cX4_has.data.toList.drop 0 = dktX4_has_0 := by decide +kernel
theorem dksX4_has_1 : cX4_has.data.toList.drop 23 = dktX4_has_1 := dk_seg dksX4_has_0 23 rfl rfl
theorem dX4_has_0 : decode cX4_has 0 = .ok (.aload_n 0, 1) := dk_42 (dk_at dksX4_has_0 0 rfl rfl)
theorem dX4_has_1 : decode cX4_has 1 = .ok (.getfield 12, 3) := dk_180 0 12 (dk_at dksX4_has_0 1 rfl rfl)
theorem dX4_has_4 : decode cX4_has 4 = .ok (.aload_n 1, 1) := dk_43 (dk_at dksX4_has_0 4 rfl rfl)
theorem dX4_has_5 : decode cX4_has 5 = .ok (.invokestatic 51, 3) := dk_184 0 51 (dk_at dksX4_has_0 5 rfl rfl)
theorem dX4_has_8 : decode cX4_has 8 = .ok (.ifCond .ge 14, 3) := dk_156 0 14 (dk_at dksX4_has_0 8 rfl rfl)
theorem dX4_has_11 : decode cX4_has 11 = .ok (.aload_n 0, 1) := dk_42 (dk_at dksX4_has_0 11 rfl rfl)
theorem dX4_has_12 : decode cX4_has 12 = .ok (.getfield 18, 3) := dk_180 0 18 (dk_at dksX4_has_0 12 rfl rfl)
theorem dX4_has_15 : decode cX4_has 15 = .ok (.aload_n 1, 1) := dk_43 (dk_at dksX4_has_0 15 rfl rfl)
theorem dX4_has_16 : decode cX4_has 16 = .ok (.invokestatic 51, 3) := dk_184 0 51 (dk_at dksX4_has_0 16 rfl rfl)
theorem dX4_has_19 : decode cX4_has 19 = .ok (.ifCond .lt 7, 3) := dk_155 0 7 (dk_at dksX4_has_0 19 rfl rfl)
theorem dX4_has_22 : decode cX4_has 22 = .ok (.iconst 1, 1) := dk_4 (dk_at dksX4_has_0 22 rfl rfl)
theorem dX4_has_23 : decode cX4_has 23 = .ok (.goto 4, 3) := dk_167 0 4 (dk_at dksX4_has_1 0 rfl rfl)
theorem dX4_has_26 : decode cX4_has 26 = .ok (.iconst 0, 1) := dk_3 (dk_at dksX4_has_1 3 rfl rfl)
theorem dX4_has_27 : decode cX4_has 27 = .ok (.ireturn, 1) := dk_172 (dk_at dksX4_has_1 4 rfl rfl)
abbrev cX4_at : ByteArray := prog_16_method_2_code
def yX4_at : MethodName := ⟨RX4, "at", "(Ljava/util/ArrayList;Ljava/lang/String;)I"⟩
def dkwX4_at_1 : List UInt8 := [182, 0, 45, 153, 0, 5, 28, 172, 132, 2, 1, 167, 255, 225, 2, 172]
abbrev dktX4_at_1 : List UInt8 := dkwX4_at_1 ++ []
def dkwX4_at_0 : List UInt8 := [3, 61, 28, 42, 182, 0, 31, 162, 0, 29, 42, 28, 182, 0, 35, 192, 0, 39, 180, 0, 41, 43]
abbrev dktX4_at_0 : List UInt8 := dkwX4_at_0 ++ dktX4_at_1
theorem dksX4_at_0 : cX4_at.data.toList.drop 0 = dktX4_at_0 := by decide +kernel
theorem dksX4_at_1 : cX4_at.data.toList.drop 22 = dktX4_at_1 := dk_seg dksX4_at_0 22 rfl rfl
theorem dX4_at_0 : decode cX4_at 0 = .ok (.iconst 0, 1) := dk_3 (dk_at dksX4_at_0 0 rfl rfl)
theorem dX4_at_1 : decode cX4_at 1 = .ok (.istore_n 2, 1) := dk_61 (dk_at dksX4_at_0 1 rfl rfl)
theorem dX4_at_2 : decode cX4_at 2 = .ok (.iload_n 2, 1) := dk_28 (dk_at dksX4_at_0 2 rfl rfl)
theorem dX4_at_3 : decode cX4_at 3 = .ok (.aload_n 0, 1) := dk_42 (dk_at dksX4_at_0 3 rfl rfl)
theorem dX4_at_4 : decode cX4_at 4 = .ok (.invokevirtual 31, 3) := dk_182 0 31 (dk_at dksX4_at_0 4 rfl rfl)
theorem dX4_at_7 : decode cX4_at 7 = .ok (.if_icmp .ge 29, 3) := dk_162 0 29 (dk_at dksX4_at_0 7 rfl rfl)
theorem dX4_at_10 : decode cX4_at 10 = .ok (.aload_n 0, 1) := dk_42 (dk_at dksX4_at_0 10 rfl rfl)
theorem dX4_at_11 : decode cX4_at 11 = .ok (.iload_n 2, 1) := dk_28 (dk_at dksX4_at_0 11 rfl rfl)
theorem dX4_at_12 : decode cX4_at 12 = .ok (.invokevirtual 35, 3) := dk_182 0 35 (dk_at dksX4_at_0 12 rfl rfl)
theorem dX4_at_15 : decode cX4_at 15 = .ok (.checkcast 39, 3) := dk_192 0 39 (dk_at dksX4_at_0 15 rfl rfl)
theorem dX4_at_18 : decode cX4_at 18 = .ok (.getfield 41, 3) := dk_180 0 41 (dk_at dksX4_at_0 18 rfl rfl)
theorem dX4_at_21 : decode cX4_at 21 = .ok (.aload_n 1, 1) := dk_43 (dk_at dksX4_at_0 21 rfl rfl)
theorem dX4_at_22 : decode cX4_at 22 = .ok (.invokevirtual 45, 3) := dk_182 0 45 (dk_at dksX4_at_1 0 rfl rfl)
theorem dX4_at_25 : decode cX4_at 25 = .ok (.ifCond .eq 5, 3) := dk_153 0 5 (dk_at dksX4_at_1 3 rfl rfl)
theorem dX4_at_28 : decode cX4_at 28 = .ok (.iload_n 2, 1) := dk_28 (dk_at dksX4_at_1 6 rfl rfl)
theorem dX4_at_29 : decode cX4_at 29 = .ok (.ireturn, 1) := dk_172 (dk_at dksX4_at_1 7 rfl rfl)
theorem dX4_at_30 : decode cX4_at 30 = .ok (.iinc 2 1, 3) := dk_132 2 1 (dk_at dksX4_at_1 8 rfl rfl)
theorem dX4_at_33 : decode cX4_at 33 = .ok (.goto (-31), 3) := dk_167 255 225 (dk_at dksX4_at_1 11 rfl rfl)
theorem dX4_at_36 : decode cX4_at 36 = .ok (.iconst (-1), 1) := dk_2 (dk_at dksX4_at_1 14 rfl rfl)
theorem dX4_at_37 : decode cX4_at 37 = .ok (.ireturn, 1) := dk_172 (dk_at dksX4_at_1 15 rfl rfl)
abbrev cX4_isLong : ByteArray := prog_16_method_6_code
def yX4_isLong : MethodName := ⟨RX4, "isLong", "(II)Z"⟩
def dkwX4_isLong_2 : List UInt8 := [4, 167, 0, 4, 3, 172]
abbrev dktX4_isLong_2 : List UInt8 := dkwX4_isLong_2 ++ []
def dkwX4_isLong_1 : List UInt8 := [192, 0, 55, 180, 0, 71, 96, 42, 180, 0, 12, 28, 182, 0, 35, 192, 0, 74, 180, 0, 76, 163, 0, 7]
abbrev dktX4_isLong_1 : List UInt8 := dkwX4_isLong_1 ++ dktX4_isLong_2
def dkwX4_isLong_0 : List UInt8 := [42, 180, 0, 18, 27, 182, 0, 35, 192, 0, 55, 180, 0, 68, 42, 180, 0, 18, 27, 182, 0, 35]
abbrev dktX4_isLong_0 : List UInt8 := dkwX4_isLong_0 ++ dktX4_isLong_1
theorem dksX4_isLong_0 : cX4_isLong.data.toList.drop 0 = dktX4_isLong_0 := by decide +kernel
theorem dksX4_isLong_1 : cX4_isLong.data.toList.drop 22 = dktX4_isLong_1 := dk_seg dksX4_isLong_0 22 rfl rfl
theorem dksX4_isLong_2 : cX4_isLong.data.toList.drop 46 = dktX4_isLong_2 := dk_seg dksX4_isLong_1 24 rfl rfl
theorem dX4_isLong_0 : decode cX4_isLong 0 = .ok (.aload_n 0, 1) := dk_42 (dk_at dksX4_isLong_0 0 rfl rfl)
theorem dX4_isLong_1 : decode cX4_isLong 1 = .ok (.getfield 18, 3) := dk_180 0 18 (dk_at dksX4_isLong_0 1 rfl rfl)
theorem dX4_isLong_4 : decode cX4_isLong 4 = .ok (.iload_n 1, 1) := dk_27 (dk_at dksX4_isLong_0 4 rfl rfl)
theorem dX4_isLong_5 : decode cX4_isLong 5 = .ok (.invokevirtual 35, 3) := dk_182 0 35 (dk_at dksX4_isLong_0 5 rfl rfl)
theorem dX4_isLong_8 : decode cX4_isLong 8 = .ok (.checkcast 55, 3) := dk_192 0 55 (dk_at dksX4_isLong_0 8 rfl rfl)
theorem dX4_isLong_11 : decode cX4_isLong 11 = .ok (.getfield 68, 3) := dk_180 0 68 (dk_at dksX4_isLong_0 11 rfl rfl)
theorem dX4_isLong_14 : decode cX4_isLong 14 = .ok (.aload_n 0, 1) := dk_42 (dk_at dksX4_isLong_0 14 rfl rfl)
theorem dX4_isLong_15 : decode cX4_isLong 15 = .ok (.getfield 18, 3) := dk_180 0 18 (dk_at dksX4_isLong_0 15 rfl rfl)
theorem dX4_isLong_18 : decode cX4_isLong 18 = .ok (.iload_n 1, 1) := dk_27 (dk_at dksX4_isLong_0 18 rfl rfl)
theorem dX4_isLong_19 : decode cX4_isLong 19 = .ok (.invokevirtual 35, 3) := dk_182 0 35 (dk_at dksX4_isLong_0 19 rfl rfl)
theorem dX4_isLong_22 : decode cX4_isLong 22 = .ok (.checkcast 55, 3) := dk_192 0 55 (dk_at dksX4_isLong_1 0 rfl rfl)
theorem dX4_isLong_25 : decode cX4_isLong 25 = .ok (.getfield 71, 3) := dk_180 0 71 (dk_at dksX4_isLong_1 3 rfl rfl)
theorem dX4_isLong_28 : decode cX4_isLong 28 = .ok (.iadd, 1) := dk_96 (dk_at dksX4_isLong_1 6 rfl rfl)
theorem dX4_isLong_29 : decode cX4_isLong 29 = .ok (.aload_n 0, 1) := dk_42 (dk_at dksX4_isLong_1 7 rfl rfl)
theorem dX4_isLong_30 : decode cX4_isLong 30 = .ok (.getfield 12, 3) := dk_180 0 12 (dk_at dksX4_isLong_1 8 rfl rfl)
theorem dX4_isLong_33 : decode cX4_isLong 33 = .ok (.iload_n 2, 1) := dk_28 (dk_at dksX4_isLong_1 11 rfl rfl)
theorem dX4_isLong_34 : decode cX4_isLong 34 = .ok (.invokevirtual 35, 3) := dk_182 0 35 (dk_at dksX4_isLong_1 12 rfl rfl)
theorem dX4_isLong_37 : decode cX4_isLong 37 = .ok (.checkcast 74, 3) := dk_192 0 74 (dk_at dksX4_isLong_1 15 rfl rfl)
theorem dX4_isLong_40 : decode cX4_isLong 40 = .ok (.getfield 76, 3) := dk_180 0 76 (dk_at dksX4_isLong_1 18 rfl rfl)
theorem dX4_isLong_43 : decode cX4_isLong 43 = .ok (.if_icmp .gt 7, 3) := dk_163 0 7 (dk_at dksX4_isLong_1 21 rfl rfl)
theorem dX4_isLong_46 : decode cX4_isLong 46 = .ok (.iconst 1, 1) := dk_4 (dk_at dksX4_isLong_2 0 rfl rfl)
theorem dX4_isLong_47 : decode cX4_isLong 47 = .ok (.goto 4, 3) := dk_167 0 4 (dk_at dksX4_isLong_2 1 rfl rfl)
theorem dX4_isLong_50 : decode cX4_isLong 50 = .ok (.iconst 0, 1) := dk_3 (dk_at dksX4_isLong_2 4 rfl rfl)
theorem dX4_isLong_51 : decode cX4_isLong 51 = .ok (.ireturn, 1) := dk_172 (dk_at dksX4_isLong_2 5 rfl rfl)
abbrev cX4_rivals : ByteArray := prog_16_method_5_code
def yX4_rivals : MethodName := ⟨RX4, "rivals", "(I)I"⟩
def dkwX4_rivals_1 : List UInt8 := [153, 0, 9, 4, 29, 120, 167, 0, 4, 3, 128, 61, 132, 3, 1, 167, 255, 223, 28, 172]
abbrev dktX4_rivals_1 : List UInt8 := dkwX4_rivals_1 ++ []
def dkwX4_rivals_0 : List UInt8 := [3, 61, 3, 62, 29, 42, 180, 0, 18, 182, 0, 31, 162, 0, 28, 28, 42, 27, 29, 182, 0, 64]
abbrev dktX4_rivals_0 : List UInt8 := dkwX4_rivals_0 ++ dktX4_rivals_1
theorem dksX4_rivals_0 : cX4_rivals.data.toList.drop 0 = dktX4_rivals_0 := by decide +kernel
theorem dksX4_rivals_1 : cX4_rivals.data.toList.drop 22 = dktX4_rivals_1 := dk_seg dksX4_rivals_0 22 rfl rfl
theorem dX4_rivals_0 : decode cX4_rivals 0 = .ok (.iconst 0, 1) := dk_3 (dk_at dksX4_rivals_0 0 rfl rfl)
theorem dX4_rivals_1 : decode cX4_rivals 1 = .ok (.istore_n 2, 1) := dk_61 (dk_at dksX4_rivals_0 1 rfl rfl)
theorem dX4_rivals_2 : decode cX4_rivals 2 = .ok (.iconst 0, 1) := dk_3 (dk_at dksX4_rivals_0 2 rfl rfl)
theorem dX4_rivals_3 : decode cX4_rivals 3 = .ok (.istore_n 3, 1) := dk_62 (dk_at dksX4_rivals_0 3 rfl rfl)
theorem dX4_rivals_4 : decode cX4_rivals 4 = .ok (.iload_n 3, 1) := dk_29 (dk_at dksX4_rivals_0 4 rfl rfl)
theorem dX4_rivals_5 : decode cX4_rivals 5 = .ok (.aload_n 0, 1) := dk_42 (dk_at dksX4_rivals_0 5 rfl rfl)
theorem dX4_rivals_6 : decode cX4_rivals 6 = .ok (.getfield 18, 3) := dk_180 0 18 (dk_at dksX4_rivals_0 6 rfl rfl)
theorem dX4_rivals_9 : decode cX4_rivals 9 = .ok (.invokevirtual 31, 3) := dk_182 0 31 (dk_at dksX4_rivals_0 9 rfl rfl)
theorem dX4_rivals_12 : decode cX4_rivals 12 = .ok (.if_icmp .ge 28, 3) := dk_162 0 28 (dk_at dksX4_rivals_0 12 rfl rfl)
theorem dX4_rivals_15 : decode cX4_rivals 15 = .ok (.iload_n 2, 1) := dk_28 (dk_at dksX4_rivals_0 15 rfl rfl)
theorem dX4_rivals_16 : decode cX4_rivals 16 = .ok (.aload_n 0, 1) := dk_42 (dk_at dksX4_rivals_0 16 rfl rfl)
theorem dX4_rivals_17 : decode cX4_rivals 17 = .ok (.iload_n 1, 1) := dk_27 (dk_at dksX4_rivals_0 17 rfl rfl)
theorem dX4_rivals_18 : decode cX4_rivals 18 = .ok (.iload_n 3, 1) := dk_29 (dk_at dksX4_rivals_0 18 rfl rfl)
theorem dX4_rivals_19 : decode cX4_rivals 19 = .ok (.invokevirtual 64, 3) := dk_182 0 64 (dk_at dksX4_rivals_0 19 rfl rfl)
theorem dX4_rivals_22 : decode cX4_rivals 22 = .ok (.ifCond .eq 9, 3) := dk_153 0 9 (dk_at dksX4_rivals_1 0 rfl rfl)
theorem dX4_rivals_25 : decode cX4_rivals 25 = .ok (.iconst 1, 1) := dk_4 (dk_at dksX4_rivals_1 3 rfl rfl)
theorem dX4_rivals_26 : decode cX4_rivals 26 = .ok (.iload_n 3, 1) := dk_29 (dk_at dksX4_rivals_1 4 rfl rfl)
theorem dX4_rivals_27 : decode cX4_rivals 27 = .ok (.ishl, 1) := dk_120 (dk_at dksX4_rivals_1 5 rfl rfl)
theorem dX4_rivals_28 : decode cX4_rivals 28 = .ok (.goto 4, 3) := dk_167 0 4 (dk_at dksX4_rivals_1 6 rfl rfl)
theorem dX4_rivals_31 : decode cX4_rivals 31 = .ok (.iconst 0, 1) := dk_3 (dk_at dksX4_rivals_1 9 rfl rfl)
theorem dX4_rivals_32 : decode cX4_rivals 32 = .ok (.ior, 1) := dk_128 (dk_at dksX4_rivals_1 10 rfl rfl)
theorem dX4_rivals_33 : decode cX4_rivals 33 = .ok (.istore_n 2, 1) := dk_61 (dk_at dksX4_rivals_1 11 rfl rfl)
theorem dX4_rivals_34 : decode cX4_rivals 34 = .ok (.iinc 3 1, 3) := dk_132 3 1 (dk_at dksX4_rivals_1 12 rfl rfl)
theorem dX4_rivals_37 : decode cX4_rivals 37 = .ok (.goto (-33), 3) := dk_167 255 223 (dk_at dksX4_rivals_1 15 rfl rfl)
theorem dX4_rivals_40 : decode cX4_rivals 40 = .ok (.iload_n 2, 1) := dk_28 (dk_at dksX4_rivals_1 18 rfl rfl)
theorem dX4_rivals_41 : decode cX4_rivals 41 = .ok (.ireturn, 1) := dk_172 (dk_at dksX4_rivals_1 19 rfl rfl)
abbrev cX4_clash : ByteArray := prog_16_method_4_code
def yX4_clash : MethodName := ⟨RX4, "clash", "(II)Z"⟩
def dkwX4_clash_2 : List UInt8 := [192, 0, 55, 182, 0, 60, 153, 0, 7, 4, 167, 0, 4, 3, 172]
abbrev dktX4_clash_2 : List UInt8 := dkwX4_clash_2 ++ []
def dkwX4_clash_1 : List UInt8 := [159, 0, 31, 42, 180, 0, 18, 27, 182, 0, 35, 192, 0, 55, 42, 180, 0, 18, 28, 182, 0, 35]
abbrev dktX4_clash_1 : List UInt8 := dkwX4_clash_1 ++ dktX4_clash_2
def dkwX4_clash_0 : List UInt8 := [27, 28, 159, 0, 57, 42, 180, 0, 18, 27, 182, 0, 35, 192, 0, 55, 180, 0, 57, 28, 122, 4, 126, 4]
abbrev dktX4_clash_0 : List UInt8 := dkwX4_clash_0 ++ dktX4_clash_1
theorem dksX4_clash_0 : cX4_clash.data.toList.drop 0 = dktX4_clash_0 := by decide +kernel
theorem dksX4_clash_1 : cX4_clash.data.toList.drop 24 = dktX4_clash_1 := dk_seg dksX4_clash_0 24 rfl rfl
theorem dksX4_clash_2 : cX4_clash.data.toList.drop 46 = dktX4_clash_2 := dk_seg dksX4_clash_1 22 rfl rfl
theorem dX4_clash_0 : decode cX4_clash 0 = .ok (.iload_n 1, 1) := dk_27 (dk_at dksX4_clash_0 0 rfl rfl)
theorem dX4_clash_1 : decode cX4_clash 1 = .ok (.iload_n 2, 1) := dk_28 (dk_at dksX4_clash_0 1 rfl rfl)
theorem dX4_clash_2 : decode cX4_clash 2 = .ok (.if_icmp .eq 57, 3) := dk_159 0 57 (dk_at dksX4_clash_0 2 rfl rfl)
theorem dX4_clash_5 : decode cX4_clash 5 = .ok (.aload_n 0, 1) := dk_42 (dk_at dksX4_clash_0 5 rfl rfl)
theorem dX4_clash_6 : decode cX4_clash 6 = .ok (.getfield 18, 3) := dk_180 0 18 (dk_at dksX4_clash_0 6 rfl rfl)
theorem dX4_clash_9 : decode cX4_clash 9 = .ok (.iload_n 1, 1) := dk_27 (dk_at dksX4_clash_0 9 rfl rfl)
theorem dX4_clash_10 : decode cX4_clash 10 = .ok (.invokevirtual 35, 3) := dk_182 0 35 (dk_at dksX4_clash_0 10 rfl rfl)
theorem dX4_clash_13 : decode cX4_clash 13 = .ok (.checkcast 55, 3) := dk_192 0 55 (dk_at dksX4_clash_0 13 rfl rfl)
theorem dX4_clash_16 : decode cX4_clash 16 = .ok (.getfield 57, 3) := dk_180 0 57 (dk_at dksX4_clash_0 16 rfl rfl)
theorem dX4_clash_19 : decode cX4_clash 19 = .ok (.iload_n 2, 1) := dk_28 (dk_at dksX4_clash_0 19 rfl rfl)
theorem dX4_clash_20 : decode cX4_clash 20 = .ok (.ishr, 1) := dk_122 (dk_at dksX4_clash_0 20 rfl rfl)
theorem dX4_clash_21 : decode cX4_clash 21 = .ok (.iconst 1, 1) := dk_4 (dk_at dksX4_clash_0 21 rfl rfl)
theorem dX4_clash_22 : decode cX4_clash 22 = .ok (.iand, 1) := dk_126 (dk_at dksX4_clash_0 22 rfl rfl)
theorem dX4_clash_23 : decode cX4_clash 23 = .ok (.iconst 1, 1) := dk_4 (dk_at dksX4_clash_0 23 rfl rfl)
theorem dX4_clash_24 : decode cX4_clash 24 = .ok (.if_icmp .eq 31, 3) := dk_159 0 31 (dk_at dksX4_clash_1 0 rfl rfl)
theorem dX4_clash_27 : decode cX4_clash 27 = .ok (.aload_n 0, 1) := dk_42 (dk_at dksX4_clash_1 3 rfl rfl)
theorem dX4_clash_28 : decode cX4_clash 28 = .ok (.getfield 18, 3) := dk_180 0 18 (dk_at dksX4_clash_1 4 rfl rfl)
theorem dX4_clash_31 : decode cX4_clash 31 = .ok (.iload_n 1, 1) := dk_27 (dk_at dksX4_clash_1 7 rfl rfl)
theorem dX4_clash_32 : decode cX4_clash 32 = .ok (.invokevirtual 35, 3) := dk_182 0 35 (dk_at dksX4_clash_1 8 rfl rfl)
theorem dX4_clash_35 : decode cX4_clash 35 = .ok (.checkcast 55, 3) := dk_192 0 55 (dk_at dksX4_clash_1 11 rfl rfl)
theorem dX4_clash_38 : decode cX4_clash 38 = .ok (.aload_n 0, 1) := dk_42 (dk_at dksX4_clash_1 14 rfl rfl)
theorem dX4_clash_39 : decode cX4_clash 39 = .ok (.getfield 18, 3) := dk_180 0 18 (dk_at dksX4_clash_1 15 rfl rfl)
theorem dX4_clash_42 : decode cX4_clash 42 = .ok (.iload_n 2, 1) := dk_28 (dk_at dksX4_clash_1 18 rfl rfl)
theorem dX4_clash_43 : decode cX4_clash 43 = .ok (.invokevirtual 35, 3) := dk_182 0 35 (dk_at dksX4_clash_1 19 rfl rfl)
theorem dX4_clash_46 : decode cX4_clash 46 = .ok (.checkcast 55, 3) := dk_192 0 55 (dk_at dksX4_clash_2 0 rfl rfl)
theorem dX4_clash_49 : decode cX4_clash 49 = .ok (.invokevirtual 60, 3) := dk_182 0 60 (dk_at dksX4_clash_2 3 rfl rfl)
theorem dX4_clash_52 : decode cX4_clash 52 = .ok (.ifCond .eq 7, 3) := dk_153 0 7 (dk_at dksX4_clash_2 6 rfl rfl)
theorem dX4_clash_55 : decode cX4_clash 55 = .ok (.iconst 1, 1) := dk_4 (dk_at dksX4_clash_2 9 rfl rfl)
theorem dX4_clash_56 : decode cX4_clash 56 = .ok (.goto 4, 3) := dk_167 0 4 (dk_at dksX4_clash_2 10 rfl rfl)
theorem dX4_clash_59 : decode cX4_clash 59 = .ok (.iconst 0, 1) := dk_3 (dk_at dksX4_clash_2 13 rfl rfl)
theorem dX4_clash_60 : decode cX4_clash 60 = .ok (.ireturn, 1) := dk_172 (dk_at dksX4_clash_2 14 rfl rfl)
theorem q135 : (Jvm.Cond.initialized "LentSundays$Text") ∈ lw_all := lw_g (lw_at lw_m1 8 rfl) rfl
theorem q336 : (Jvm.Cond.instantiable "LentSundays$Text" (6 : Nat)) ∈ lw_all := lw_g (lw_at lw_m1 209 rfl) rfl
theorem q338 : (Jvm.Cond.instanceMethod ({ cls := "LentSundays$Text", name := "<init>", desc := "()V" } : Jvm.MethodName)) ∈ lw_all := lw_g (lw_at lw_m1 211 rfl) rfl
theorem q339 : (Jvm.Cond.code ({ cls := "LentSundays$Text", name := "<init>", desc := "()V" } : Jvm.MethodName) prog_16_method_1_code (1 : Nat) (Option.none : Option Jvm.ClassFile.FieldType)) ∈ lw_all := lw_g (lw_at lw_m1 212 rfl) rfl
theorem q340 : (Jvm.Cond.methodLink "LentSundays$Text" (3 : Nat) ({ cls := "java/lang/Object", name := "<init>", desc := "()V" } : Jvm.MethodName)) ∈ lw_all := lw_g (lw_at lw_m1 213 rfl) rfl
theorem q341 : (Jvm.Cond.classLink "LentSundays$Text" (9 : Nat) "java/util/ArrayList") ∈ lw_all := lw_g (lw_at lw_m1 214 rfl) rfl
theorem q343 : (Jvm.Cond.methodLink "LentSundays$Text" (11 : Nat) ({ cls := "java/util/ArrayList", name := "<init>", desc := "()V" } : Jvm.MethodName)) ∈ lw_all := lw_g (lw_at lw_m1 216 rfl) rfl
theorem q367 : (Jvm.Cond.classLink "LentSundays$Text" (21 : Nat) "LentSundays$Law") ∈ lw_all := lw_g (lw_at lw_m2 0 rfl) rfl
theorem q369 : (Jvm.Cond.fieldLink "LentSundays$Text" (12 : Nat) "LentSundays$Text" "sundays" "Ljava/util/ArrayList;") ∈ lw_all := lw_g (lw_at lw_m2 2 rfl) rfl
theorem q373 : (Jvm.Cond.fieldLink "LentSundays$Text" (18 : Nat) "LentSundays$Text" "guests" "Ljava/util/ArrayList;") ∈ lw_all := lw_g (lw_at lw_m2 6 rfl) rfl
theorem q377 : (Jvm.Cond.fieldLink "LentSundays$Text" (23 : Nat) "LentSundays$Text" "laws" "[LLentSundays$Law;") ∈ lw_all := lw_g (lw_at lw_m2 10 rfl) rfl
theorem q381 : (Jvm.Cond.fieldLink "LentSundays$Text" (27 : Nat) "LentSundays$Text" "death" "I") ∈ lw_all := lw_g (lw_at lw_m2 14 rfl) rfl
theorem q389 : (Jvm.Cond.laysFinal "LentSundays$Text" "LentSundays$Text" "sundays" "Ljava/util/ArrayList;") ∈ lw_all := lw_g (lw_at lw_m2 22 rfl) rfl
theorem q390 : (Jvm.Cond.soleField "LentSundays$Text" "sundays") ∈ lw_all := lw_g (lw_at lw_m2 23 rfl) rfl
theorem q391 : (Jvm.Cond.laysFinal "LentSundays$Text" "LentSundays$Text" "guests" "Ljava/util/ArrayList;") ∈ lw_all := lw_g (lw_at lw_m2 24 rfl) rfl
theorem q392 : (Jvm.Cond.soleField "LentSundays$Text" "guests") ∈ lw_all := lw_g (lw_at lw_m2 25 rfl) rfl
theorem q393 : (Jvm.Cond.laysFinal "LentSundays$Text" "LentSundays$Text" "laws" "[LLentSundays$Law;") ∈ lw_all := lw_g (lw_at lw_m2 26 rfl) rfl
theorem q394 : (Jvm.Cond.soleField "LentSundays$Text" "laws") ∈ lw_all := lw_g (lw_at lw_m2 27 rfl) rfl
theorem q395 : (Jvm.Cond.lays "LentSundays$Text" "LentSundays$Text" "foes" "I") ∈ lw_all := lw_g (lw_at lw_m2 28 rfl) rfl
theorem q396 : (Jvm.Cond.soleField "LentSundays$Text" "foes") ∈ lw_all := lw_g (lw_at lw_m2 29 rfl) rfl
theorem q397 : (Jvm.Cond.lays "LentSundays$Text" "LentSundays$Text" "death" "I") ∈ lw_all := lw_g (lw_at lw_m2 30 rfl) rfl
theorem q398 : (Jvm.Cond.soleField "LentSundays$Text" "death") ∈ lw_all := lw_g (lw_at lw_m2 31 rfl) rfl
theorem q399 : (Jvm.Cond.lays "LentSundays$Text" "LentSundays$Text" "seed" "I") ∈ lw_all := lw_g (lw_at lw_m2 32 rfl) rfl
theorem q400 : (Jvm.Cond.soleField "LentSundays$Text" "seed") ∈ lw_all := lw_g (lw_at lw_m2 33 rfl) rfl
theorem q401 : (Jvm.Cond.superclass "LentSundays$Text" "java/lang/Object") ∈ lw_all := lw_g (lw_at lw_m2 34 rfl) rfl
theorem q966 : (Jvm.Cond.instanceMethod ({ cls := "LentSundays$Text", name := "has", desc := "(Ljava/lang/String;)Z" } : Jvm.MethodName)) ∈ lw_all := lw_g (lw_at lw_m4 119 rfl) rfl
theorem q967 : (Jvm.Cond.selects "LentSundays$Text" ({ cls := "LentSundays$Text", name := "has", desc := "(Ljava/lang/String;)Z" } : Jvm.MethodName) ({ cls := "LentSundays$Text", name := "has", desc := "(Ljava/lang/String;)Z" } : Jvm.MethodName)) ∈ lw_all := lw_g (lw_at lw_m4 120 rfl) rfl
theorem q968 : (Jvm.Cond.code ({ cls := "LentSundays$Text", name := "has", desc := "(Ljava/lang/String;)Z" } : Jvm.MethodName) prog_16_method_3_code (2 : Nat) (Option.some Jvm.ClassFile.FieldType.boolean)) ∈ lw_all := lw_g (lw_at lw_m4 121 rfl) rfl
theorem q969 : (Jvm.Cond.methodLink "LentSundays$Text" (51 : Nat) ({ cls := "LentSundays$Text", name := "at", desc := "(Ljava/util/ArrayList;Ljava/lang/String;)I" } : Jvm.MethodName)) ∈ lw_all := lw_g (lw_at lw_m4 122 rfl) rfl
theorem q970 : (Jvm.Cond.static ({ cls := "LentSundays$Text", name := "at", desc := "(Ljava/util/ArrayList;Ljava/lang/String;)I" } : Jvm.MethodName)) ∈ lw_all := lw_g (lw_at lw_m4 123 rfl) rfl
theorem q971 : (Jvm.Cond.code ({ cls := "LentSundays$Text", name := "at", desc := "(Ljava/util/ArrayList;Ljava/lang/String;)I" } : Jvm.MethodName) prog_16_method_2_code (3 : Nat) (Option.some Jvm.ClassFile.FieldType.int)) ∈ lw_all := lw_g (lw_at lw_m4 124 rfl) rfl
theorem q972 : (Jvm.Cond.methodLink "LentSundays$Text" (31 : Nat) ({ cls := "java/util/ArrayList", name := "size", desc := "()I" } : Jvm.MethodName)) ∈ lw_all := lw_g (lw_at lw_m4 125 rfl) rfl
theorem q973 : (Jvm.Cond.methodLink "LentSundays$Text" (35 : Nat) ({ cls := "java/util/ArrayList", name := "get", desc := "(I)Ljava/lang/Object;" } : Jvm.MethodName)) ∈ lw_all := lw_g (lw_at lw_m4 126 rfl) rfl
theorem q985 : (Jvm.Cond.classLink "LentSundays$Text" (39 : Nat) "LentSundays$Named") ∈ lw_all := lw_g (lw_at lw_m4 138 rfl) rfl
theorem q986 : (Jvm.Cond.methodLink "LentSundays$Text" (45 : Nat) ({ cls := "java/lang/String", name := "equals", desc := "(Ljava/lang/Object;)Z" } : Jvm.MethodName)) ∈ lw_all := lw_g (lw_at lw_m4 139 rfl) rfl
theorem q1005 : (Jvm.Cond.fieldLink "LentSundays$Text" (76 : Nat) "LentSundays$Sunday" "hours" "I") ∈ lw_all := lw_g (lw_at lw_m4 158 rfl) rfl
theorem q1012 : (Jvm.Cond.fieldLink "LentSundays$Text" (41 : Nat) "LentSundays$Named" "name" "Ljava/lang/String;") ∈ lw_all := lw_g (lw_at lw_m4 165 rfl) rfl
theorem q1059 : (Jvm.Cond.selects "LentSundays$Text" ({ cls := "java/lang/Object", name := "getClass", desc := "()Ljava/lang/Class;" } : Jvm.MethodName) ({ cls := "java/lang/Object", name := "getClass", desc := "()Ljava/lang/Class;" } : Jvm.MethodName)) ∈ lw_all := lw_g (lw_at lw_m4 212 rfl) rfl
theorem q1082 : (Jvm.Cond.fieldLink "LentSundays$Text" (68 : Nat) "LentSundays$Guest" "hour" "I") ∈ lw_all := lw_g (lw_at lw_m4 235 rfl) rfl
theorem q1087 : (Jvm.Cond.fieldLink "LentSundays$Text" (71 : Nat) "LentSundays$Guest" "hours" "I") ∈ lw_all := lw_g (lw_at lw_m5 0 rfl) rfl
theorem q1094 : (Jvm.Cond.fieldLink "LentSundays$Text" (57 : Nat) "LentSundays$Guest" "foes" "I") ∈ lw_all := lw_g (lw_at lw_m5 7 rfl) rfl
theorem q1252 : (Jvm.Cond.instanceMethod ({ cls := "LentSundays$Text", name := "isLong", desc := "(II)Z" } : Jvm.MethodName)) ∈ lw_all := lw_g (lw_at lw_m5 165 rfl) rfl
theorem q1253 : (Jvm.Cond.selects "LentSundays$Text" ({ cls := "LentSundays$Text", name := "isLong", desc := "(II)Z" } : Jvm.MethodName) ({ cls := "LentSundays$Text", name := "isLong", desc := "(II)Z" } : Jvm.MethodName)) ∈ lw_all := lw_g (lw_at lw_m5 166 rfl) rfl
theorem q1254 : (Jvm.Cond.code ({ cls := "LentSundays$Text", name := "isLong", desc := "(II)Z" } : Jvm.MethodName) prog_16_method_6_code (3 : Nat) (Option.some Jvm.ClassFile.FieldType.boolean)) ∈ lw_all := lw_g (lw_at lw_m5 167 rfl) rfl
theorem q1255 : (Jvm.Cond.classLink "LentSundays$Text" (55 : Nat) "LentSundays$Guest") ∈ lw_all := lw_g (lw_at lw_m5 168 rfl) rfl
theorem q1256 : (Jvm.Cond.classLink "LentSundays$Text" (74 : Nat) "LentSundays$Sunday") ∈ lw_all := lw_g (lw_at lw_m5 169 rfl) rfl
theorem q1258 : (Jvm.Cond.instanceMethod ({ cls := "LentSundays$Text", name := "rivals", desc := "(I)I" } : Jvm.MethodName)) ∈ lw_all := lw_g (lw_at lw_m5 171 rfl) rfl
theorem q1259 : (Jvm.Cond.selects "LentSundays$Text" ({ cls := "LentSundays$Text", name := "rivals", desc := "(I)I" } : Jvm.MethodName) ({ cls := "LentSundays$Text", name := "rivals", desc := "(I)I" } : Jvm.MethodName)) ∈ lw_all := lw_g (lw_at lw_m5 172 rfl) rfl
theorem q1260 : (Jvm.Cond.code ({ cls := "LentSundays$Text", name := "rivals", desc := "(I)I" } : Jvm.MethodName) prog_16_method_5_code (4 : Nat) (Option.some Jvm.ClassFile.FieldType.int)) ∈ lw_all := lw_g (lw_at lw_m5 173 rfl) rfl
theorem q1261 : (Jvm.Cond.methodLink "LentSundays$Text" (64 : Nat) ({ cls := "LentSundays$Text", name := "clash", desc := "(II)Z" } : Jvm.MethodName)) ∈ lw_all := lw_g (lw_at lw_m5 174 rfl) rfl
theorem q1262 : (Jvm.Cond.instanceMethod ({ cls := "LentSundays$Text", name := "clash", desc := "(II)Z" } : Jvm.MethodName)) ∈ lw_all := lw_g (lw_at lw_m5 175 rfl) rfl
theorem q1263 : (Jvm.Cond.selects "LentSundays$Text" ({ cls := "LentSundays$Text", name := "clash", desc := "(II)Z" } : Jvm.MethodName) ({ cls := "LentSundays$Text", name := "clash", desc := "(II)Z" } : Jvm.MethodName)) ∈ lw_all := lw_g (lw_at lw_m5 176 rfl) rfl
theorem q1264 : (Jvm.Cond.code ({ cls := "LentSundays$Text", name := "clash", desc := "(II)Z" } : Jvm.MethodName) prog_16_method_4_code (3 : Nat) (Option.some Jvm.ClassFile.FieldType.boolean)) ∈ lw_all := lw_g (lw_at lw_m5 177 rfl) rfl
theorem q1265 : (Jvm.Cond.methodLink "LentSundays$Text" (60 : Nat) ({ cls := "LentSundays$Guest", name := "meets", desc := "(LLentSundays$Guest;)Z" } : Jvm.MethodName)) ∈ lw_all := lw_g (lw_at lw_m5 178 rfl) rfl
theorem q2237 : (Jvm.Cond.castable "LentSundays$Text" "java/lang/Object") ∈ lw_tbl := lw_at lw_m9 190 rfl
theorem in_X4 : ∀ w ∈ wsX40, w ∈ lw_all := lw_in wsX40 [389, 391, 393, 395, 397, 399] (by decide +kernel) (by decide +kernel)
/-! LentSundays$House -/
set_option maxRecDepth 100000
def RX5 : String := "LentSundays$House"
def TX5 : u_T := fun k => match k with
  | 0 => ("LentSundays$House", "in", "[I", true)
  | 1 => ("LentSundays$House", "rested", "[I", true)
  | 2 => ("LentSundays$House", "worn", "[I", true)
  | 3 => ("LentSundays$House", "dead", "I", false)
  | 4 => ("LentSundays$House", "sold", "I", false)
  | 5 => ("LentSundays$House", "week", "I", false)
  | 6 => ("LentSundays$House", "money", "I", false)
  | 7 => ("LentSundays$House", "seed", "I", false)
  | 8 => ("LentSundays$House", "rests", "[I", true)
  | 9 => ("LentSundays$House", "wears", "[I", true)
  | _ => ("LentSundays$House", "asked", "LLentSundays$Asked;", true)
def tyX5 : Nat → FieldType := fun k => match k with
  | 0 => .array .int
  | 1 => .array .int
  | 2 => .array .int
  | 3 => .int
  | 4 => .int
  | 5 => .int
  | 6 => .int
  | 7 => .int
  | 8 => .array .int
  | 9 => .array .int
  | _ => .object "LentSundays$Asked"
abbrev wsX50 : List Cond := u_ws RX5 TX5 11
theorem nmX5 : ∀ a, a < 11 → ∀ b, b < 11 → a ≠ b → (TX5 a).2.1 ≠ (TX5 b).2.1 := by decide +kernel
theorem tyX5_ok : ∀ k, k < 11 → parseFieldDescriptor (TX5 k).2.2.1 = some (tyX5 k) := by decide +kernel
abbrev cX5_init : ByteArray := prog_7_method_1_code
def yX5_init : MethodName := ⟨RX5, "<init>", "()V"⟩
def dkwX5_init_2 : List UInt8 := [183, 0, 29, 181, 0, 30, 177]
abbrev dktX5_init_2 : List UInt8 := dkwX5_init_2 ++ []
def dkwX5_init_1 : List UInt8 := [181, 0, 18, 42, 16, 7, 188, 10, 181, 0, 21, 42, 7, 188, 10, 181, 0, 24, 42, 187, 0, 27, 89]
abbrev dktX5_init_1 : List UInt8 := dkwX5_init_1 ++ dktX5_init_2
def dkwX5_init_0 : List UInt8 := [42, 183, 0, 3, 42, 16, 7, 188, 10, 181, 0, 9, 42, 16, 7, 188, 10, 181, 0, 15, 42, 7, 188, 10]
abbrev dktX5_init_0 : List UInt8 := dkwX5_init_0 ++ dktX5_init_1
theorem dksX5_init_0 : cX5_init.data.toList.drop 0 = dktX5_init_0 := by decide +kernel
theorem dksX5_init_1 : cX5_init.data.toList.drop 24 = dktX5_init_1 := dk_seg dksX5_init_0 24 rfl rfl
theorem dksX5_init_2 : cX5_init.data.toList.drop 47 = dktX5_init_2 := dk_seg dksX5_init_1 23 rfl rfl
theorem dX5_init_0 : decode cX5_init 0 = .ok (.aload_n 0, 1) := dk_42 (dk_at dksX5_init_0 0 rfl rfl)
theorem dX5_init_1 : decode cX5_init 1 = .ok (.invokespecial 3, 3) := dk_183 0 3 (dk_at dksX5_init_0 1 rfl rfl)
theorem dX5_init_4 : decode cX5_init 4 = .ok (.aload_n 0, 1) := dk_42 (dk_at dksX5_init_0 4 rfl rfl)
theorem dX5_init_5 : decode cX5_init 5 = .ok (.bipush 7, 2) := dk_16 7 (dk_at dksX5_init_0 5 rfl rfl)
theorem dX5_init_7 : decode cX5_init 7 = .ok (.newarray .int, 2) := dk_188_10 (dk_at dksX5_init_0 7 rfl rfl)
theorem dX5_init_9 : decode cX5_init 9 = .ok (.putfield 9, 3) := dk_181 0 9 (dk_at dksX5_init_0 9 rfl rfl)
theorem dX5_init_12 : decode cX5_init 12 = .ok (.aload_n 0, 1) := dk_42 (dk_at dksX5_init_0 12 rfl rfl)
theorem dX5_init_13 : decode cX5_init 13 = .ok (.bipush 7, 2) := dk_16 7 (dk_at dksX5_init_0 13 rfl rfl)
theorem dX5_init_15 : decode cX5_init 15 = .ok (.newarray .int, 2) := dk_188_10 (dk_at dksX5_init_0 15 rfl rfl)
theorem dX5_init_17 : decode cX5_init 17 = .ok (.putfield 15, 3) := dk_181 0 15 (dk_at dksX5_init_0 17 rfl rfl)
theorem dX5_init_20 : decode cX5_init 20 = .ok (.aload_n 0, 1) := dk_42 (dk_at dksX5_init_0 20 rfl rfl)
theorem dX5_init_21 : decode cX5_init 21 = .ok (.iconst 4, 1) := dk_7 (dk_at dksX5_init_0 21 rfl rfl)
theorem dX5_init_22 : decode cX5_init 22 = .ok (.newarray .int, 2) := dk_188_10 (dk_at dksX5_init_0 22 rfl rfl)
theorem dX5_init_24 : decode cX5_init 24 = .ok (.putfield 18, 3) := dk_181 0 18 (dk_at dksX5_init_1 0 rfl rfl)
theorem dX5_init_27 : decode cX5_init 27 = .ok (.aload_n 0, 1) := dk_42 (dk_at dksX5_init_1 3 rfl rfl)
theorem dX5_init_28 : decode cX5_init 28 = .ok (.bipush 7, 2) := dk_16 7 (dk_at dksX5_init_1 4 rfl rfl)
theorem dX5_init_30 : decode cX5_init 30 = .ok (.newarray .int, 2) := dk_188_10 (dk_at dksX5_init_1 6 rfl rfl)
theorem dX5_init_32 : decode cX5_init 32 = .ok (.putfield 21, 3) := dk_181 0 21 (dk_at dksX5_init_1 8 rfl rfl)
theorem dX5_init_35 : decode cX5_init 35 = .ok (.aload_n 0, 1) := dk_42 (dk_at dksX5_init_1 11 rfl rfl)
theorem dX5_init_36 : decode cX5_init 36 = .ok (.iconst 4, 1) := dk_7 (dk_at dksX5_init_1 12 rfl rfl)
theorem dX5_init_37 : decode cX5_init 37 = .ok (.newarray .int, 2) := dk_188_10 (dk_at dksX5_init_1 13 rfl rfl)
theorem dX5_init_39 : decode cX5_init 39 = .ok (.putfield 24, 3) := dk_181 0 24 (dk_at dksX5_init_1 15 rfl rfl)
theorem dX5_init_42 : decode cX5_init 42 = .ok (.aload_n 0, 1) := dk_42 (dk_at dksX5_init_1 18 rfl rfl)
theorem dX5_init_43 : decode cX5_init 43 = .ok (.new 27, 3) := dk_187 0 27 (dk_at dksX5_init_1 19 rfl rfl)
theorem dX5_init_46 : decode cX5_init 46 = .ok (.dup, 1) := dk_89 (dk_at dksX5_init_1 22 rfl rfl)
theorem dX5_init_47 : decode cX5_init 47 = .ok (.invokespecial 29, 3) := dk_183 0 29 (dk_at dksX5_init_2 0 rfl rfl)
theorem dX5_init_50 : decode cX5_init 50 = .ok (.putfield 30, 3) := dk_181 0 30 (dk_at dksX5_init_2 3 rfl rfl)
theorem dX5_init_53 : decode cX5_init 53 = .ok (.return_, 1) := dk_177 (dk_at dksX5_init_2 6 rfl rfl)
abbrev cX5_begins : ByteArray := prog_7_method_2_code
def yX5_begins : MethodName := ⟨RX5, "begins", "(LLentSundays$Text;)V"⟩
def dkwX5_begins_3 : List UInt8 := [43, 180, 0, 47, 181, 0, 52, 177]
abbrev dktX5_begins_3 : List UInt8 := dkwX5_begins_3 ++ []
def dkwX5_begins_2 : List UInt8 := [167, 255, 241, 42, 3, 181, 0, 34, 42, 3, 181, 0, 38, 42, 3, 181, 0, 41, 42, 3, 181, 0, 44, 42]
abbrev dktX5_begins_2 : List UInt8 := dkwX5_begins_2 ++ dktX5_begins_3
def dkwX5_begins_1 : List UInt8 := [132, 2, 1, 167, 255, 232, 3, 61, 28, 7, 162, 0, 16, 42, 180, 0, 18, 28, 3, 79, 132, 2, 1]
abbrev dktX5_begins_1 : List UInt8 := dkwX5_begins_1 ++ dktX5_begins_2
def dkwX5_begins_0 : List UInt8 := [3, 61, 28, 16, 7, 162, 0, 24, 42, 180, 0, 9, 28, 16, 254, 79, 42, 180, 0, 15, 28, 3, 79]
abbrev dktX5_begins_0 : List UInt8 := dkwX5_begins_0 ++ dktX5_begins_1
theorem dksX5_begins_0 : cX5_begins.data.toList.drop 0 = dktX5_begins_0 := by decide +kernel
theorem dksX5_begins_1 : cX5_begins.data.toList.drop 23 = dktX5_begins_1 := dk_seg dksX5_begins_0 23 rfl rfl
theorem dksX5_begins_2 : cX5_begins.data.toList.drop 46 = dktX5_begins_2 := dk_seg dksX5_begins_1 23 rfl rfl
theorem dksX5_begins_3 : cX5_begins.data.toList.drop 70 = dktX5_begins_3 := dk_seg dksX5_begins_2 24 rfl rfl
theorem dX5_begins_0 : decode cX5_begins 0 = .ok (.iconst 0, 1) := dk_3 (dk_at dksX5_begins_0 0 rfl rfl)
theorem dX5_begins_1 : decode cX5_begins 1 = .ok (.istore_n 2, 1) := dk_61 (dk_at dksX5_begins_0 1 rfl rfl)
theorem dX5_begins_2 : decode cX5_begins 2 = .ok (.iload_n 2, 1) := dk_28 (dk_at dksX5_begins_0 2 rfl rfl)
theorem dX5_begins_3 : decode cX5_begins 3 = .ok (.bipush 7, 2) := dk_16 7 (dk_at dksX5_begins_0 3 rfl rfl)
theorem dX5_begins_5 : decode cX5_begins 5 = .ok (.if_icmp .ge 24, 3) := dk_162 0 24 (dk_at dksX5_begins_0 5 rfl rfl)
theorem dX5_begins_8 : decode cX5_begins 8 = .ok (.aload_n 0, 1) := dk_42 (dk_at dksX5_begins_0 8 rfl rfl)
theorem dX5_begins_9 : decode cX5_begins 9 = .ok (.getfield 9, 3) := dk_180 0 9 (dk_at dksX5_begins_0 9 rfl rfl)
theorem dX5_begins_12 : decode cX5_begins 12 = .ok (.iload_n 2, 1) := dk_28 (dk_at dksX5_begins_0 12 rfl rfl)
theorem dX5_begins_13 : decode cX5_begins 13 = .ok (.bipush (-2), 2) := dk_16 254 (dk_at dksX5_begins_0 13 rfl rfl)
theorem dX5_begins_15 : decode cX5_begins 15 = .ok (.iastore, 1) := dk_79 (dk_at dksX5_begins_0 15 rfl rfl)
theorem dX5_begins_16 : decode cX5_begins 16 = .ok (.aload_n 0, 1) := dk_42 (dk_at dksX5_begins_0 16 rfl rfl)
theorem dX5_begins_17 : decode cX5_begins 17 = .ok (.getfield 15, 3) := dk_180 0 15 (dk_at dksX5_begins_0 17 rfl rfl)
theorem dX5_begins_20 : decode cX5_begins 20 = .ok (.iload_n 2, 1) := dk_28 (dk_at dksX5_begins_0 20 rfl rfl)
theorem dX5_begins_21 : decode cX5_begins 21 = .ok (.iconst 0, 1) := dk_3 (dk_at dksX5_begins_0 21 rfl rfl)
theorem dX5_begins_22 : decode cX5_begins 22 = .ok (.iastore, 1) := dk_79 (dk_at dksX5_begins_0 22 rfl rfl)
theorem dX5_begins_23 : decode cX5_begins 23 = .ok (.iinc 2 1, 3) := dk_132 2 1 (dk_at dksX5_begins_1 0 rfl rfl)
theorem dX5_begins_26 : decode cX5_begins 26 = .ok (.goto (-24), 3) := dk_167 255 232 (dk_at dksX5_begins_1 3 rfl rfl)
theorem dX5_begins_29 : decode cX5_begins 29 = .ok (.iconst 0, 1) := dk_3 (dk_at dksX5_begins_1 6 rfl rfl)
theorem dX5_begins_30 : decode cX5_begins 30 = .ok (.istore_n 2, 1) := dk_61 (dk_at dksX5_begins_1 7 rfl rfl)
theorem dX5_begins_31 : decode cX5_begins 31 = .ok (.iload_n 2, 1) := dk_28 (dk_at dksX5_begins_1 8 rfl rfl)
theorem dX5_begins_32 : decode cX5_begins 32 = .ok (.iconst 4, 1) := dk_7 (dk_at dksX5_begins_1 9 rfl rfl)
theorem dX5_begins_33 : decode cX5_begins 33 = .ok (.if_icmp .ge 16, 3) := dk_162 0 16 (dk_at dksX5_begins_1 10 rfl rfl)
theorem dX5_begins_36 : decode cX5_begins 36 = .ok (.aload_n 0, 1) := dk_42 (dk_at dksX5_begins_1 13 rfl rfl)
theorem dX5_begins_37 : decode cX5_begins 37 = .ok (.getfield 18, 3) := dk_180 0 18 (dk_at dksX5_begins_1 14 rfl rfl)
theorem dX5_begins_40 : decode cX5_begins 40 = .ok (.iload_n 2, 1) := dk_28 (dk_at dksX5_begins_1 17 rfl rfl)
theorem dX5_begins_41 : decode cX5_begins 41 = .ok (.iconst 0, 1) := dk_3 (dk_at dksX5_begins_1 18 rfl rfl)
theorem dX5_begins_42 : decode cX5_begins 42 = .ok (.iastore, 1) := dk_79 (dk_at dksX5_begins_1 19 rfl rfl)
theorem dX5_begins_43 : decode cX5_begins 43 = .ok (.iinc 2 1, 3) := dk_132 2 1 (dk_at dksX5_begins_1 20 rfl rfl)
theorem dX5_begins_46 : decode cX5_begins 46 = .ok (.goto (-15), 3) := dk_167 255 241 (dk_at dksX5_begins_2 0 rfl rfl)
theorem dX5_begins_49 : decode cX5_begins 49 = .ok (.aload_n 0, 1) := dk_42 (dk_at dksX5_begins_2 3 rfl rfl)
theorem dX5_begins_50 : decode cX5_begins 50 = .ok (.iconst 0, 1) := dk_3 (dk_at dksX5_begins_2 4 rfl rfl)
theorem dX5_begins_51 : decode cX5_begins 51 = .ok (.putfield 34, 3) := dk_181 0 34 (dk_at dksX5_begins_2 5 rfl rfl)
theorem dX5_begins_54 : decode cX5_begins 54 = .ok (.aload_n 0, 1) := dk_42 (dk_at dksX5_begins_2 8 rfl rfl)
theorem dX5_begins_55 : decode cX5_begins 55 = .ok (.iconst 0, 1) := dk_3 (dk_at dksX5_begins_2 9 rfl rfl)
theorem dX5_begins_56 : decode cX5_begins 56 = .ok (.putfield 38, 3) := dk_181 0 38 (dk_at dksX5_begins_2 10 rfl rfl)
theorem dX5_begins_59 : decode cX5_begins 59 = .ok (.aload_n 0, 1) := dk_42 (dk_at dksX5_begins_2 13 rfl rfl)
theorem dX5_begins_60 : decode cX5_begins 60 = .ok (.iconst 0, 1) := dk_3 (dk_at dksX5_begins_2 14 rfl rfl)
theorem dX5_begins_61 : decode cX5_begins 61 = .ok (.putfield 41, 3) := dk_181 0 41 (dk_at dksX5_begins_2 15 rfl rfl)
theorem dX5_begins_64 : decode cX5_begins 64 = .ok (.aload_n 0, 1) := dk_42 (dk_at dksX5_begins_2 18 rfl rfl)
theorem dX5_begins_65 : decode cX5_begins 65 = .ok (.iconst 0, 1) := dk_3 (dk_at dksX5_begins_2 19 rfl rfl)
theorem dX5_begins_66 : decode cX5_begins 66 = .ok (.putfield 44, 3) := dk_181 0 44 (dk_at dksX5_begins_2 20 rfl rfl)
theorem dX5_begins_69 : decode cX5_begins 69 = .ok (.aload_n 0, 1) := dk_42 (dk_at dksX5_begins_2 23 rfl rfl)
theorem dX5_begins_70 : decode cX5_begins 70 = .ok (.aload_n 1, 1) := dk_43 (dk_at dksX5_begins_3 0 rfl rfl)
theorem dX5_begins_71 : decode cX5_begins 71 = .ok (.getfield 47, 3) := dk_180 0 47 (dk_at dksX5_begins_3 1 rfl rfl)
theorem dX5_begins_74 : decode cX5_begins 74 = .ok (.putfield 52, 3) := dk_181 0 52 (dk_at dksX5_begins_3 4 rfl rfl)
theorem dX5_begins_77 : decode cX5_begins 77 = .ok (.return_, 1) := dk_177 (dk_at dksX5_begins_3 7 rfl rfl)
abbrev cX5_isSold : ByteArray := prog_7_method_6_code
def yX5_isSold : MethodName := ⟨RX5, "isSold", "(I)Z"⟩
def dkwX5_isSold_0 : List UInt8 := [42, 180, 0, 38, 27, 122, 4, 126, 4, 160, 0, 7, 4, 167, 0, 4, 3, 172]
abbrev dktX5_isSold_0 : List UInt8 := dkwX5_isSold_0 ++ []
theorem dksX5_isSold_0 : cX5_isSold.data.toList.drop 0 = dktX5_isSold_0 := by decide +kernel
theorem dX5_isSold_0 : decode cX5_isSold 0 = .ok (.aload_n 0, 1) := dk_42 (dk_at dksX5_isSold_0 0 rfl rfl)
theorem dX5_isSold_1 : decode cX5_isSold 1 = .ok (.getfield 38, 3) := dk_180 0 38 (dk_at dksX5_isSold_0 1 rfl rfl)
theorem dX5_isSold_4 : decode cX5_isSold 4 = .ok (.iload_n 1, 1) := dk_27 (dk_at dksX5_isSold_0 4 rfl rfl)
theorem dX5_isSold_5 : decode cX5_isSold 5 = .ok (.ishr, 1) := dk_122 (dk_at dksX5_isSold_0 5 rfl rfl)
theorem dX5_isSold_6 : decode cX5_isSold 6 = .ok (.iconst 1, 1) := dk_4 (dk_at dksX5_isSold_0 6 rfl rfl)
theorem dX5_isSold_7 : decode cX5_isSold 7 = .ok (.iand, 1) := dk_126 (dk_at dksX5_isSold_0 7 rfl rfl)
theorem dX5_isSold_8 : decode cX5_isSold 8 = .ok (.iconst 1, 1) := dk_4 (dk_at dksX5_isSold_0 8 rfl rfl)
theorem dX5_isSold_9 : decode cX5_isSold 9 = .ok (.if_icmp .ne 7, 3) := dk_160 0 7 (dk_at dksX5_isSold_0 9 rfl rfl)
theorem dX5_isSold_12 : decode cX5_isSold 12 = .ok (.iconst 1, 1) := dk_4 (dk_at dksX5_isSold_0 12 rfl rfl)
theorem dX5_isSold_13 : decode cX5_isSold 13 = .ok (.goto 4, 3) := dk_167 0 4 (dk_at dksX5_isSold_0 13 rfl rfl)
theorem dX5_isSold_16 : decode cX5_isSold 16 = .ok (.iconst 0, 1) := dk_3 (dk_at dksX5_isSold_0 16 rfl rfl)
theorem dX5_isSold_17 : decode cX5_isSold 17 = .ok (.ireturn, 1) := dk_172 (dk_at dksX5_isSold_0 17 rfl rfl)
abbrev cX5_guests : ByteArray := prog_7_method_7_code
def yX5_guests : MethodName := ⟨RX5, "guests", "(I)I"⟩
def dkwX5_guests_1 : List UInt8 := [167, 0, 4, 3, 128, 61, 132, 3, 1, 167, 255, 227, 28, 172]
abbrev dktX5_guests_1 : List UInt8 := dkwX5_guests_1 ++ []
def dkwX5_guests_0 : List UInt8 := [3, 61, 3, 62, 29, 16, 7, 162, 0, 29, 28, 42, 180, 0, 9, 29, 46, 27, 160, 0, 9, 4, 29, 120]
abbrev dktX5_guests_0 : List UInt8 := dkwX5_guests_0 ++ dktX5_guests_1
theorem dksX5_guests_0 : cX5_guests.data.toList.drop 0 = dktX5_guests_0 := by decide +kernel
theorem dksX5_guests_1 : cX5_guests.data.toList.drop 24 = dktX5_guests_1 := dk_seg dksX5_guests_0 24 rfl rfl
theorem dX5_guests_0 : decode cX5_guests 0 = .ok (.iconst 0, 1) := dk_3 (dk_at dksX5_guests_0 0 rfl rfl)
theorem dX5_guests_1 : decode cX5_guests 1 = .ok (.istore_n 2, 1) := dk_61 (dk_at dksX5_guests_0 1 rfl rfl)
theorem dX5_guests_2 : decode cX5_guests 2 = .ok (.iconst 0, 1) := dk_3 (dk_at dksX5_guests_0 2 rfl rfl)
theorem dX5_guests_3 : decode cX5_guests 3 = .ok (.istore_n 3, 1) := dk_62 (dk_at dksX5_guests_0 3 rfl rfl)
theorem dX5_guests_4 : decode cX5_guests 4 = .ok (.iload_n 3, 1) := dk_29 (dk_at dksX5_guests_0 4 rfl rfl)
theorem dX5_guests_5 : decode cX5_guests 5 = .ok (.bipush 7, 2) := dk_16 7 (dk_at dksX5_guests_0 5 rfl rfl)
theorem dX5_guests_7 : decode cX5_guests 7 = .ok (.if_icmp .ge 29, 3) := dk_162 0 29 (dk_at dksX5_guests_0 7 rfl rfl)
theorem dX5_guests_10 : decode cX5_guests 10 = .ok (.iload_n 2, 1) := dk_28 (dk_at dksX5_guests_0 10 rfl rfl)
theorem dX5_guests_11 : decode cX5_guests 11 = .ok (.aload_n 0, 1) := dk_42 (dk_at dksX5_guests_0 11 rfl rfl)
theorem dX5_guests_12 : decode cX5_guests 12 = .ok (.getfield 9, 3) := dk_180 0 9 (dk_at dksX5_guests_0 12 rfl rfl)
theorem dX5_guests_15 : decode cX5_guests 15 = .ok (.iload_n 3, 1) := dk_29 (dk_at dksX5_guests_0 15 rfl rfl)
theorem dX5_guests_16 : decode cX5_guests 16 = .ok (.iaload, 1) := dk_46 (dk_at dksX5_guests_0 16 rfl rfl)
theorem dX5_guests_17 : decode cX5_guests 17 = .ok (.iload_n 1, 1) := dk_27 (dk_at dksX5_guests_0 17 rfl rfl)
theorem dX5_guests_18 : decode cX5_guests 18 = .ok (.if_icmp .ne 9, 3) := dk_160 0 9 (dk_at dksX5_guests_0 18 rfl rfl)
theorem dX5_guests_21 : decode cX5_guests 21 = .ok (.iconst 1, 1) := dk_4 (dk_at dksX5_guests_0 21 rfl rfl)
theorem dX5_guests_22 : decode cX5_guests 22 = .ok (.iload_n 3, 1) := dk_29 (dk_at dksX5_guests_0 22 rfl rfl)
theorem dX5_guests_23 : decode cX5_guests 23 = .ok (.ishl, 1) := dk_120 (dk_at dksX5_guests_0 23 rfl rfl)
theorem dX5_guests_24 : decode cX5_guests 24 = .ok (.goto 4, 3) := dk_167 0 4 (dk_at dksX5_guests_1 0 rfl rfl)
theorem dX5_guests_27 : decode cX5_guests 27 = .ok (.iconst 0, 1) := dk_3 (dk_at dksX5_guests_1 3 rfl rfl)
theorem dX5_guests_28 : decode cX5_guests 28 = .ok (.ior, 1) := dk_128 (dk_at dksX5_guests_1 4 rfl rfl)
theorem dX5_guests_29 : decode cX5_guests 29 = .ok (.istore_n 2, 1) := dk_61 (dk_at dksX5_guests_1 5 rfl rfl)
theorem dX5_guests_30 : decode cX5_guests 30 = .ok (.iinc 3 1, 3) := dk_132 3 1 (dk_at dksX5_guests_1 6 rfl rfl)
theorem dX5_guests_33 : decode cX5_guests 33 = .ok (.goto (-29), 3) := dk_167 255 227 (dk_at dksX5_guests_1 9 rfl rfl)
theorem dX5_guests_36 : decode cX5_guests 36 = .ok (.iload_n 2, 1) := dk_28 (dk_at dksX5_guests_1 12 rfl rfl)
theorem dX5_guests_37 : decode cX5_guests 37 = .ok (.ireturn, 1) := dk_172 (dk_at dksX5_guests_1 13 rfl rfl)
abbrev cX5_wears : ByteArray := prog_7_method_15_code
def yX5_wears : MethodName := ⟨RX5, "wears", "(LLentSundays$Text;I)I"⟩
def dkwX5_wears_1 : List UInt8 := [167, 0, 10, 42, 43, 5, 28, 182, 0, 137, 172]
abbrev dktX5_wears_1 : List UInt8 := dkwX5_wears_1 ++ []
def dkwX5_wears_0 : List UInt8 := [42, 28, 182, 0, 115, 154, 0, 7, 3, 167, 0, 23, 43, 180, 0, 99, 5, 50, 199, 0, 7, 4]
abbrev dktX5_wears_0 : List UInt8 := dkwX5_wears_0 ++ dktX5_wears_1
theorem dksX5_wears_0 : cX5_wears.data.toList.drop 0 = dktX5_wears_0 := by decide +kernel
theorem dksX5_wears_1 : cX5_wears.data.toList.drop 22 = dktX5_wears_1 := dk_seg dksX5_wears_0 22 rfl rfl
theorem dX5_wears_0 : decode cX5_wears 0 = .ok (.aload_n 0, 1) := dk_42 (dk_at dksX5_wears_0 0 rfl rfl)
theorem dX5_wears_1 : decode cX5_wears 1 = .ok (.iload_n 2, 1) := dk_28 (dk_at dksX5_wears_0 1 rfl rfl)
theorem dX5_wears_2 : decode cX5_wears 2 = .ok (.invokevirtual 115, 3) := dk_182 0 115 (dk_at dksX5_wears_0 2 rfl rfl)
theorem dX5_wears_5 : decode cX5_wears 5 = .ok (.ifCond .ne 7, 3) := dk_154 0 7 (dk_at dksX5_wears_0 5 rfl rfl)
theorem dX5_wears_8 : decode cX5_wears 8 = .ok (.iconst 0, 1) := dk_3 (dk_at dksX5_wears_0 8 rfl rfl)
theorem dX5_wears_9 : decode cX5_wears 9 = .ok (.goto 23, 3) := dk_167 0 23 (dk_at dksX5_wears_0 9 rfl rfl)
theorem dX5_wears_12 : decode cX5_wears 12 = .ok (.aload_n 1, 1) := dk_43 (dk_at dksX5_wears_0 12 rfl rfl)
theorem dX5_wears_13 : decode cX5_wears 13 = .ok (.getfield 99, 3) := dk_180 0 99 (dk_at dksX5_wears_0 13 rfl rfl)
theorem dX5_wears_16 : decode cX5_wears 16 = .ok (.iconst 2, 1) := dk_5 (dk_at dksX5_wears_0 16 rfl rfl)
theorem dX5_wears_17 : decode cX5_wears 17 = .ok (.aaload, 1) := dk_50 (dk_at dksX5_wears_0 17 rfl rfl)
theorem dX5_wears_18 : decode cX5_wears 18 = .ok (.ifnonnull 7, 3) := dk_199 0 7 (dk_at dksX5_wears_0 18 rfl rfl)
theorem dX5_wears_21 : decode cX5_wears 21 = .ok (.iconst 1, 1) := dk_4 (dk_at dksX5_wears_0 21 rfl rfl)
theorem dX5_wears_22 : decode cX5_wears 22 = .ok (.goto 10, 3) := dk_167 0 10 (dk_at dksX5_wears_1 0 rfl rfl)
theorem dX5_wears_25 : decode cX5_wears 25 = .ok (.aload_n 0, 1) := dk_42 (dk_at dksX5_wears_1 3 rfl rfl)
theorem dX5_wears_26 : decode cX5_wears 26 = .ok (.aload_n 1, 1) := dk_43 (dk_at dksX5_wears_1 4 rfl rfl)
theorem dX5_wears_27 : decode cX5_wears 27 = .ok (.iconst 2, 1) := dk_5 (dk_at dksX5_wears_1 5 rfl rfl)
theorem dX5_wears_28 : decode cX5_wears 28 = .ok (.iload_n 2, 1) := dk_28 (dk_at dksX5_wears_1 6 rfl rfl)
theorem dX5_wears_29 : decode cX5_wears 29 = .ok (.invokevirtual 137, 3) := dk_182 0 137 (dk_at dksX5_wears_1 7 rfl rfl)
theorem dX5_wears_32 : decode cX5_wears 32 = .ok (.ireturn, 1) := dk_172 (dk_at dksX5_wears_1 10 rfl rfl)
abbrev cX5_toldOf : ByteArray := prog_7_method_14_code
def yX5_toldOf : MethodName := ⟨RX5, "toldOf", "(LLentSundays$Text;II)I"⟩
def dkwX5_toldOf_6 : List UInt8 := [184, 0, 109, 172]
abbrev dktX5_toldOf_6 : List UInt8 := dkwX5_toldOf_6 ++ []
def dkwX5_toldOf_5 : List UInt8 := [42, 29, 182, 0, 115, 184, 0, 118, 79, 16, 99, 43, 180, 0, 99, 28, 50, 42, 180, 0, 30, 182, 0, 103]
abbrev dktX5_toldOf_5 : List UInt8 := dkwX5_toldOf_5 ++ dktX5_toldOf_6
def dkwX5_toldOf_4 : List UInt8 := [180, 0, 41, 79, 42, 180, 0, 30, 180, 0, 82, 16, 7, 29, 79, 42, 180, 0, 30, 180, 0, 82, 16, 8]
abbrev dktX5_toldOf_4 : List UInt8 := dkwX5_toldOf_4 ++ dktX5_toldOf_5
def dkwX5_toldOf_3 : List UInt8 := [180, 0, 91, 29, 182, 0, 73, 192, 0, 94, 180, 0, 96, 79, 42, 180, 0, 30, 180, 0, 82, 16, 6, 42]
abbrev dktX5_toldOf_3 : List UInt8 := dkwX5_toldOf_3 ++ dktX5_toldOf_4
def dkwX5_toldOf_2 : List UInt8 := [180, 0, 30, 180, 0, 82, 7, 42, 180, 0, 18, 29, 46, 79, 42, 180, 0, 30, 180, 0, 82, 8, 43]
abbrev dktX5_toldOf_2 : List UInt8 := dkwX5_toldOf_2 ++ dktX5_toldOf_3
def dkwX5_toldOf_1 : List UInt8 := [79, 42, 180, 0, 30, 180, 0, 82, 5, 3, 79, 42, 180, 0, 30, 180, 0, 82, 6, 3, 79, 42]
abbrev dktX5_toldOf_1 : List UInt8 := dkwX5_toldOf_1 ++ dktX5_toldOf_2
def dkwX5_toldOf_0 : List UInt8 := [42, 180, 0, 30, 180, 0, 82, 3, 3, 79, 42, 180, 0, 30, 180, 0, 82, 4, 42, 43, 29, 182, 0, 134]
abbrev dktX5_toldOf_0 : List UInt8 := dkwX5_toldOf_0 ++ dktX5_toldOf_1
theorem dksX5_toldOf_0 : cX5_toldOf.data.toList.drop 0 = dktX5_toldOf_0 := by decide +kernel
theorem dksX5_toldOf_1 : cX5_toldOf.data.toList.drop 24 = dktX5_toldOf_1 := dk_seg dksX5_toldOf_0 24 rfl rfl
theorem dksX5_toldOf_2 : cX5_toldOf.data.toList.drop 46 = dktX5_toldOf_2 := dk_seg dksX5_toldOf_1 22 rfl rfl
theorem dksX5_toldOf_3 : cX5_toldOf.data.toList.drop 69 = dktX5_toldOf_3 := dk_seg dksX5_toldOf_2 23 rfl rfl
theorem dksX5_toldOf_4 : cX5_toldOf.data.toList.drop 93 = dktX5_toldOf_4 := dk_seg dksX5_toldOf_3 24 rfl rfl
theorem dksX5_toldOf_5 : cX5_toldOf.data.toList.drop 117 = dktX5_toldOf_5 := dk_seg dksX5_toldOf_4 24 rfl rfl
theorem dksX5_toldOf_6 : cX5_toldOf.data.toList.drop 141 = dktX5_toldOf_6 := dk_seg dksX5_toldOf_5 24 rfl rfl
theorem dX5_toldOf_0 : decode cX5_toldOf 0 = .ok (.aload_n 0, 1) := dk_42 (dk_at dksX5_toldOf_0 0 rfl rfl)
theorem dX5_toldOf_1 : decode cX5_toldOf 1 = .ok (.getfield 30, 3) := dk_180 0 30 (dk_at dksX5_toldOf_0 1 rfl rfl)
theorem dX5_toldOf_4 : decode cX5_toldOf 4 = .ok (.getfield 82, 3) := dk_180 0 82 (dk_at dksX5_toldOf_0 4 rfl rfl)
theorem dX5_toldOf_7 : decode cX5_toldOf 7 = .ok (.iconst 0, 1) := dk_3 (dk_at dksX5_toldOf_0 7 rfl rfl)
theorem dX5_toldOf_8 : decode cX5_toldOf 8 = .ok (.iconst 0, 1) := dk_3 (dk_at dksX5_toldOf_0 8 rfl rfl)
theorem dX5_toldOf_9 : decode cX5_toldOf 9 = .ok (.iastore, 1) := dk_79 (dk_at dksX5_toldOf_0 9 rfl rfl)
theorem dX5_toldOf_10 : decode cX5_toldOf 10 = .ok (.aload_n 0, 1) := dk_42 (dk_at dksX5_toldOf_0 10 rfl rfl)
theorem dX5_toldOf_11 : decode cX5_toldOf 11 = .ok (.getfield 30, 3) := dk_180 0 30 (dk_at dksX5_toldOf_0 11 rfl rfl)
theorem dX5_toldOf_14 : decode cX5_toldOf 14 = .ok (.getfield 82, 3) := dk_180 0 82 (dk_at dksX5_toldOf_0 14 rfl rfl)
theorem dX5_toldOf_17 : decode cX5_toldOf 17 = .ok (.iconst 1, 1) := dk_4 (dk_at dksX5_toldOf_0 17 rfl rfl)
theorem dX5_toldOf_18 : decode cX5_toldOf 18 = .ok (.aload_n 0, 1) := dk_42 (dk_at dksX5_toldOf_0 18 rfl rfl)
theorem dX5_toldOf_19 : decode cX5_toldOf 19 = .ok (.aload_n 1, 1) := dk_43 (dk_at dksX5_toldOf_0 19 rfl rfl)
theorem dX5_toldOf_20 : decode cX5_toldOf 20 = .ok (.iload_n 3, 1) := dk_29 (dk_at dksX5_toldOf_0 20 rfl rfl)
theorem dX5_toldOf_21 : decode cX5_toldOf 21 = .ok (.invokevirtual 134, 3) := dk_182 0 134 (dk_at dksX5_toldOf_0 21 rfl rfl)
theorem dX5_toldOf_24 : decode cX5_toldOf 24 = .ok (.iastore, 1) := dk_79 (dk_at dksX5_toldOf_1 0 rfl rfl)
theorem dX5_toldOf_25 : decode cX5_toldOf 25 = .ok (.aload_n 0, 1) := dk_42 (dk_at dksX5_toldOf_1 1 rfl rfl)
theorem dX5_toldOf_26 : decode cX5_toldOf 26 = .ok (.getfield 30, 3) := dk_180 0 30 (dk_at dksX5_toldOf_1 2 rfl rfl)
theorem dX5_toldOf_29 : decode cX5_toldOf 29 = .ok (.getfield 82, 3) := dk_180 0 82 (dk_at dksX5_toldOf_1 5 rfl rfl)
theorem dX5_toldOf_32 : decode cX5_toldOf 32 = .ok (.iconst 2, 1) := dk_5 (dk_at dksX5_toldOf_1 8 rfl rfl)
theorem dX5_toldOf_33 : decode cX5_toldOf 33 = .ok (.iconst 0, 1) := dk_3 (dk_at dksX5_toldOf_1 9 rfl rfl)
theorem dX5_toldOf_34 : decode cX5_toldOf 34 = .ok (.iastore, 1) := dk_79 (dk_at dksX5_toldOf_1 10 rfl rfl)
theorem dX5_toldOf_35 : decode cX5_toldOf 35 = .ok (.aload_n 0, 1) := dk_42 (dk_at dksX5_toldOf_1 11 rfl rfl)
theorem dX5_toldOf_36 : decode cX5_toldOf 36 = .ok (.getfield 30, 3) := dk_180 0 30 (dk_at dksX5_toldOf_1 12 rfl rfl)
theorem dX5_toldOf_39 : decode cX5_toldOf 39 = .ok (.getfield 82, 3) := dk_180 0 82 (dk_at dksX5_toldOf_1 15 rfl rfl)
theorem dX5_toldOf_42 : decode cX5_toldOf 42 = .ok (.iconst 3, 1) := dk_6 (dk_at dksX5_toldOf_1 18 rfl rfl)
theorem dX5_toldOf_43 : decode cX5_toldOf 43 = .ok (.iconst 0, 1) := dk_3 (dk_at dksX5_toldOf_1 19 rfl rfl)
theorem dX5_toldOf_44 : decode cX5_toldOf 44 = .ok (.iastore, 1) := dk_79 (dk_at dksX5_toldOf_1 20 rfl rfl)
theorem dX5_toldOf_45 : decode cX5_toldOf 45 = .ok (.aload_n 0, 1) := dk_42 (dk_at dksX5_toldOf_1 21 rfl rfl)
theorem dX5_toldOf_46 : decode cX5_toldOf 46 = .ok (.getfield 30, 3) := dk_180 0 30 (dk_at dksX5_toldOf_2 0 rfl rfl)
theorem dX5_toldOf_49 : decode cX5_toldOf 49 = .ok (.getfield 82, 3) := dk_180 0 82 (dk_at dksX5_toldOf_2 3 rfl rfl)
theorem dX5_toldOf_52 : decode cX5_toldOf 52 = .ok (.iconst 4, 1) := dk_7 (dk_at dksX5_toldOf_2 6 rfl rfl)
theorem dX5_toldOf_53 : decode cX5_toldOf 53 = .ok (.aload_n 0, 1) := dk_42 (dk_at dksX5_toldOf_2 7 rfl rfl)
theorem dX5_toldOf_54 : decode cX5_toldOf 54 = .ok (.getfield 18, 3) := dk_180 0 18 (dk_at dksX5_toldOf_2 8 rfl rfl)
theorem dX5_toldOf_57 : decode cX5_toldOf 57 = .ok (.iload_n 3, 1) := dk_29 (dk_at dksX5_toldOf_2 11 rfl rfl)
theorem dX5_toldOf_58 : decode cX5_toldOf 58 = .ok (.iaload, 1) := dk_46 (dk_at dksX5_toldOf_2 12 rfl rfl)
theorem dX5_toldOf_59 : decode cX5_toldOf 59 = .ok (.iastore, 1) := dk_79 (dk_at dksX5_toldOf_2 13 rfl rfl)
theorem dX5_toldOf_60 : decode cX5_toldOf 60 = .ok (.aload_n 0, 1) := dk_42 (dk_at dksX5_toldOf_2 14 rfl rfl)
theorem dX5_toldOf_61 : decode cX5_toldOf 61 = .ok (.getfield 30, 3) := dk_180 0 30 (dk_at dksX5_toldOf_2 15 rfl rfl)
theorem dX5_toldOf_64 : decode cX5_toldOf 64 = .ok (.getfield 82, 3) := dk_180 0 82 (dk_at dksX5_toldOf_2 18 rfl rfl)
theorem dX5_toldOf_67 : decode cX5_toldOf 67 = .ok (.iconst 5, 1) := dk_8 (dk_at dksX5_toldOf_2 21 rfl rfl)
theorem dX5_toldOf_68 : decode cX5_toldOf 68 = .ok (.aload_n 1, 1) := dk_43 (dk_at dksX5_toldOf_2 22 rfl rfl)
theorem dX5_toldOf_69 : decode cX5_toldOf 69 = .ok (.getfield 91, 3) := dk_180 0 91 (dk_at dksX5_toldOf_3 0 rfl rfl)
theorem dX5_toldOf_72 : decode cX5_toldOf 72 = .ok (.iload_n 3, 1) := dk_29 (dk_at dksX5_toldOf_3 3 rfl rfl)
theorem dX5_toldOf_73 : decode cX5_toldOf 73 = .ok (.invokevirtual 73, 3) := dk_182 0 73 (dk_at dksX5_toldOf_3 4 rfl rfl)
theorem dX5_toldOf_76 : decode cX5_toldOf 76 = .ok (.checkcast 94, 3) := dk_192 0 94 (dk_at dksX5_toldOf_3 7 rfl rfl)
theorem dX5_toldOf_79 : decode cX5_toldOf 79 = .ok (.getfield 96, 3) := dk_180 0 96 (dk_at dksX5_toldOf_3 10 rfl rfl)
theorem dX5_toldOf_82 : decode cX5_toldOf 82 = .ok (.iastore, 1) := dk_79 (dk_at dksX5_toldOf_3 13 rfl rfl)
theorem dX5_toldOf_83 : decode cX5_toldOf 83 = .ok (.aload_n 0, 1) := dk_42 (dk_at dksX5_toldOf_3 14 rfl rfl)
theorem dX5_toldOf_84 : decode cX5_toldOf 84 = .ok (.getfield 30, 3) := dk_180 0 30 (dk_at dksX5_toldOf_3 15 rfl rfl)
theorem dX5_toldOf_87 : decode cX5_toldOf 87 = .ok (.getfield 82, 3) := dk_180 0 82 (dk_at dksX5_toldOf_3 18 rfl rfl)
theorem dX5_toldOf_90 : decode cX5_toldOf 90 = .ok (.bipush 6, 2) := dk_16 6 (dk_at dksX5_toldOf_3 21 rfl rfl)
theorem dX5_toldOf_92 : decode cX5_toldOf 92 = .ok (.aload_n 0, 1) := dk_42 (dk_at dksX5_toldOf_3 23 rfl rfl)
theorem dX5_toldOf_93 : decode cX5_toldOf 93 = .ok (.getfield 41, 3) := dk_180 0 41 (dk_at dksX5_toldOf_4 0 rfl rfl)
theorem dX5_toldOf_96 : decode cX5_toldOf 96 = .ok (.iastore, 1) := dk_79 (dk_at dksX5_toldOf_4 3 rfl rfl)
theorem dX5_toldOf_97 : decode cX5_toldOf 97 = .ok (.aload_n 0, 1) := dk_42 (dk_at dksX5_toldOf_4 4 rfl rfl)
theorem dX5_toldOf_98 : decode cX5_toldOf 98 = .ok (.getfield 30, 3) := dk_180 0 30 (dk_at dksX5_toldOf_4 5 rfl rfl)
theorem dX5_toldOf_101 : decode cX5_toldOf 101 = .ok (.getfield 82, 3) := dk_180 0 82 (dk_at dksX5_toldOf_4 8 rfl rfl)
theorem dX5_toldOf_104 : decode cX5_toldOf 104 = .ok (.bipush 7, 2) := dk_16 7 (dk_at dksX5_toldOf_4 11 rfl rfl)
theorem dX5_toldOf_106 : decode cX5_toldOf 106 = .ok (.iload_n 3, 1) := dk_29 (dk_at dksX5_toldOf_4 13 rfl rfl)
theorem dX5_toldOf_107 : decode cX5_toldOf 107 = .ok (.iastore, 1) := dk_79 (dk_at dksX5_toldOf_4 14 rfl rfl)
theorem dX5_toldOf_108 : decode cX5_toldOf 108 = .ok (.aload_n 0, 1) := dk_42 (dk_at dksX5_toldOf_4 15 rfl rfl)
theorem dX5_toldOf_109 : decode cX5_toldOf 109 = .ok (.getfield 30, 3) := dk_180 0 30 (dk_at dksX5_toldOf_4 16 rfl rfl)
theorem dX5_toldOf_112 : decode cX5_toldOf 112 = .ok (.getfield 82, 3) := dk_180 0 82 (dk_at dksX5_toldOf_4 19 rfl rfl)
theorem dX5_toldOf_115 : decode cX5_toldOf 115 = .ok (.bipush 8, 2) := dk_16 8 (dk_at dksX5_toldOf_4 22 rfl rfl)
theorem dX5_toldOf_117 : decode cX5_toldOf 117 = .ok (.aload_n 0, 1) := dk_42 (dk_at dksX5_toldOf_5 0 rfl rfl)
theorem dX5_toldOf_118 : decode cX5_toldOf 118 = .ok (.iload_n 3, 1) := dk_29 (dk_at dksX5_toldOf_5 1 rfl rfl)
theorem dX5_toldOf_119 : decode cX5_toldOf 119 = .ok (.invokevirtual 115, 3) := dk_182 0 115 (dk_at dksX5_toldOf_5 2 rfl rfl)
theorem dX5_toldOf_122 : decode cX5_toldOf 122 = .ok (.invokestatic 118, 3) := dk_184 0 118 (dk_at dksX5_toldOf_5 5 rfl rfl)
theorem dX5_toldOf_125 : decode cX5_toldOf 125 = .ok (.iastore, 1) := dk_79 (dk_at dksX5_toldOf_5 8 rfl rfl)
theorem dX5_toldOf_126 : decode cX5_toldOf 126 = .ok (.bipush 99, 2) := dk_16 99 (dk_at dksX5_toldOf_5 9 rfl rfl)
theorem dX5_toldOf_128 : decode cX5_toldOf 128 = .ok (.aload_n 1, 1) := dk_43 (dk_at dksX5_toldOf_5 11 rfl rfl)
theorem dX5_toldOf_129 : decode cX5_toldOf 129 = .ok (.getfield 99, 3) := dk_180 0 99 (dk_at dksX5_toldOf_5 12 rfl rfl)
theorem dX5_toldOf_132 : decode cX5_toldOf 132 = .ok (.iload_n 2, 1) := dk_28 (dk_at dksX5_toldOf_5 15 rfl rfl)
theorem dX5_toldOf_133 : decode cX5_toldOf 133 = .ok (.aaload, 1) := dk_50 (dk_at dksX5_toldOf_5 16 rfl rfl)
theorem dX5_toldOf_134 : decode cX5_toldOf 134 = .ok (.aload_n 0, 1) := dk_42 (dk_at dksX5_toldOf_5 17 rfl rfl)
theorem dX5_toldOf_135 : decode cX5_toldOf 135 = .ok (.getfield 30, 3) := dk_180 0 30 (dk_at dksX5_toldOf_5 18 rfl rfl)
theorem dX5_toldOf_138 : decode cX5_toldOf 138 = .ok (.invokevirtual 103, 3) := dk_182 0 103 (dk_at dksX5_toldOf_5 21 rfl rfl)
theorem dX5_toldOf_141 : decode cX5_toldOf 141 = .ok (.invokestatic 109, 3) := dk_184 0 109 (dk_at dksX5_toldOf_6 0 rfl rfl)
theorem dX5_toldOf_144 : decode cX5_toldOf 144 = .ok (.ireturn, 1) := dk_172 (dk_at dksX5_toldOf_6 3 rfl rfl)
abbrev cX5_hours : ByteArray := prog_7_method_8_code
def yX5_hours : MethodName := ⟨RX5, "hours", "(LLentSundays$Text;I)I"⟩
def dkwX5_hours_2 : List UInt8 := [96, 62, 132, 4, 1, 167, 255, 208, 29, 172]
abbrev dktX5_hours_2 : List UInt8 := dkwX5_hours_2 ++ []
def dkwX5_hours_1 : List UInt8 := [46, 28, 160, 0, 21, 43, 180, 0, 63, 21, 4, 182, 0, 73, 192, 0, 77, 180, 0, 79, 167, 0, 4, 3]
abbrev dktX5_hours_1 : List UInt8 := dkwX5_hours_1 ++ dktX5_hours_2
def dkwX5_hours_0 : List UInt8 := [3, 62, 3, 54, 4, 21, 4, 43, 180, 0, 63, 182, 0, 67, 162, 0, 42, 29, 42, 180, 0, 9, 21, 4]
abbrev dktX5_hours_0 : List UInt8 := dkwX5_hours_0 ++ dktX5_hours_1
theorem dksX5_hours_0 : cX5_hours.data.toList.drop 0 = dktX5_hours_0 := by decide +kernel
theorem dksX5_hours_1 : cX5_hours.data.toList.drop 24 = dktX5_hours_1 := dk_seg dksX5_hours_0 24 rfl rfl
theorem dksX5_hours_2 : cX5_hours.data.toList.drop 48 = dktX5_hours_2 := dk_seg dksX5_hours_1 24 rfl rfl
theorem dX5_hours_0 : decode cX5_hours 0 = .ok (.iconst 0, 1) := dk_3 (dk_at dksX5_hours_0 0 rfl rfl)
theorem dX5_hours_1 : decode cX5_hours 1 = .ok (.istore_n 3, 1) := dk_62 (dk_at dksX5_hours_0 1 rfl rfl)
theorem dX5_hours_2 : decode cX5_hours 2 = .ok (.iconst 0, 1) := dk_3 (dk_at dksX5_hours_0 2 rfl rfl)
theorem dX5_hours_3 : decode cX5_hours 3 = .ok (.istore 4, 2) := dk_54 4 (dk_at dksX5_hours_0 3 rfl rfl)
theorem dX5_hours_5 : decode cX5_hours 5 = .ok (.iload 4, 2) := dk_21 4 (dk_at dksX5_hours_0 5 rfl rfl)
theorem dX5_hours_7 : decode cX5_hours 7 = .ok (.aload_n 1, 1) := dk_43 (dk_at dksX5_hours_0 7 rfl rfl)
theorem dX5_hours_8 : decode cX5_hours 8 = .ok (.getfield 63, 3) := dk_180 0 63 (dk_at dksX5_hours_0 8 rfl rfl)
theorem dX5_hours_11 : decode cX5_hours 11 = .ok (.invokevirtual 67, 3) := dk_182 0 67 (dk_at dksX5_hours_0 11 rfl rfl)
theorem dX5_hours_14 : decode cX5_hours 14 = .ok (.if_icmp .ge 42, 3) := dk_162 0 42 (dk_at dksX5_hours_0 14 rfl rfl)
theorem dX5_hours_17 : decode cX5_hours 17 = .ok (.iload_n 3, 1) := dk_29 (dk_at dksX5_hours_0 17 rfl rfl)
theorem dX5_hours_18 : decode cX5_hours 18 = .ok (.aload_n 0, 1) := dk_42 (dk_at dksX5_hours_0 18 rfl rfl)
theorem dX5_hours_19 : decode cX5_hours 19 = .ok (.getfield 9, 3) := dk_180 0 9 (dk_at dksX5_hours_0 19 rfl rfl)
theorem dX5_hours_22 : decode cX5_hours 22 = .ok (.iload 4, 2) := dk_21 4 (dk_at dksX5_hours_0 22 rfl rfl)
theorem dX5_hours_24 : decode cX5_hours 24 = .ok (.iaload, 1) := dk_46 (dk_at dksX5_hours_1 0 rfl rfl)
theorem dX5_hours_25 : decode cX5_hours 25 = .ok (.iload_n 2, 1) := dk_28 (dk_at dksX5_hours_1 1 rfl rfl)
theorem dX5_hours_26 : decode cX5_hours 26 = .ok (.if_icmp .ne 21, 3) := dk_160 0 21 (dk_at dksX5_hours_1 2 rfl rfl)
theorem dX5_hours_29 : decode cX5_hours 29 = .ok (.aload_n 1, 1) := dk_43 (dk_at dksX5_hours_1 5 rfl rfl)
theorem dX5_hours_30 : decode cX5_hours 30 = .ok (.getfield 63, 3) := dk_180 0 63 (dk_at dksX5_hours_1 6 rfl rfl)
theorem dX5_hours_33 : decode cX5_hours 33 = .ok (.iload 4, 2) := dk_21 4 (dk_at dksX5_hours_1 9 rfl rfl)
theorem dX5_hours_35 : decode cX5_hours 35 = .ok (.invokevirtual 73, 3) := dk_182 0 73 (dk_at dksX5_hours_1 11 rfl rfl)
theorem dX5_hours_38 : decode cX5_hours 38 = .ok (.checkcast 77, 3) := dk_192 0 77 (dk_at dksX5_hours_1 14 rfl rfl)
theorem dX5_hours_41 : decode cX5_hours 41 = .ok (.getfield 79, 3) := dk_180 0 79 (dk_at dksX5_hours_1 17 rfl rfl)
theorem dX5_hours_44 : decode cX5_hours 44 = .ok (.goto 4, 3) := dk_167 0 4 (dk_at dksX5_hours_1 20 rfl rfl)
theorem dX5_hours_47 : decode cX5_hours 47 = .ok (.iconst 0, 1) := dk_3 (dk_at dksX5_hours_1 23 rfl rfl)
theorem dX5_hours_48 : decode cX5_hours 48 = .ok (.iadd, 1) := dk_96 (dk_at dksX5_hours_2 0 rfl rfl)
theorem dX5_hours_49 : decode cX5_hours 49 = .ok (.istore_n 3, 1) := dk_62 (dk_at dksX5_hours_2 1 rfl rfl)
theorem dX5_hours_50 : decode cX5_hours 50 = .ok (.iinc 4 1, 3) := dk_132 4 1 (dk_at dksX5_hours_2 2 rfl rfl)
theorem dX5_hours_53 : decode cX5_hours 53 = .ok (.goto (-48), 3) := dk_167 255 208 (dk_at dksX5_hours_2 5 rfl rfl)
theorem dX5_hours_56 : decode cX5_hours 56 = .ok (.iload_n 3, 1) := dk_29 (dk_at dksX5_hours_2 8 rfl rfl)
theorem dX5_hours_57 : decode cX5_hours 57 = .ok (.ireturn, 1) := dk_172 (dk_at dksX5_hours_2 9 rfl rfl)
abbrev cX5_sells : ByteArray := prog_7_method_16_code
def yX5_sells : MethodName := ⟨RX5, "sells", "(LLentSundays$Text;I)I"⟩
def dkwX5_sells_1 : List UInt8 := [167, 0, 10, 42, 43, 6, 28, 182, 0, 137, 172]
abbrev dktX5_sells_1 : List UInt8 := dkwX5_sells_1 ++ []
def dkwX5_sells_0 : List UInt8 := [43, 180, 0, 99, 6, 50, 199, 0, 20, 43, 180, 0, 91, 28, 182, 0, 73, 192, 0, 94, 180, 0, 96]
abbrev dktX5_sells_0 : List UInt8 := dkwX5_sells_0 ++ dktX5_sells_1
theorem dksX5_sells_0 : cX5_sells.data.toList.drop 0 = dktX5_sells_0 := by decide +kernel
theorem dksX5_sells_1 : cX5_sells.data.toList.drop 23 = dktX5_sells_1 := dk_seg dksX5_sells_0 23 rfl rfl
theorem dX5_sells_0 : decode cX5_sells 0 = .ok (.aload_n 1, 1) := dk_43 (dk_at dksX5_sells_0 0 rfl rfl)
theorem dX5_sells_1 : decode cX5_sells 1 = .ok (.getfield 99, 3) := dk_180 0 99 (dk_at dksX5_sells_0 1 rfl rfl)
theorem dX5_sells_4 : decode cX5_sells 4 = .ok (.iconst 3, 1) := dk_6 (dk_at dksX5_sells_0 4 rfl rfl)
theorem dX5_sells_5 : decode cX5_sells 5 = .ok (.aaload, 1) := dk_50 (dk_at dksX5_sells_0 5 rfl rfl)
theorem dX5_sells_6 : decode cX5_sells 6 = .ok (.ifnonnull 20, 3) := dk_199 0 20 (dk_at dksX5_sells_0 6 rfl rfl)
theorem dX5_sells_9 : decode cX5_sells 9 = .ok (.aload_n 1, 1) := dk_43 (dk_at dksX5_sells_0 9 rfl rfl)
theorem dX5_sells_10 : decode cX5_sells 10 = .ok (.getfield 91, 3) := dk_180 0 91 (dk_at dksX5_sells_0 10 rfl rfl)
theorem dX5_sells_13 : decode cX5_sells 13 = .ok (.iload_n 2, 1) := dk_28 (dk_at dksX5_sells_0 13 rfl rfl)
theorem dX5_sells_14 : decode cX5_sells 14 = .ok (.invokevirtual 73, 3) := dk_182 0 73 (dk_at dksX5_sells_0 14 rfl rfl)
theorem dX5_sells_17 : decode cX5_sells 17 = .ok (.checkcast 94, 3) := dk_192 0 94 (dk_at dksX5_sells_0 17 rfl rfl)
theorem dX5_sells_20 : decode cX5_sells 20 = .ok (.getfield 96, 3) := dk_180 0 96 (dk_at dksX5_sells_0 20 rfl rfl)
theorem dX5_sells_23 : decode cX5_sells 23 = .ok (.goto 10, 3) := dk_167 0 10 (dk_at dksX5_sells_1 0 rfl rfl)
theorem dX5_sells_26 : decode cX5_sells 26 = .ok (.aload_n 0, 1) := dk_42 (dk_at dksX5_sells_1 3 rfl rfl)
theorem dX5_sells_27 : decode cX5_sells 27 = .ok (.aload_n 1, 1) := dk_43 (dk_at dksX5_sells_1 4 rfl rfl)
theorem dX5_sells_28 : decode cX5_sells 28 = .ok (.iconst 3, 1) := dk_6 (dk_at dksX5_sells_1 5 rfl rfl)
theorem dX5_sells_29 : decode cX5_sells 29 = .ok (.iload_n 2, 1) := dk_28 (dk_at dksX5_sells_1 6 rfl rfl)
theorem dX5_sells_30 : decode cX5_sells 30 = .ok (.invokevirtual 137, 3) := dk_182 0 137 (dk_at dksX5_sells_1 7 rfl rfl)
theorem dX5_sells_33 : decode cX5_sells 33 = .ok (.ireturn, 1) := dk_172 (dk_at dksX5_sells_1 10 rfl rfl)
abbrev cX5_isDead : ByteArray := prog_7_method_5_code
def yX5_isDead : MethodName := ⟨RX5, "isDead", "(I)Z"⟩
def dkwX5_isDead_0 : List UInt8 := [42, 180, 0, 34, 27, 122, 4, 126, 4, 160, 0, 7, 4, 167, 0, 4, 3, 172]
abbrev dktX5_isDead_0 : List UInt8 := dkwX5_isDead_0 ++ []
theorem dksX5_isDead_0 : cX5_isDead.data.toList.drop 0 = dktX5_isDead_0 := by decide +kernel
theorem dX5_isDead_0 : decode cX5_isDead 0 = .ok (.aload_n 0, 1) := dk_42 (dk_at dksX5_isDead_0 0 rfl rfl)
theorem dX5_isDead_1 : decode cX5_isDead 1 = .ok (.getfield 34, 3) := dk_180 0 34 (dk_at dksX5_isDead_0 1 rfl rfl)
theorem dX5_isDead_4 : decode cX5_isDead 4 = .ok (.iload_n 1, 1) := dk_27 (dk_at dksX5_isDead_0 4 rfl rfl)
theorem dX5_isDead_5 : decode cX5_isDead 5 = .ok (.ishr, 1) := dk_122 (dk_at dksX5_isDead_0 5 rfl rfl)
theorem dX5_isDead_6 : decode cX5_isDead 6 = .ok (.iconst 1, 1) := dk_4 (dk_at dksX5_isDead_0 6 rfl rfl)
theorem dX5_isDead_7 : decode cX5_isDead 7 = .ok (.iand, 1) := dk_126 (dk_at dksX5_isDead_0 7 rfl rfl)
theorem dX5_isDead_8 : decode cX5_isDead 8 = .ok (.iconst 1, 1) := dk_4 (dk_at dksX5_isDead_0 8 rfl rfl)
theorem dX5_isDead_9 : decode cX5_isDead 9 = .ok (.if_icmp .ne 7, 3) := dk_160 0 7 (dk_at dksX5_isDead_0 9 rfl rfl)
theorem dX5_isDead_12 : decode cX5_isDead 12 = .ok (.iconst 1, 1) := dk_4 (dk_at dksX5_isDead_0 12 rfl rfl)
theorem dX5_isDead_13 : decode cX5_isDead 13 = .ok (.goto 4, 3) := dk_167 0 4 (dk_at dksX5_isDead_0 13 rfl rfl)
theorem dX5_isDead_16 : decode cX5_isDead 16 = .ok (.iconst 0, 1) := dk_3 (dk_at dksX5_isDead_0 16 rfl rfl)
theorem dX5_isDead_17 : decode cX5_isDead 17 = .ok (.ireturn, 1) := dk_172 (dk_at dksX5_isDead_0 17 rfl rfl)
abbrev cX5_pays : ByteArray := prog_7_method_12_code
def yX5_pays : MethodName := ⟨RX5, "pays", "(LLentSundays$Text;I)I"⟩
def dkwX5_pays_1 : List UInt8 := [182, 0, 127, 182, 0, 130, 172]
abbrev dktX5_pays_1 : List UInt8 := dkwX5_pays_1 ++ []
def dkwX5_pays_0 : List UInt8 := [42, 180, 0, 9, 28, 46, 156, 0, 7, 3, 167, 0, 20, 42, 43, 28, 42, 180, 0, 9, 28, 46, 42, 28]
abbrev dktX5_pays_0 : List UInt8 := dkwX5_pays_0 ++ dktX5_pays_1
theorem dksX5_pays_0 : cX5_pays.data.toList.drop 0 = dktX5_pays_0 := by decide +kernel
theorem dksX5_pays_1 : cX5_pays.data.toList.drop 24 = dktX5_pays_1 := dk_seg dksX5_pays_0 24 rfl rfl
theorem dX5_pays_0 : decode cX5_pays 0 = .ok (.aload_n 0, 1) := dk_42 (dk_at dksX5_pays_0 0 rfl rfl)
theorem dX5_pays_1 : decode cX5_pays 1 = .ok (.getfield 9, 3) := dk_180 0 9 (dk_at dksX5_pays_0 1 rfl rfl)
theorem dX5_pays_4 : decode cX5_pays 4 = .ok (.iload_n 2, 1) := dk_28 (dk_at dksX5_pays_0 4 rfl rfl)
theorem dX5_pays_5 : decode cX5_pays 5 = .ok (.iaload, 1) := dk_46 (dk_at dksX5_pays_0 5 rfl rfl)
theorem dX5_pays_6 : decode cX5_pays 6 = .ok (.ifCond .ge 7, 3) := dk_156 0 7 (dk_at dksX5_pays_0 6 rfl rfl)
theorem dX5_pays_9 : decode cX5_pays 9 = .ok (.iconst 0, 1) := dk_3 (dk_at dksX5_pays_0 9 rfl rfl)
theorem dX5_pays_10 : decode cX5_pays 10 = .ok (.goto 20, 3) := dk_167 0 20 (dk_at dksX5_pays_0 10 rfl rfl)
theorem dX5_pays_13 : decode cX5_pays 13 = .ok (.aload_n 0, 1) := dk_42 (dk_at dksX5_pays_0 13 rfl rfl)
theorem dX5_pays_14 : decode cX5_pays 14 = .ok (.aload_n 1, 1) := dk_43 (dk_at dksX5_pays_0 14 rfl rfl)
theorem dX5_pays_15 : decode cX5_pays 15 = .ok (.iload_n 2, 1) := dk_28 (dk_at dksX5_pays_0 15 rfl rfl)
theorem dX5_pays_16 : decode cX5_pays 16 = .ok (.aload_n 0, 1) := dk_42 (dk_at dksX5_pays_0 16 rfl rfl)
theorem dX5_pays_17 : decode cX5_pays 17 = .ok (.getfield 9, 3) := dk_180 0 9 (dk_at dksX5_pays_0 17 rfl rfl)
theorem dX5_pays_20 : decode cX5_pays 20 = .ok (.iload_n 2, 1) := dk_28 (dk_at dksX5_pays_0 20 rfl rfl)
theorem dX5_pays_21 : decode cX5_pays 21 = .ok (.iaload, 1) := dk_46 (dk_at dksX5_pays_0 21 rfl rfl)
theorem dX5_pays_22 : decode cX5_pays 22 = .ok (.aload_n 0, 1) := dk_42 (dk_at dksX5_pays_0 22 rfl rfl)
theorem dX5_pays_23 : decode cX5_pays 23 = .ok (.iload_n 2, 1) := dk_28 (dk_at dksX5_pays_0 23 rfl rfl)
theorem dX5_pays_24 : decode cX5_pays 24 = .ok (.invokevirtual 127, 3) := dk_182 0 127 (dk_at dksX5_pays_1 0 rfl rfl)
theorem dX5_pays_27 : decode cX5_pays 27 = .ok (.invokevirtual 130, 3) := dk_182 0 130 (dk_at dksX5_pays_1 3 rfl rfl)
theorem dX5_pays_30 : decode cX5_pays 30 = .ok (.ireturn, 1) := dk_172 (dk_at dksX5_pays_1 6 rfl rfl)
abbrev cX5_others : ByteArray := prog_7_method_10_code
def yX5_others : MethodName := ⟨RX5, "others", "(I)I"⟩
def dkwX5_others_0 : List UInt8 := [42, 42, 180, 0, 9, 27, 46, 182, 0, 115, 184, 0, 118, 4, 100, 172]
abbrev dktX5_others_0 : List UInt8 := dkwX5_others_0 ++ []
theorem dksX5_others_0 : cX5_others.data.toList.drop 0 = dktX5_others_0 := by decide +kernel
theorem dX5_others_0 : decode cX5_others 0 = .ok (.aload_n 0, 1) := dk_42 (dk_at dksX5_others_0 0 rfl rfl)
theorem dX5_others_1 : decode cX5_others 1 = .ok (.aload_n 0, 1) := dk_42 (dk_at dksX5_others_0 1 rfl rfl)
theorem dX5_others_2 : decode cX5_others 2 = .ok (.getfield 9, 3) := dk_180 0 9 (dk_at dksX5_others_0 2 rfl rfl)
theorem dX5_others_5 : decode cX5_others 5 = .ok (.iload_n 1, 1) := dk_27 (dk_at dksX5_others_0 5 rfl rfl)
theorem dX5_others_6 : decode cX5_others 6 = .ok (.iaload, 1) := dk_46 (dk_at dksX5_others_0 6 rfl rfl)
theorem dX5_others_7 : decode cX5_others 7 = .ok (.invokevirtual 115, 3) := dk_182 0 115 (dk_at dksX5_others_0 7 rfl rfl)
theorem dX5_others_10 : decode cX5_others 10 = .ok (.invokestatic 118, 3) := dk_184 0 118 (dk_at dksX5_others_0 10 rfl rfl)
theorem dX5_others_13 : decode cX5_others 13 = .ok (.iconst 1, 1) := dk_4 (dk_at dksX5_others_0 13 rfl rfl)
theorem dX5_others_14 : decode cX5_others 14 = .ok (.isub, 1) := dk_100 (dk_at dksX5_others_0 14 rfl rfl)
theorem dX5_others_15 : decode cX5_others 15 = .ok (.ireturn, 1) := dk_172 (dk_at dksX5_others_0 15 rfl rfl)
abbrev cX5_paysIn : ByteArray := prog_7_method_11_code
def yX5_paysIn : MethodName := ⟨RX5, "paysIn", "(LLentSundays$Text;III)I"⟩
def dkwX5_paysIn_1 : List UInt8 := [167, 0, 13, 42, 43, 3, 28, 29, 21, 4, 182, 0, 123, 172]
abbrev dktX5_paysIn_1 : List UInt8 := dkwX5_paysIn_1 ++ []
def dkwX5_paysIn_0 : List UInt8 := [43, 180, 0, 99, 3, 50, 199, 0, 20, 43, 180, 0, 63, 28, 182, 0, 73, 192, 0, 77, 180, 0, 85]
abbrev dktX5_paysIn_0 : List UInt8 := dkwX5_paysIn_0 ++ dktX5_paysIn_1
theorem dksX5_paysIn_0 : cX5_paysIn.data.toList.drop 0 = dktX5_paysIn_0 := by decide +kernel
theorem dksX5_paysIn_1 : cX5_paysIn.data.toList.drop 23 = dktX5_paysIn_1 := dk_seg dksX5_paysIn_0 23 rfl rfl
theorem dX5_paysIn_0 : decode cX5_paysIn 0 = .ok (.aload_n 1, 1) := dk_43 (dk_at dksX5_paysIn_0 0 rfl rfl)
theorem dX5_paysIn_1 : decode cX5_paysIn 1 = .ok (.getfield 99, 3) := dk_180 0 99 (dk_at dksX5_paysIn_0 1 rfl rfl)
theorem dX5_paysIn_4 : decode cX5_paysIn 4 = .ok (.iconst 0, 1) := dk_3 (dk_at dksX5_paysIn_0 4 rfl rfl)
theorem dX5_paysIn_5 : decode cX5_paysIn 5 = .ok (.aaload, 1) := dk_50 (dk_at dksX5_paysIn_0 5 rfl rfl)
theorem dX5_paysIn_6 : decode cX5_paysIn 6 = .ok (.ifnonnull 20, 3) := dk_199 0 20 (dk_at dksX5_paysIn_0 6 rfl rfl)
theorem dX5_paysIn_9 : decode cX5_paysIn 9 = .ok (.aload_n 1, 1) := dk_43 (dk_at dksX5_paysIn_0 9 rfl rfl)
theorem dX5_paysIn_10 : decode cX5_paysIn 10 = .ok (.getfield 63, 3) := dk_180 0 63 (dk_at dksX5_paysIn_0 10 rfl rfl)
theorem dX5_paysIn_13 : decode cX5_paysIn 13 = .ok (.iload_n 2, 1) := dk_28 (dk_at dksX5_paysIn_0 13 rfl rfl)
theorem dX5_paysIn_14 : decode cX5_paysIn 14 = .ok (.invokevirtual 73, 3) := dk_182 0 73 (dk_at dksX5_paysIn_0 14 rfl rfl)
theorem dX5_paysIn_17 : decode cX5_paysIn 17 = .ok (.checkcast 77, 3) := dk_192 0 77 (dk_at dksX5_paysIn_0 17 rfl rfl)
theorem dX5_paysIn_20 : decode cX5_paysIn 20 = .ok (.getfield 85, 3) := dk_180 0 85 (dk_at dksX5_paysIn_0 20 rfl rfl)
theorem dX5_paysIn_23 : decode cX5_paysIn 23 = .ok (.goto 13, 3) := dk_167 0 13 (dk_at dksX5_paysIn_1 0 rfl rfl)
theorem dX5_paysIn_26 : decode cX5_paysIn 26 = .ok (.aload_n 0, 1) := dk_42 (dk_at dksX5_paysIn_1 3 rfl rfl)
theorem dX5_paysIn_27 : decode cX5_paysIn 27 = .ok (.aload_n 1, 1) := dk_43 (dk_at dksX5_paysIn_1 4 rfl rfl)
theorem dX5_paysIn_28 : decode cX5_paysIn 28 = .ok (.iconst 0, 1) := dk_3 (dk_at dksX5_paysIn_1 5 rfl rfl)
theorem dX5_paysIn_29 : decode cX5_paysIn 29 = .ok (.iload_n 2, 1) := dk_28 (dk_at dksX5_paysIn_1 6 rfl rfl)
theorem dX5_paysIn_30 : decode cX5_paysIn 30 = .ok (.iload_n 3, 1) := dk_29 (dk_at dksX5_paysIn_1 7 rfl rfl)
theorem dX5_paysIn_31 : decode cX5_paysIn 31 = .ok (.iload 4, 2) := dk_21 4 (dk_at dksX5_paysIn_1 8 rfl rfl)
theorem dX5_paysIn_33 : decode cX5_paysIn 33 = .ok (.invokevirtual 123, 3) := dk_182 0 123 (dk_at dksX5_paysIn_1 10 rfl rfl)
theorem dX5_paysIn_36 : decode cX5_paysIn 36 = .ok (.ireturn, 1) := dk_172 (dk_at dksX5_paysIn_1 13 rfl rfl)
abbrev cX5_told : ByteArray := prog_7_method_9_code
def yX5_told : MethodName := ⟨RX5, "told", "(LLentSundays$Text;IIII)I"⟩
def dkwX5_told_7 : List UInt8 := [184, 0, 109, 172]
abbrev dktX5_told_7 : List UInt8 := dkwX5_told_7 ++ []
def dkwX5_told_6 : List UInt8 := [180, 0, 82, 16, 8, 21, 5, 79, 16, 99, 43, 180, 0, 99, 28, 50, 42, 180, 0, 30, 182, 0, 103]
abbrev dktX5_told_6 : List UInt8 := dkwX5_told_6 ++ dktX5_told_7
def dkwX5_told_5 : List UInt8 := [16, 6, 42, 180, 0, 41, 79, 42, 180, 0, 30, 180, 0, 82, 16, 7, 29, 79, 42, 180, 0, 30]
abbrev dktX5_told_5 : List UInt8 := dkwX5_told_5 ++ dktX5_told_6
def dkwX5_told_4 : List UInt8 := [8, 43, 180, 0, 91, 21, 4, 182, 0, 73, 192, 0, 94, 180, 0, 96, 79, 42, 180, 0, 30, 180, 0, 82]
abbrev dktX5_told_4 : List UInt8 := dkwX5_told_4 ++ dktX5_told_5
def dkwX5_told_3 : List UInt8 := [79, 42, 180, 0, 30, 180, 0, 82, 7, 42, 180, 0, 18, 21, 4, 46, 79, 42, 180, 0, 30, 180, 0, 82]
abbrev dktX5_told_3 : List UInt8 := dkwX5_told_3 ++ dktX5_told_4
def dkwX5_told_2 : List UInt8 := [180, 0, 82, 5, 25, 6, 180, 0, 88, 79, 42, 180, 0, 30, 180, 0, 82, 6, 42, 180, 0, 15, 29, 46]
abbrev dktX5_told_2 : List UInt8 := dkwX5_told_2 ++ dktX5_told_3
def dkwX5_told_1 : List UInt8 := [180, 0, 85, 79, 42, 180, 0, 30, 180, 0, 82, 4, 25, 6, 180, 0, 79, 79, 42, 180, 0, 30]
abbrev dktX5_told_1 : List UInt8 := dkwX5_told_1 ++ dktX5_told_2
def dkwX5_told_0 : List UInt8 := [43, 180, 0, 63, 29, 182, 0, 73, 192, 0, 77, 58, 6, 42, 180, 0, 30, 180, 0, 82, 3, 25, 6]
abbrev dktX5_told_0 : List UInt8 := dkwX5_told_0 ++ dktX5_told_1
theorem dksX5_told_0 : cX5_told.data.toList.drop 0 = dktX5_told_0 := by decide +kernel
theorem dksX5_told_1 : cX5_told.data.toList.drop 23 = dktX5_told_1 := dk_seg dksX5_told_0 23 rfl rfl
theorem dksX5_told_2 : cX5_told.data.toList.drop 45 = dktX5_told_2 := dk_seg dksX5_told_1 22 rfl rfl
theorem dksX5_told_3 : cX5_told.data.toList.drop 69 = dktX5_told_3 := dk_seg dksX5_told_2 24 rfl rfl
theorem dksX5_told_4 : cX5_told.data.toList.drop 93 = dktX5_told_4 := dk_seg dksX5_told_3 24 rfl rfl
theorem dksX5_told_5 : cX5_told.data.toList.drop 117 = dktX5_told_5 := dk_seg dksX5_told_4 24 rfl rfl
theorem dksX5_told_6 : cX5_told.data.toList.drop 139 = dktX5_told_6 := dk_seg dksX5_told_5 22 rfl rfl
theorem dksX5_told_7 : cX5_told.data.toList.drop 162 = dktX5_told_7 := dk_seg dksX5_told_6 23 rfl rfl
theorem dX5_told_0 : decode cX5_told 0 = .ok (.aload_n 1, 1) := dk_43 (dk_at dksX5_told_0 0 rfl rfl)
theorem dX5_told_1 : decode cX5_told 1 = .ok (.getfield 63, 3) := dk_180 0 63 (dk_at dksX5_told_0 1 rfl rfl)
theorem dX5_told_4 : decode cX5_told 4 = .ok (.iload_n 3, 1) := dk_29 (dk_at dksX5_told_0 4 rfl rfl)
theorem dX5_told_5 : decode cX5_told 5 = .ok (.invokevirtual 73, 3) := dk_182 0 73 (dk_at dksX5_told_0 5 rfl rfl)
theorem dX5_told_8 : decode cX5_told 8 = .ok (.checkcast 77, 3) := dk_192 0 77 (dk_at dksX5_told_0 8 rfl rfl)
theorem dX5_told_11 : decode cX5_told 11 = .ok (.astore 6, 2) := dk_58 6 (dk_at dksX5_told_0 11 rfl rfl)
theorem dX5_told_13 : decode cX5_told 13 = .ok (.aload_n 0, 1) := dk_42 (dk_at dksX5_told_0 13 rfl rfl)
theorem dX5_told_14 : decode cX5_told 14 = .ok (.getfield 30, 3) := dk_180 0 30 (dk_at dksX5_told_0 14 rfl rfl)
theorem dX5_told_17 : decode cX5_told 17 = .ok (.getfield 82, 3) := dk_180 0 82 (dk_at dksX5_told_0 17 rfl rfl)
theorem dX5_told_20 : decode cX5_told 20 = .ok (.iconst 0, 1) := dk_3 (dk_at dksX5_told_0 20 rfl rfl)
theorem dX5_told_21 : decode cX5_told 21 = .ok (.aload 6, 2) := dk_25 6 (dk_at dksX5_told_0 21 rfl rfl)
theorem dX5_told_23 : decode cX5_told 23 = .ok (.getfield 85, 3) := dk_180 0 85 (dk_at dksX5_told_1 0 rfl rfl)
theorem dX5_told_26 : decode cX5_told 26 = .ok (.iastore, 1) := dk_79 (dk_at dksX5_told_1 3 rfl rfl)
theorem dX5_told_27 : decode cX5_told 27 = .ok (.aload_n 0, 1) := dk_42 (dk_at dksX5_told_1 4 rfl rfl)
theorem dX5_told_28 : decode cX5_told 28 = .ok (.getfield 30, 3) := dk_180 0 30 (dk_at dksX5_told_1 5 rfl rfl)
theorem dX5_told_31 : decode cX5_told 31 = .ok (.getfield 82, 3) := dk_180 0 82 (dk_at dksX5_told_1 8 rfl rfl)
theorem dX5_told_34 : decode cX5_told 34 = .ok (.iconst 1, 1) := dk_4 (dk_at dksX5_told_1 11 rfl rfl)
theorem dX5_told_35 : decode cX5_told 35 = .ok (.aload 6, 2) := dk_25 6 (dk_at dksX5_told_1 12 rfl rfl)
theorem dX5_told_37 : decode cX5_told 37 = .ok (.getfield 79, 3) := dk_180 0 79 (dk_at dksX5_told_1 14 rfl rfl)
theorem dX5_told_40 : decode cX5_told 40 = .ok (.iastore, 1) := dk_79 (dk_at dksX5_told_1 17 rfl rfl)
theorem dX5_told_41 : decode cX5_told 41 = .ok (.aload_n 0, 1) := dk_42 (dk_at dksX5_told_1 18 rfl rfl)
theorem dX5_told_42 : decode cX5_told 42 = .ok (.getfield 30, 3) := dk_180 0 30 (dk_at dksX5_told_1 19 rfl rfl)
theorem dX5_told_45 : decode cX5_told 45 = .ok (.getfield 82, 3) := dk_180 0 82 (dk_at dksX5_told_2 0 rfl rfl)
theorem dX5_told_48 : decode cX5_told 48 = .ok (.iconst 2, 1) := dk_5 (dk_at dksX5_told_2 3 rfl rfl)
theorem dX5_told_49 : decode cX5_told 49 = .ok (.aload 6, 2) := dk_25 6 (dk_at dksX5_told_2 4 rfl rfl)
theorem dX5_told_51 : decode cX5_told 51 = .ok (.getfield 88, 3) := dk_180 0 88 (dk_at dksX5_told_2 6 rfl rfl)
theorem dX5_told_54 : decode cX5_told 54 = .ok (.iastore, 1) := dk_79 (dk_at dksX5_told_2 9 rfl rfl)
theorem dX5_told_55 : decode cX5_told 55 = .ok (.aload_n 0, 1) := dk_42 (dk_at dksX5_told_2 10 rfl rfl)
theorem dX5_told_56 : decode cX5_told 56 = .ok (.getfield 30, 3) := dk_180 0 30 (dk_at dksX5_told_2 11 rfl rfl)
theorem dX5_told_59 : decode cX5_told 59 = .ok (.getfield 82, 3) := dk_180 0 82 (dk_at dksX5_told_2 14 rfl rfl)
theorem dX5_told_62 : decode cX5_told 62 = .ok (.iconst 3, 1) := dk_6 (dk_at dksX5_told_2 17 rfl rfl)
theorem dX5_told_63 : decode cX5_told 63 = .ok (.aload_n 0, 1) := dk_42 (dk_at dksX5_told_2 18 rfl rfl)
theorem dX5_told_64 : decode cX5_told 64 = .ok (.getfield 15, 3) := dk_180 0 15 (dk_at dksX5_told_2 19 rfl rfl)
theorem dX5_told_67 : decode cX5_told 67 = .ok (.iload_n 3, 1) := dk_29 (dk_at dksX5_told_2 22 rfl rfl)
theorem dX5_told_68 : decode cX5_told 68 = .ok (.iaload, 1) := dk_46 (dk_at dksX5_told_2 23 rfl rfl)
theorem dX5_told_69 : decode cX5_told 69 = .ok (.iastore, 1) := dk_79 (dk_at dksX5_told_3 0 rfl rfl)
theorem dX5_told_70 : decode cX5_told 70 = .ok (.aload_n 0, 1) := dk_42 (dk_at dksX5_told_3 1 rfl rfl)
theorem dX5_told_71 : decode cX5_told 71 = .ok (.getfield 30, 3) := dk_180 0 30 (dk_at dksX5_told_3 2 rfl rfl)
theorem dX5_told_74 : decode cX5_told 74 = .ok (.getfield 82, 3) := dk_180 0 82 (dk_at dksX5_told_3 5 rfl rfl)
theorem dX5_told_77 : decode cX5_told 77 = .ok (.iconst 4, 1) := dk_7 (dk_at dksX5_told_3 8 rfl rfl)
theorem dX5_told_78 : decode cX5_told 78 = .ok (.aload_n 0, 1) := dk_42 (dk_at dksX5_told_3 9 rfl rfl)
theorem dX5_told_79 : decode cX5_told 79 = .ok (.getfield 18, 3) := dk_180 0 18 (dk_at dksX5_told_3 10 rfl rfl)
theorem dX5_told_82 : decode cX5_told 82 = .ok (.iload 4, 2) := dk_21 4 (dk_at dksX5_told_3 13 rfl rfl)
theorem dX5_told_84 : decode cX5_told 84 = .ok (.iaload, 1) := dk_46 (dk_at dksX5_told_3 15 rfl rfl)
theorem dX5_told_85 : decode cX5_told 85 = .ok (.iastore, 1) := dk_79 (dk_at dksX5_told_3 16 rfl rfl)
theorem dX5_told_86 : decode cX5_told 86 = .ok (.aload_n 0, 1) := dk_42 (dk_at dksX5_told_3 17 rfl rfl)
theorem dX5_told_87 : decode cX5_told 87 = .ok (.getfield 30, 3) := dk_180 0 30 (dk_at dksX5_told_3 18 rfl rfl)
theorem dX5_told_90 : decode cX5_told 90 = .ok (.getfield 82, 3) := dk_180 0 82 (dk_at dksX5_told_3 21 rfl rfl)
theorem dX5_told_93 : decode cX5_told 93 = .ok (.iconst 5, 1) := dk_8 (dk_at dksX5_told_4 0 rfl rfl)
theorem dX5_told_94 : decode cX5_told 94 = .ok (.aload_n 1, 1) := dk_43 (dk_at dksX5_told_4 1 rfl rfl)
theorem dX5_told_95 : decode cX5_told 95 = .ok (.getfield 91, 3) := dk_180 0 91 (dk_at dksX5_told_4 2 rfl rfl)
theorem dX5_told_98 : decode cX5_told 98 = .ok (.iload 4, 2) := dk_21 4 (dk_at dksX5_told_4 5 rfl rfl)
theorem dX5_told_100 : decode cX5_told 100 = .ok (.invokevirtual 73, 3) := dk_182 0 73 (dk_at dksX5_told_4 7 rfl rfl)
theorem dX5_told_103 : decode cX5_told 103 = .ok (.checkcast 94, 3) := dk_192 0 94 (dk_at dksX5_told_4 10 rfl rfl)
theorem dX5_told_106 : decode cX5_told 106 = .ok (.getfield 96, 3) := dk_180 0 96 (dk_at dksX5_told_4 13 rfl rfl)
theorem dX5_told_109 : decode cX5_told 109 = .ok (.iastore, 1) := dk_79 (dk_at dksX5_told_4 16 rfl rfl)
theorem dX5_told_110 : decode cX5_told 110 = .ok (.aload_n 0, 1) := dk_42 (dk_at dksX5_told_4 17 rfl rfl)
theorem dX5_told_111 : decode cX5_told 111 = .ok (.getfield 30, 3) := dk_180 0 30 (dk_at dksX5_told_4 18 rfl rfl)
theorem dX5_told_114 : decode cX5_told 114 = .ok (.getfield 82, 3) := dk_180 0 82 (dk_at dksX5_told_4 21 rfl rfl)
theorem dX5_told_117 : decode cX5_told 117 = .ok (.bipush 6, 2) := dk_16 6 (dk_at dksX5_told_5 0 rfl rfl)
theorem dX5_told_119 : decode cX5_told 119 = .ok (.aload_n 0, 1) := dk_42 (dk_at dksX5_told_5 2 rfl rfl)
theorem dX5_told_120 : decode cX5_told 120 = .ok (.getfield 41, 3) := dk_180 0 41 (dk_at dksX5_told_5 3 rfl rfl)
theorem dX5_told_123 : decode cX5_told 123 = .ok (.iastore, 1) := dk_79 (dk_at dksX5_told_5 6 rfl rfl)
theorem dX5_told_124 : decode cX5_told 124 = .ok (.aload_n 0, 1) := dk_42 (dk_at dksX5_told_5 7 rfl rfl)
theorem dX5_told_125 : decode cX5_told 125 = .ok (.getfield 30, 3) := dk_180 0 30 (dk_at dksX5_told_5 8 rfl rfl)
theorem dX5_told_128 : decode cX5_told 128 = .ok (.getfield 82, 3) := dk_180 0 82 (dk_at dksX5_told_5 11 rfl rfl)
theorem dX5_told_131 : decode cX5_told 131 = .ok (.bipush 7, 2) := dk_16 7 (dk_at dksX5_told_5 14 rfl rfl)
theorem dX5_told_133 : decode cX5_told 133 = .ok (.iload_n 3, 1) := dk_29 (dk_at dksX5_told_5 16 rfl rfl)
theorem dX5_told_134 : decode cX5_told 134 = .ok (.iastore, 1) := dk_79 (dk_at dksX5_told_5 17 rfl rfl)
theorem dX5_told_135 : decode cX5_told 135 = .ok (.aload_n 0, 1) := dk_42 (dk_at dksX5_told_5 18 rfl rfl)
theorem dX5_told_136 : decode cX5_told 136 = .ok (.getfield 30, 3) := dk_180 0 30 (dk_at dksX5_told_5 19 rfl rfl)
theorem dX5_told_139 : decode cX5_told 139 = .ok (.getfield 82, 3) := dk_180 0 82 (dk_at dksX5_told_6 0 rfl rfl)
theorem dX5_told_142 : decode cX5_told 142 = .ok (.bipush 8, 2) := dk_16 8 (dk_at dksX5_told_6 3 rfl rfl)
theorem dX5_told_144 : decode cX5_told 144 = .ok (.iload 5, 2) := dk_21 5 (dk_at dksX5_told_6 5 rfl rfl)
theorem dX5_told_146 : decode cX5_told 146 = .ok (.iastore, 1) := dk_79 (dk_at dksX5_told_6 7 rfl rfl)
theorem dX5_told_147 : decode cX5_told 147 = .ok (.bipush 99, 2) := dk_16 99 (dk_at dksX5_told_6 8 rfl rfl)
theorem dX5_told_149 : decode cX5_told 149 = .ok (.aload_n 1, 1) := dk_43 (dk_at dksX5_told_6 10 rfl rfl)
theorem dX5_told_150 : decode cX5_told 150 = .ok (.getfield 99, 3) := dk_180 0 99 (dk_at dksX5_told_6 11 rfl rfl)
theorem dX5_told_153 : decode cX5_told 153 = .ok (.iload_n 2, 1) := dk_28 (dk_at dksX5_told_6 14 rfl rfl)
theorem dX5_told_154 : decode cX5_told 154 = .ok (.aaload, 1) := dk_50 (dk_at dksX5_told_6 15 rfl rfl)
theorem dX5_told_155 : decode cX5_told 155 = .ok (.aload_n 0, 1) := dk_42 (dk_at dksX5_told_6 16 rfl rfl)
theorem dX5_told_156 : decode cX5_told 156 = .ok (.getfield 30, 3) := dk_180 0 30 (dk_at dksX5_told_6 17 rfl rfl)
theorem dX5_told_159 : decode cX5_told 159 = .ok (.invokevirtual 103, 3) := dk_182 0 103 (dk_at dksX5_told_6 20 rfl rfl)
theorem dX5_told_162 : decode cX5_told 162 = .ok (.invokestatic 109, 3) := dk_184 0 109 (dk_at dksX5_told_7 0 rfl rfl)
theorem dX5_told_165 : decode cX5_told 165 = .ok (.ireturn, 1) := dk_172 (dk_at dksX5_told_7 3 rfl rfl)
abbrev cX5_rests : ByteArray := prog_7_method_13_code
def yX5_rests : MethodName := ⟨RX5, "rests", "(LLentSundays$Text;I)I"⟩
def dkwX5_rests_2 : List UInt8 := [28, 46, 42, 28, 182, 0, 127, 182, 0, 123, 172]
abbrev dktX5_rests_2 : List UInt8 := dkwX5_rests_2 ++ []
def dkwX5_rests_1 : List UInt8 := [180, 0, 63, 28, 182, 0, 73, 192, 0, 77, 180, 0, 79, 167, 0, 21, 42, 43, 4, 28, 42, 180, 0, 9]
abbrev dktX5_rests_1 : List UInt8 := dkwX5_rests_1 ++ dktX5_rests_2
def dkwX5_rests_0 : List UInt8 := [42, 180, 0, 9, 28, 46, 156, 0, 7, 3, 167, 0, 47, 43, 180, 0, 99, 4, 50, 199, 0, 20, 43]
abbrev dktX5_rests_0 : List UInt8 := dkwX5_rests_0 ++ dktX5_rests_1
theorem dksX5_rests_0 : cX5_rests.data.toList.drop 0 = dktX5_rests_0 := by decide +kernel
theorem dksX5_rests_1 : cX5_rests.data.toList.drop 23 = dktX5_rests_1 := dk_seg dksX5_rests_0 23 rfl rfl
theorem dksX5_rests_2 : cX5_rests.data.toList.drop 47 = dktX5_rests_2 := dk_seg dksX5_rests_1 24 rfl rfl
theorem dX5_rests_0 : decode cX5_rests 0 = .ok (.aload_n 0, 1) := dk_42 (dk_at dksX5_rests_0 0 rfl rfl)
theorem dX5_rests_1 : decode cX5_rests 1 = .ok (.getfield 9, 3) := dk_180 0 9 (dk_at dksX5_rests_0 1 rfl rfl)
theorem dX5_rests_4 : decode cX5_rests 4 = .ok (.iload_n 2, 1) := dk_28 (dk_at dksX5_rests_0 4 rfl rfl)
theorem dX5_rests_5 : decode cX5_rests 5 = .ok (.iaload, 1) := dk_46 (dk_at dksX5_rests_0 5 rfl rfl)
theorem dX5_rests_6 : decode cX5_rests 6 = .ok (.ifCond .ge 7, 3) := dk_156 0 7 (dk_at dksX5_rests_0 6 rfl rfl)
theorem dX5_rests_9 : decode cX5_rests 9 = .ok (.iconst 0, 1) := dk_3 (dk_at dksX5_rests_0 9 rfl rfl)
theorem dX5_rests_10 : decode cX5_rests 10 = .ok (.goto 47, 3) := dk_167 0 47 (dk_at dksX5_rests_0 10 rfl rfl)
theorem dX5_rests_13 : decode cX5_rests 13 = .ok (.aload_n 1, 1) := dk_43 (dk_at dksX5_rests_0 13 rfl rfl)
theorem dX5_rests_14 : decode cX5_rests 14 = .ok (.getfield 99, 3) := dk_180 0 99 (dk_at dksX5_rests_0 14 rfl rfl)
theorem dX5_rests_17 : decode cX5_rests 17 = .ok (.iconst 1, 1) := dk_4 (dk_at dksX5_rests_0 17 rfl rfl)
theorem dX5_rests_18 : decode cX5_rests 18 = .ok (.aaload, 1) := dk_50 (dk_at dksX5_rests_0 18 rfl rfl)
theorem dX5_rests_19 : decode cX5_rests 19 = .ok (.ifnonnull 20, 3) := dk_199 0 20 (dk_at dksX5_rests_0 19 rfl rfl)
theorem dX5_rests_22 : decode cX5_rests 22 = .ok (.aload_n 1, 1) := dk_43 (dk_at dksX5_rests_0 22 rfl rfl)
theorem dX5_rests_23 : decode cX5_rests 23 = .ok (.getfield 63, 3) := dk_180 0 63 (dk_at dksX5_rests_1 0 rfl rfl)
theorem dX5_rests_26 : decode cX5_rests 26 = .ok (.iload_n 2, 1) := dk_28 (dk_at dksX5_rests_1 3 rfl rfl)
theorem dX5_rests_27 : decode cX5_rests 27 = .ok (.invokevirtual 73, 3) := dk_182 0 73 (dk_at dksX5_rests_1 4 rfl rfl)
theorem dX5_rests_30 : decode cX5_rests 30 = .ok (.checkcast 77, 3) := dk_192 0 77 (dk_at dksX5_rests_1 7 rfl rfl)
theorem dX5_rests_33 : decode cX5_rests 33 = .ok (.getfield 79, 3) := dk_180 0 79 (dk_at dksX5_rests_1 10 rfl rfl)
theorem dX5_rests_36 : decode cX5_rests 36 = .ok (.goto 21, 3) := dk_167 0 21 (dk_at dksX5_rests_1 13 rfl rfl)
theorem dX5_rests_39 : decode cX5_rests 39 = .ok (.aload_n 0, 1) := dk_42 (dk_at dksX5_rests_1 16 rfl rfl)
theorem dX5_rests_40 : decode cX5_rests 40 = .ok (.aload_n 1, 1) := dk_43 (dk_at dksX5_rests_1 17 rfl rfl)
theorem dX5_rests_41 : decode cX5_rests 41 = .ok (.iconst 1, 1) := dk_4 (dk_at dksX5_rests_1 18 rfl rfl)
theorem dX5_rests_42 : decode cX5_rests 42 = .ok (.iload_n 2, 1) := dk_28 (dk_at dksX5_rests_1 19 rfl rfl)
theorem dX5_rests_43 : decode cX5_rests 43 = .ok (.aload_n 0, 1) := dk_42 (dk_at dksX5_rests_1 20 rfl rfl)
theorem dX5_rests_44 : decode cX5_rests 44 = .ok (.getfield 9, 3) := dk_180 0 9 (dk_at dksX5_rests_1 21 rfl rfl)
theorem dX5_rests_47 : decode cX5_rests 47 = .ok (.iload_n 2, 1) := dk_28 (dk_at dksX5_rests_2 0 rfl rfl)
theorem dX5_rests_48 : decode cX5_rests 48 = .ok (.iaload, 1) := dk_46 (dk_at dksX5_rests_2 1 rfl rfl)
theorem dX5_rests_49 : decode cX5_rests 49 = .ok (.aload_n 0, 1) := dk_42 (dk_at dksX5_rests_2 2 rfl rfl)
theorem dX5_rests_50 : decode cX5_rests 50 = .ok (.iload_n 2, 1) := dk_28 (dk_at dksX5_rests_2 3 rfl rfl)
theorem dX5_rests_51 : decode cX5_rests 51 = .ok (.invokevirtual 127, 3) := dk_182 0 127 (dk_at dksX5_rests_2 4 rfl rfl)
theorem dX5_rests_54 : decode cX5_rests 54 = .ok (.invokevirtual 123, 3) := dk_182 0 123 (dk_at dksX5_rests_2 7 rfl rfl)
theorem dX5_rests_57 : decode cX5_rests 57 = .ok (.ireturn, 1) := dk_172 (dk_at dksX5_rests_2 10 rfl rfl)
abbrev cX5_room : ByteArray := prog_7_method_19_code
def yX5_room : MethodName := ⟨RX5, "room", "(LLentSundays$Text;I)I"⟩
def dkwX5_room_3 : List UInt8 := [132, 4, 1, 167, 255, 188, 29, 172]
abbrev dktX5_room_3 : List UInt8 := dkwX5_room_3 ++ []
def dkwX5_room_2 : List UInt8 := [21, 4, 182, 0, 115, 43, 28, 182, 0, 175, 126, 154, 0, 10, 4, 21, 4, 120, 167, 0, 4, 3, 128, 62]
abbrev dktX5_room_2 : List UInt8 := dkwX5_room_2 ++ dktX5_room_3
def dkwX5_room_1 : List UInt8 := [154, 0, 54, 29, 42, 21, 4, 182, 0, 168, 154, 0, 35, 43, 28, 21, 4, 182, 0, 171, 153, 0, 25, 42]
abbrev dktX5_room_1 : List UInt8 := dkwX5_room_1 ++ dktX5_room_2
def dkwX5_room_0 : List UInt8 := [3, 62, 3, 54, 4, 21, 4, 43, 180, 0, 91, 182, 0, 67, 162, 0, 62, 42, 28, 182, 0, 152]
abbrev dktX5_room_0 : List UInt8 := dkwX5_room_0 ++ dktX5_room_1
theorem dksX5_room_0 : cX5_room.data.toList.drop 0 = dktX5_room_0 := by decide +kernel
theorem dksX5_room_1 : cX5_room.data.toList.drop 22 = dktX5_room_1 := dk_seg dksX5_room_0 22 rfl rfl
theorem dksX5_room_2 : cX5_room.data.toList.drop 46 = dktX5_room_2 := dk_seg dksX5_room_1 24 rfl rfl
theorem dksX5_room_3 : cX5_room.data.toList.drop 70 = dktX5_room_3 := dk_seg dksX5_room_2 24 rfl rfl
theorem dX5_room_0 : decode cX5_room 0 = .ok (.iconst 0, 1) := dk_3 (dk_at dksX5_room_0 0 rfl rfl)
theorem dX5_room_1 : decode cX5_room 1 = .ok (.istore_n 3, 1) := dk_62 (dk_at dksX5_room_0 1 rfl rfl)
theorem dX5_room_2 : decode cX5_room 2 = .ok (.iconst 0, 1) := dk_3 (dk_at dksX5_room_0 2 rfl rfl)
theorem dX5_room_3 : decode cX5_room 3 = .ok (.istore 4, 2) := dk_54 4 (dk_at dksX5_room_0 3 rfl rfl)
theorem dX5_room_5 : decode cX5_room 5 = .ok (.iload 4, 2) := dk_21 4 (dk_at dksX5_room_0 5 rfl rfl)
theorem dX5_room_7 : decode cX5_room 7 = .ok (.aload_n 1, 1) := dk_43 (dk_at dksX5_room_0 7 rfl rfl)
theorem dX5_room_8 : decode cX5_room 8 = .ok (.getfield 91, 3) := dk_180 0 91 (dk_at dksX5_room_0 8 rfl rfl)
theorem dX5_room_11 : decode cX5_room 11 = .ok (.invokevirtual 67, 3) := dk_182 0 67 (dk_at dksX5_room_0 11 rfl rfl)
theorem dX5_room_14 : decode cX5_room 14 = .ok (.if_icmp .ge 62, 3) := dk_162 0 62 (dk_at dksX5_room_0 14 rfl rfl)
theorem dX5_room_17 : decode cX5_room 17 = .ok (.aload_n 0, 1) := dk_42 (dk_at dksX5_room_0 17 rfl rfl)
theorem dX5_room_18 : decode cX5_room 18 = .ok (.iload_n 2, 1) := dk_28 (dk_at dksX5_room_0 18 rfl rfl)
theorem dX5_room_19 : decode cX5_room 19 = .ok (.invokevirtual 152, 3) := dk_182 0 152 (dk_at dksX5_room_0 19 rfl rfl)
theorem dX5_room_22 : decode cX5_room 22 = .ok (.ifCond .ne 54, 3) := dk_154 0 54 (dk_at dksX5_room_1 0 rfl rfl)
theorem dX5_room_25 : decode cX5_room 25 = .ok (.iload_n 3, 1) := dk_29 (dk_at dksX5_room_1 3 rfl rfl)
theorem dX5_room_26 : decode cX5_room 26 = .ok (.aload_n 0, 1) := dk_42 (dk_at dksX5_room_1 4 rfl rfl)
theorem dX5_room_27 : decode cX5_room 27 = .ok (.iload 4, 2) := dk_21 4 (dk_at dksX5_room_1 5 rfl rfl)
theorem dX5_room_29 : decode cX5_room 29 = .ok (.invokevirtual 168, 3) := dk_182 0 168 (dk_at dksX5_room_1 7 rfl rfl)
theorem dX5_room_32 : decode cX5_room 32 = .ok (.ifCond .ne 35, 3) := dk_154 0 35 (dk_at dksX5_room_1 10 rfl rfl)
theorem dX5_room_35 : decode cX5_room 35 = .ok (.aload_n 1, 1) := dk_43 (dk_at dksX5_room_1 13 rfl rfl)
theorem dX5_room_36 : decode cX5_room 36 = .ok (.iload_n 2, 1) := dk_28 (dk_at dksX5_room_1 14 rfl rfl)
theorem dX5_room_37 : decode cX5_room 37 = .ok (.iload 4, 2) := dk_21 4 (dk_at dksX5_room_1 15 rfl rfl)
theorem dX5_room_39 : decode cX5_room 39 = .ok (.invokevirtual 171, 3) := dk_182 0 171 (dk_at dksX5_room_1 17 rfl rfl)
theorem dX5_room_42 : decode cX5_room 42 = .ok (.ifCond .eq 25, 3) := dk_153 0 25 (dk_at dksX5_room_1 20 rfl rfl)
theorem dX5_room_45 : decode cX5_room 45 = .ok (.aload_n 0, 1) := dk_42 (dk_at dksX5_room_1 23 rfl rfl)
theorem dX5_room_46 : decode cX5_room 46 = .ok (.iload 4, 2) := dk_21 4 (dk_at dksX5_room_2 0 rfl rfl)
theorem dX5_room_48 : decode cX5_room 48 = .ok (.invokevirtual 115, 3) := dk_182 0 115 (dk_at dksX5_room_2 2 rfl rfl)
theorem dX5_room_51 : decode cX5_room 51 = .ok (.aload_n 1, 1) := dk_43 (dk_at dksX5_room_2 5 rfl rfl)
theorem dX5_room_52 : decode cX5_room 52 = .ok (.iload_n 2, 1) := dk_28 (dk_at dksX5_room_2 6 rfl rfl)
theorem dX5_room_53 : decode cX5_room 53 = .ok (.invokevirtual 175, 3) := dk_182 0 175 (dk_at dksX5_room_2 7 rfl rfl)
theorem dX5_room_56 : decode cX5_room 56 = .ok (.iand, 1) := dk_126 (dk_at dksX5_room_2 10 rfl rfl)
theorem dX5_room_57 : decode cX5_room 57 = .ok (.ifCond .ne 10, 3) := dk_154 0 10 (dk_at dksX5_room_2 11 rfl rfl)
theorem dX5_room_60 : decode cX5_room 60 = .ok (.iconst 1, 1) := dk_4 (dk_at dksX5_room_2 14 rfl rfl)
theorem dX5_room_61 : decode cX5_room 61 = .ok (.iload 4, 2) := dk_21 4 (dk_at dksX5_room_2 15 rfl rfl)
theorem dX5_room_63 : decode cX5_room 63 = .ok (.ishl, 1) := dk_120 (dk_at dksX5_room_2 17 rfl rfl)
theorem dX5_room_64 : decode cX5_room 64 = .ok (.goto 4, 3) := dk_167 0 4 (dk_at dksX5_room_2 18 rfl rfl)
theorem dX5_room_67 : decode cX5_room 67 = .ok (.iconst 0, 1) := dk_3 (dk_at dksX5_room_2 21 rfl rfl)
theorem dX5_room_68 : decode cX5_room 68 = .ok (.ior, 1) := dk_128 (dk_at dksX5_room_2 22 rfl rfl)
theorem dX5_room_69 : decode cX5_room 69 = .ok (.istore_n 3, 1) := dk_62 (dk_at dksX5_room_2 23 rfl rfl)
theorem dX5_room_70 : decode cX5_room 70 = .ok (.iinc 4 1, 3) := dk_132 4 1 (dk_at dksX5_room_3 0 rfl rfl)
theorem dX5_room_73 : decode cX5_room 73 = .ok (.goto (-68), 3) := dk_167 255 188 (dk_at dksX5_room_3 3 rfl rfl)
theorem dX5_room_76 : decode cX5_room 76 = .ok (.iload_n 3, 1) := dk_29 (dk_at dksX5_room_3 6 rfl rfl)
theorem dX5_room_77 : decode cX5_room 77 = .ok (.ireturn, 1) := dk_172 (dk_at dksX5_room_3 7 rfl rfl)
abbrev cX5_takes : ByteArray := prog_7_method_4_code
def yX5_takes : MethodName := ⟨RX5, "takes", "(LLentSundays$House;)V"⟩
def dkwX5_takes_3 : List UInt8 := [181, 0, 52, 177]
abbrev dktX5_takes_3 : List UInt8 := dkwX5_takes_3 ++ []
def dkwX5_takes_2 : List UInt8 := [181, 0, 38, 42, 43, 180, 0, 41, 181, 0, 41, 42, 43, 180, 0, 44, 181, 0, 44, 42, 43, 180, 0, 52]
abbrev dktX5_takes_2 : List UInt8 := dkwX5_takes_2 ++ dktX5_takes_3
def dkwX5_takes_1 : List UInt8 := [180, 0, 18, 42, 180, 0, 18, 184, 0, 59, 42, 43, 180, 0, 34, 181, 0, 34, 42, 43, 180, 0, 38]
abbrev dktX5_takes_1 : List UInt8 := dkwX5_takes_1 ++ dktX5_takes_2
def dkwX5_takes_0 : List UInt8 := [43, 180, 0, 9, 42, 180, 0, 9, 184, 0, 59, 43, 180, 0, 15, 42, 180, 0, 15, 184, 0, 59, 43]
abbrev dktX5_takes_0 : List UInt8 := dkwX5_takes_0 ++ dktX5_takes_1
theorem dksX5_takes_0 : cX5_takes.data.toList.drop 0 = dktX5_takes_0 := by decide +kernel
theorem dksX5_takes_1 : cX5_takes.data.toList.drop 23 = dktX5_takes_1 := dk_seg dksX5_takes_0 23 rfl rfl
theorem dksX5_takes_2 : cX5_takes.data.toList.drop 46 = dktX5_takes_2 := dk_seg dksX5_takes_1 23 rfl rfl
theorem dksX5_takes_3 : cX5_takes.data.toList.drop 70 = dktX5_takes_3 := dk_seg dksX5_takes_2 24 rfl rfl
theorem dX5_takes_0 : decode cX5_takes 0 = .ok (.aload_n 1, 1) := dk_43 (dk_at dksX5_takes_0 0 rfl rfl)
theorem dX5_takes_1 : decode cX5_takes 1 = .ok (.getfield 9, 3) := dk_180 0 9 (dk_at dksX5_takes_0 1 rfl rfl)
theorem dX5_takes_4 : decode cX5_takes 4 = .ok (.aload_n 0, 1) := dk_42 (dk_at dksX5_takes_0 4 rfl rfl)
theorem dX5_takes_5 : decode cX5_takes 5 = .ok (.getfield 9, 3) := dk_180 0 9 (dk_at dksX5_takes_0 5 rfl rfl)
theorem dX5_takes_8 : decode cX5_takes 8 = .ok (.invokestatic 59, 3) := dk_184 0 59 (dk_at dksX5_takes_0 8 rfl rfl)
theorem dX5_takes_11 : decode cX5_takes 11 = .ok (.aload_n 1, 1) := dk_43 (dk_at dksX5_takes_0 11 rfl rfl)
theorem dX5_takes_12 : decode cX5_takes 12 = .ok (.getfield 15, 3) := dk_180 0 15 (dk_at dksX5_takes_0 12 rfl rfl)
theorem dX5_takes_15 : decode cX5_takes 15 = .ok (.aload_n 0, 1) := dk_42 (dk_at dksX5_takes_0 15 rfl rfl)
theorem dX5_takes_16 : decode cX5_takes 16 = .ok (.getfield 15, 3) := dk_180 0 15 (dk_at dksX5_takes_0 16 rfl rfl)
theorem dX5_takes_19 : decode cX5_takes 19 = .ok (.invokestatic 59, 3) := dk_184 0 59 (dk_at dksX5_takes_0 19 rfl rfl)
theorem dX5_takes_22 : decode cX5_takes 22 = .ok (.aload_n 1, 1) := dk_43 (dk_at dksX5_takes_0 22 rfl rfl)
theorem dX5_takes_23 : decode cX5_takes 23 = .ok (.getfield 18, 3) := dk_180 0 18 (dk_at dksX5_takes_1 0 rfl rfl)
theorem dX5_takes_26 : decode cX5_takes 26 = .ok (.aload_n 0, 1) := dk_42 (dk_at dksX5_takes_1 3 rfl rfl)
theorem dX5_takes_27 : decode cX5_takes 27 = .ok (.getfield 18, 3) := dk_180 0 18 (dk_at dksX5_takes_1 4 rfl rfl)
theorem dX5_takes_30 : decode cX5_takes 30 = .ok (.invokestatic 59, 3) := dk_184 0 59 (dk_at dksX5_takes_1 7 rfl rfl)
theorem dX5_takes_33 : decode cX5_takes 33 = .ok (.aload_n 0, 1) := dk_42 (dk_at dksX5_takes_1 10 rfl rfl)
theorem dX5_takes_34 : decode cX5_takes 34 = .ok (.aload_n 1, 1) := dk_43 (dk_at dksX5_takes_1 11 rfl rfl)
theorem dX5_takes_35 : decode cX5_takes 35 = .ok (.getfield 34, 3) := dk_180 0 34 (dk_at dksX5_takes_1 12 rfl rfl)
theorem dX5_takes_38 : decode cX5_takes 38 = .ok (.putfield 34, 3) := dk_181 0 34 (dk_at dksX5_takes_1 15 rfl rfl)
theorem dX5_takes_41 : decode cX5_takes 41 = .ok (.aload_n 0, 1) := dk_42 (dk_at dksX5_takes_1 18 rfl rfl)
theorem dX5_takes_42 : decode cX5_takes 42 = .ok (.aload_n 1, 1) := dk_43 (dk_at dksX5_takes_1 19 rfl rfl)
theorem dX5_takes_43 : decode cX5_takes 43 = .ok (.getfield 38, 3) := dk_180 0 38 (dk_at dksX5_takes_1 20 rfl rfl)
theorem dX5_takes_46 : decode cX5_takes 46 = .ok (.putfield 38, 3) := dk_181 0 38 (dk_at dksX5_takes_2 0 rfl rfl)
theorem dX5_takes_49 : decode cX5_takes 49 = .ok (.aload_n 0, 1) := dk_42 (dk_at dksX5_takes_2 3 rfl rfl)
theorem dX5_takes_50 : decode cX5_takes 50 = .ok (.aload_n 1, 1) := dk_43 (dk_at dksX5_takes_2 4 rfl rfl)
theorem dX5_takes_51 : decode cX5_takes 51 = .ok (.getfield 41, 3) := dk_180 0 41 (dk_at dksX5_takes_2 5 rfl rfl)
theorem dX5_takes_54 : decode cX5_takes 54 = .ok (.putfield 41, 3) := dk_181 0 41 (dk_at dksX5_takes_2 8 rfl rfl)
theorem dX5_takes_57 : decode cX5_takes 57 = .ok (.aload_n 0, 1) := dk_42 (dk_at dksX5_takes_2 11 rfl rfl)
theorem dX5_takes_58 : decode cX5_takes 58 = .ok (.aload_n 1, 1) := dk_43 (dk_at dksX5_takes_2 12 rfl rfl)
theorem dX5_takes_59 : decode cX5_takes 59 = .ok (.getfield 44, 3) := dk_180 0 44 (dk_at dksX5_takes_2 13 rfl rfl)
theorem dX5_takes_62 : decode cX5_takes 62 = .ok (.putfield 44, 3) := dk_181 0 44 (dk_at dksX5_takes_2 16 rfl rfl)
theorem dX5_takes_65 : decode cX5_takes 65 = .ok (.aload_n 0, 1) := dk_42 (dk_at dksX5_takes_2 19 rfl rfl)
theorem dX5_takes_66 : decode cX5_takes 66 = .ok (.aload_n 1, 1) := dk_43 (dk_at dksX5_takes_2 20 rfl rfl)
theorem dX5_takes_67 : decode cX5_takes 67 = .ok (.getfield 52, 3) := dk_180 0 52 (dk_at dksX5_takes_2 21 rfl rfl)
theorem dX5_takes_70 : decode cX5_takes 70 = .ok (.putfield 52, 3) := dk_181 0 52 (dk_at dksX5_takes_3 0 rfl rfl)
theorem dX5_takes_73 : decode cX5_takes 73 = .ok (.return_, 1) := dk_177 (dk_at dksX5_takes_3 3 rfl rfl)
abbrev cX5_copies : ByteArray := prog_7_method_3_code
def yX5_copies : MethodName := ⟨RX5, "copies", "([I[I)V"⟩
def dkwX5_copies_0 : List UInt8 := [42, 3, 43, 3, 42, 190, 184, 0, 53, 177]
abbrev dktX5_copies_0 : List UInt8 := dkwX5_copies_0 ++ []
theorem dksX5_copies_0 : cX5_copies.data.toList.drop 0 = dktX5_copies_0 := by decide +kernel
theorem dX5_copies_0 : decode cX5_copies 0 = .ok (.aload_n 0, 1) := dk_42 (dk_at dksX5_copies_0 0 rfl rfl)
theorem dX5_copies_1 : decode cX5_copies 1 = .ok (.iconst 0, 1) := dk_3 (dk_at dksX5_copies_0 1 rfl rfl)
theorem dX5_copies_2 : decode cX5_copies 2 = .ok (.aload_n 1, 1) := dk_43 (dk_at dksX5_copies_0 2 rfl rfl)
theorem dX5_copies_3 : decode cX5_copies 3 = .ok (.iconst 0, 1) := dk_3 (dk_at dksX5_copies_0 3 rfl rfl)
theorem dX5_copies_4 : decode cX5_copies 4 = .ok (.aload_n 0, 1) := dk_42 (dk_at dksX5_copies_0 4 rfl rfl)
theorem dX5_copies_5 : decode cX5_copies 5 = .ok (.arraylength, 1) := dk_190 (dk_at dksX5_copies_0 5 rfl rfl)
theorem dX5_copies_6 : decode cX5_copies 6 = .ok (.invokestatic 53, 3) := dk_184 0 53 (dk_at dksX5_copies_0 6 rfl rfl)
theorem dX5_copies_9 : decode cX5_copies 9 = .ok (.return_, 1) := dk_177 (dk_at dksX5_copies_0 9 rfl rfl)
abbrev cX5_goesBy : ByteArray := prog_7_method_18_code
def yX5_goesBy : MethodName := ⟨RX5, "goesBy", "(LLentSundays$Text;LLentSundays$Fate;)V"⟩
def dkwX5_goesBy_15 : List UInt8 := [177]
abbrev dktX5_goesBy_15 : List UInt8 := dkwX5_goesBy_15 ++ []
def dkwX5_goesBy_14 : List UInt8 := [180, 0, 9, 21, 5, 16, 254, 79, 132, 5, 1, 167, 255, 221, 42, 89, 180, 0, 41, 4, 96, 181, 0, 41]
abbrev dktX5_goesBy_14 : List UInt8 := dkwX5_goesBy_14 ++ dktX5_goesBy_15
def dkwX5_goesBy_13 : List UInt8 := [21, 5, 43, 180, 0, 63, 182, 0, 67, 162, 0, 29, 21, 4, 21, 5, 122, 4, 126, 4, 160, 0, 12, 42]
abbrev dktX5_goesBy_13 : List UInt8 := dkwX5_goesBy_13 ++ dktX5_goesBy_14
def dkwX5_goesBy_12 : List UInt8 := [3, 128, 54, 4, 132, 5, 1, 167, 255, 193, 42, 89, 180, 0, 34, 21, 4, 128, 181, 0, 34, 3, 54, 5]
abbrev dktX5_goesBy_12 : List UInt8 := dkwX5_goesBy_12 ++ dktX5_goesBy_13
def dkwX5_goesBy_11 : List UInt8 := [180, 0, 159, 161, 0, 21, 44, 42, 43, 21, 5, 182, 0, 162, 153, 0, 10, 4, 21, 5, 120, 167, 0, 4]
abbrev dktX5_goesBy_11 : List UInt8 := dkwX5_goesBy_11 ++ dktX5_goesBy_12
def dkwX5_goesBy_10 : List UInt8 := [162, 0, 57, 21, 4, 42, 180, 0, 9, 21, 5, 46, 155, 0, 35, 42, 180, 0, 15, 21, 5, 46, 43]
abbrev dktX5_goesBy_10 : List UInt8 := dkwX5_goesBy_10 ++ dktX5_goesBy_11
def dkwX5_goesBy_9 : List UInt8 := [46, 96, 184, 0, 109, 79, 132, 5, 1, 167, 255, 214, 3, 54, 5, 21, 5, 43, 180, 0, 63, 182, 0, 67]
abbrev dktX5_goesBy_9 : List UInt8 := dkwX5_goesBy_9 ++ dktX5_goesBy_10
def dkwX5_goesBy_8 : List UInt8 := [162, 0, 36, 42, 180, 0, 18, 21, 5, 16, 99, 42, 180, 0, 18, 21, 5, 46, 42, 180, 0, 24, 21, 5]
abbrev dktX5_goesBy_8 : List UInt8 := dkwX5_goesBy_8 ++ dktX5_goesBy_9
def dkwX5_goesBy_7 : List UInt8 := [96, 184, 0, 109, 79, 132, 5, 1, 167, 255, 178, 3, 54, 5, 21, 5, 43, 180, 0, 91, 182, 0, 67]
abbrev dktX5_goesBy_7 : List UInt8 := dkwX5_goesBy_7 ++ dktX5_goesBy_8
def dkwX5_goesBy_6 : List UInt8 := [100, 184, 0, 156, 167, 0, 24, 17, 3, 231, 42, 180, 0, 15, 21, 5, 46, 42, 180, 0, 21, 21, 5, 46]
abbrev dktX5_goesBy_6 : List UInt8 := dkwX5_goesBy_6 ++ dktX5_goesBy_7
def dkwX5_goesBy_5 : List UInt8 := [180, 0, 15, 21, 5, 42, 180, 0, 9, 21, 5, 46, 156, 0, 19, 3, 42, 180, 0, 15, 21, 5, 46, 4]
abbrev dktX5_goesBy_5 : List UInt8 := dkwX5_goesBy_5 ++ dktX5_goesBy_6
def dkwX5_goesBy_4 : List UInt8 := [21, 5, 43, 180, 0, 63, 182, 0, 67, 162, 0, 72, 42, 21, 5, 182, 0, 152, 154, 0, 57, 42]
abbrev dktX5_goesBy_4 : List UInt8 := dkwX5_goesBy_4 ++ dktX5_goesBy_5
def dkwX5_goesBy_3 : List UInt8 := [182, 0, 150, 79, 132, 5, 1, 167, 255, 227, 42, 89, 180, 0, 44, 29, 96, 181, 0, 44, 3, 54, 5]
abbrev dktX5_goesBy_3 : List UInt8 := dkwX5_goesBy_3 ++ dktX5_goesBy_4
def dkwX5_goesBy_2 : List UInt8 := [21, 5, 43, 180, 0, 91, 182, 0, 67, 162, 0, 23, 42, 180, 0, 24, 21, 5, 42, 43, 21, 5]
abbrev dktX5_goesBy_2 : List UInt8 := dkwX5_goesBy_2 ++ dktX5_goesBy_3
def dkwX5_goesBy_1 : List UInt8 := [42, 180, 0, 21, 21, 5, 42, 43, 21, 5, 182, 0, 148, 79, 132, 5, 1, 167, 255, 227, 3, 54, 5]
abbrev dktX5_goesBy_1 : List UInt8 := dkwX5_goesBy_1 ++ dktX5_goesBy_2
def dkwX5_goesBy_0 : List UInt8 := [42, 43, 182, 0, 144, 62, 3, 54, 4, 3, 54, 5, 21, 5, 43, 180, 0, 63, 182, 0, 67, 162, 0, 23]
abbrev dktX5_goesBy_0 : List UInt8 := dkwX5_goesBy_0 ++ dktX5_goesBy_1
theorem dksX5_goesBy_0 : cX5_goesBy.data.toList.drop 0 = dktX5_goesBy_0 := by decide +kernel
theorem dksX5_goesBy_1 : cX5_goesBy.data.toList.drop 24 = dktX5_goesBy_1 := dk_seg dksX5_goesBy_0 24 rfl rfl
theorem dksX5_goesBy_2 : cX5_goesBy.data.toList.drop 47 = dktX5_goesBy_2 := dk_seg dksX5_goesBy_1 23 rfl rfl
theorem dksX5_goesBy_3 : cX5_goesBy.data.toList.drop 69 = dktX5_goesBy_3 := dk_seg dksX5_goesBy_2 22 rfl rfl
theorem dksX5_goesBy_4 : cX5_goesBy.data.toList.drop 92 = dktX5_goesBy_4 := dk_seg dksX5_goesBy_3 23 rfl rfl
theorem dksX5_goesBy_5 : cX5_goesBy.data.toList.drop 114 = dktX5_goesBy_5 := dk_seg dksX5_goesBy_4 22 rfl rfl
theorem dksX5_goesBy_6 : cX5_goesBy.data.toList.drop 138 = dktX5_goesBy_6 := dk_seg dksX5_goesBy_5 24 rfl rfl
theorem dksX5_goesBy_7 : cX5_goesBy.data.toList.drop 162 = dktX5_goesBy_7 := dk_seg dksX5_goesBy_6 24 rfl rfl
theorem dksX5_goesBy_8 : cX5_goesBy.data.toList.drop 185 = dktX5_goesBy_8 := dk_seg dksX5_goesBy_7 23 rfl rfl
theorem dksX5_goesBy_9 : cX5_goesBy.data.toList.drop 209 = dktX5_goesBy_9 := dk_seg dksX5_goesBy_8 24 rfl rfl
theorem dksX5_goesBy_10 : cX5_goesBy.data.toList.drop 233 = dktX5_goesBy_10 := dk_seg dksX5_goesBy_9 24 rfl rfl
theorem dksX5_goesBy_11 : cX5_goesBy.data.toList.drop 256 = dktX5_goesBy_11 := dk_seg dksX5_goesBy_10 23 rfl rfl
theorem dksX5_goesBy_12 : cX5_goesBy.data.toList.drop 280 = dktX5_goesBy_12 := dk_seg dksX5_goesBy_11 24 rfl rfl
theorem dksX5_goesBy_13 : cX5_goesBy.data.toList.drop 304 = dktX5_goesBy_13 := dk_seg dksX5_goesBy_12 24 rfl rfl
theorem dksX5_goesBy_14 : cX5_goesBy.data.toList.drop 328 = dktX5_goesBy_14 := dk_seg dksX5_goesBy_13 24 rfl rfl
theorem dksX5_goesBy_15 : cX5_goesBy.data.toList.drop 352 = dktX5_goesBy_15 := dk_seg dksX5_goesBy_14 24 rfl rfl
theorem dX5_goesBy_0 : decode cX5_goesBy 0 = .ok (.aload_n 0, 1) := dk_42 (dk_at dksX5_goesBy_0 0 rfl rfl)
theorem dX5_goesBy_1 : decode cX5_goesBy 1 = .ok (.aload_n 1, 1) := dk_43 (dk_at dksX5_goesBy_0 1 rfl rfl)
theorem dX5_goesBy_2 : decode cX5_goesBy 2 = .ok (.invokevirtual 144, 3) := dk_182 0 144 (dk_at dksX5_goesBy_0 2 rfl rfl)
theorem dX5_goesBy_5 : decode cX5_goesBy 5 = .ok (.istore_n 3, 1) := dk_62 (dk_at dksX5_goesBy_0 5 rfl rfl)
theorem dX5_goesBy_6 : decode cX5_goesBy 6 = .ok (.iconst 0, 1) := dk_3 (dk_at dksX5_goesBy_0 6 rfl rfl)
theorem dX5_goesBy_7 : decode cX5_goesBy 7 = .ok (.istore 4, 2) := dk_54 4 (dk_at dksX5_goesBy_0 7 rfl rfl)
theorem dX5_goesBy_9 : decode cX5_goesBy 9 = .ok (.iconst 0, 1) := dk_3 (dk_at dksX5_goesBy_0 9 rfl rfl)
theorem dX5_goesBy_10 : decode cX5_goesBy 10 = .ok (.istore 5, 2) := dk_54 5 (dk_at dksX5_goesBy_0 10 rfl rfl)
theorem dX5_goesBy_12 : decode cX5_goesBy 12 = .ok (.iload 5, 2) := dk_21 5 (dk_at dksX5_goesBy_0 12 rfl rfl)
theorem dX5_goesBy_14 : decode cX5_goesBy 14 = .ok (.aload_n 1, 1) := dk_43 (dk_at dksX5_goesBy_0 14 rfl rfl)
theorem dX5_goesBy_15 : decode cX5_goesBy 15 = .ok (.getfield 63, 3) := dk_180 0 63 (dk_at dksX5_goesBy_0 15 rfl rfl)
theorem dX5_goesBy_18 : decode cX5_goesBy 18 = .ok (.invokevirtual 67, 3) := dk_182 0 67 (dk_at dksX5_goesBy_0 18 rfl rfl)
theorem dX5_goesBy_21 : decode cX5_goesBy 21 = .ok (.if_icmp .ge 23, 3) := dk_162 0 23 (dk_at dksX5_goesBy_0 21 rfl rfl)
theorem dX5_goesBy_24 : decode cX5_goesBy 24 = .ok (.aload_n 0, 1) := dk_42 (dk_at dksX5_goesBy_1 0 rfl rfl)
theorem dX5_goesBy_25 : decode cX5_goesBy 25 = .ok (.getfield 21, 3) := dk_180 0 21 (dk_at dksX5_goesBy_1 1 rfl rfl)
theorem dX5_goesBy_28 : decode cX5_goesBy 28 = .ok (.iload 5, 2) := dk_21 5 (dk_at dksX5_goesBy_1 4 rfl rfl)
theorem dX5_goesBy_30 : decode cX5_goesBy 30 = .ok (.aload_n 0, 1) := dk_42 (dk_at dksX5_goesBy_1 6 rfl rfl)
theorem dX5_goesBy_31 : decode cX5_goesBy 31 = .ok (.aload_n 1, 1) := dk_43 (dk_at dksX5_goesBy_1 7 rfl rfl)
theorem dX5_goesBy_32 : decode cX5_goesBy 32 = .ok (.iload 5, 2) := dk_21 5 (dk_at dksX5_goesBy_1 8 rfl rfl)
theorem dX5_goesBy_34 : decode cX5_goesBy 34 = .ok (.invokevirtual 148, 3) := dk_182 0 148 (dk_at dksX5_goesBy_1 10 rfl rfl)
theorem dX5_goesBy_37 : decode cX5_goesBy 37 = .ok (.iastore, 1) := dk_79 (dk_at dksX5_goesBy_1 13 rfl rfl)
theorem dX5_goesBy_38 : decode cX5_goesBy 38 = .ok (.iinc 5 1, 3) := dk_132 5 1 (dk_at dksX5_goesBy_1 14 rfl rfl)
theorem dX5_goesBy_41 : decode cX5_goesBy 41 = .ok (.goto (-29), 3) := dk_167 255 227 (dk_at dksX5_goesBy_1 17 rfl rfl)
theorem dX5_goesBy_44 : decode cX5_goesBy 44 = .ok (.iconst 0, 1) := dk_3 (dk_at dksX5_goesBy_1 20 rfl rfl)
theorem dX5_goesBy_45 : decode cX5_goesBy 45 = .ok (.istore 5, 2) := dk_54 5 (dk_at dksX5_goesBy_1 21 rfl rfl)
theorem dX5_goesBy_47 : decode cX5_goesBy 47 = .ok (.iload 5, 2) := dk_21 5 (dk_at dksX5_goesBy_2 0 rfl rfl)
theorem dX5_goesBy_49 : decode cX5_goesBy 49 = .ok (.aload_n 1, 1) := dk_43 (dk_at dksX5_goesBy_2 2 rfl rfl)
theorem dX5_goesBy_50 : decode cX5_goesBy 50 = .ok (.getfield 91, 3) := dk_180 0 91 (dk_at dksX5_goesBy_2 3 rfl rfl)
theorem dX5_goesBy_53 : decode cX5_goesBy 53 = .ok (.invokevirtual 67, 3) := dk_182 0 67 (dk_at dksX5_goesBy_2 6 rfl rfl)
theorem dX5_goesBy_56 : decode cX5_goesBy 56 = .ok (.if_icmp .ge 23, 3) := dk_162 0 23 (dk_at dksX5_goesBy_2 9 rfl rfl)
theorem dX5_goesBy_59 : decode cX5_goesBy 59 = .ok (.aload_n 0, 1) := dk_42 (dk_at dksX5_goesBy_2 12 rfl rfl)
theorem dX5_goesBy_60 : decode cX5_goesBy 60 = .ok (.getfield 24, 3) := dk_180 0 24 (dk_at dksX5_goesBy_2 13 rfl rfl)
theorem dX5_goesBy_63 : decode cX5_goesBy 63 = .ok (.iload 5, 2) := dk_21 5 (dk_at dksX5_goesBy_2 16 rfl rfl)
theorem dX5_goesBy_65 : decode cX5_goesBy 65 = .ok (.aload_n 0, 1) := dk_42 (dk_at dksX5_goesBy_2 18 rfl rfl)
theorem dX5_goesBy_66 : decode cX5_goesBy 66 = .ok (.aload_n 1, 1) := dk_43 (dk_at dksX5_goesBy_2 19 rfl rfl)
theorem dX5_goesBy_67 : decode cX5_goesBy 67 = .ok (.iload 5, 2) := dk_21 5 (dk_at dksX5_goesBy_2 20 rfl rfl)
theorem dX5_goesBy_69 : decode cX5_goesBy 69 = .ok (.invokevirtual 150, 3) := dk_182 0 150 (dk_at dksX5_goesBy_3 0 rfl rfl)
theorem dX5_goesBy_72 : decode cX5_goesBy 72 = .ok (.iastore, 1) := dk_79 (dk_at dksX5_goesBy_3 3 rfl rfl)
theorem dX5_goesBy_73 : decode cX5_goesBy 73 = .ok (.iinc 5 1, 3) := dk_132 5 1 (dk_at dksX5_goesBy_3 4 rfl rfl)
theorem dX5_goesBy_76 : decode cX5_goesBy 76 = .ok (.goto (-29), 3) := dk_167 255 227 (dk_at dksX5_goesBy_3 7 rfl rfl)
theorem dX5_goesBy_79 : decode cX5_goesBy 79 = .ok (.aload_n 0, 1) := dk_42 (dk_at dksX5_goesBy_3 10 rfl rfl)
theorem dX5_goesBy_80 : decode cX5_goesBy 80 = .ok (.dup, 1) := dk_89 (dk_at dksX5_goesBy_3 11 rfl rfl)
theorem dX5_goesBy_81 : decode cX5_goesBy 81 = .ok (.getfield 44, 3) := dk_180 0 44 (dk_at dksX5_goesBy_3 12 rfl rfl)
theorem dX5_goesBy_84 : decode cX5_goesBy 84 = .ok (.iload_n 3, 1) := dk_29 (dk_at dksX5_goesBy_3 15 rfl rfl)
theorem dX5_goesBy_85 : decode cX5_goesBy 85 = .ok (.iadd, 1) := dk_96 (dk_at dksX5_goesBy_3 16 rfl rfl)
theorem dX5_goesBy_86 : decode cX5_goesBy 86 = .ok (.putfield 44, 3) := dk_181 0 44 (dk_at dksX5_goesBy_3 17 rfl rfl)
theorem dX5_goesBy_89 : decode cX5_goesBy 89 = .ok (.iconst 0, 1) := dk_3 (dk_at dksX5_goesBy_3 20 rfl rfl)
theorem dX5_goesBy_90 : decode cX5_goesBy 90 = .ok (.istore 5, 2) := dk_54 5 (dk_at dksX5_goesBy_3 21 rfl rfl)
theorem dX5_goesBy_92 : decode cX5_goesBy 92 = .ok (.iload 5, 2) := dk_21 5 (dk_at dksX5_goesBy_4 0 rfl rfl)
theorem dX5_goesBy_94 : decode cX5_goesBy 94 = .ok (.aload_n 1, 1) := dk_43 (dk_at dksX5_goesBy_4 2 rfl rfl)
theorem dX5_goesBy_95 : decode cX5_goesBy 95 = .ok (.getfield 63, 3) := dk_180 0 63 (dk_at dksX5_goesBy_4 3 rfl rfl)
theorem dX5_goesBy_98 : decode cX5_goesBy 98 = .ok (.invokevirtual 67, 3) := dk_182 0 67 (dk_at dksX5_goesBy_4 6 rfl rfl)
theorem dX5_goesBy_101 : decode cX5_goesBy 101 = .ok (.if_icmp .ge 72, 3) := dk_162 0 72 (dk_at dksX5_goesBy_4 9 rfl rfl)
theorem dX5_goesBy_104 : decode cX5_goesBy 104 = .ok (.aload_n 0, 1) := dk_42 (dk_at dksX5_goesBy_4 12 rfl rfl)
theorem dX5_goesBy_105 : decode cX5_goesBy 105 = .ok (.iload 5, 2) := dk_21 5 (dk_at dksX5_goesBy_4 13 rfl rfl)
theorem dX5_goesBy_107 : decode cX5_goesBy 107 = .ok (.invokevirtual 152, 3) := dk_182 0 152 (dk_at dksX5_goesBy_4 15 rfl rfl)
theorem dX5_goesBy_110 : decode cX5_goesBy 110 = .ok (.ifCond .ne 57, 3) := dk_154 0 57 (dk_at dksX5_goesBy_4 18 rfl rfl)
theorem dX5_goesBy_113 : decode cX5_goesBy 113 = .ok (.aload_n 0, 1) := dk_42 (dk_at dksX5_goesBy_4 21 rfl rfl)
theorem dX5_goesBy_114 : decode cX5_goesBy 114 = .ok (.getfield 15, 3) := dk_180 0 15 (dk_at dksX5_goesBy_5 0 rfl rfl)
theorem dX5_goesBy_117 : decode cX5_goesBy 117 = .ok (.iload 5, 2) := dk_21 5 (dk_at dksX5_goesBy_5 3 rfl rfl)
theorem dX5_goesBy_119 : decode cX5_goesBy 119 = .ok (.aload_n 0, 1) := dk_42 (dk_at dksX5_goesBy_5 5 rfl rfl)
theorem dX5_goesBy_120 : decode cX5_goesBy 120 = .ok (.getfield 9, 3) := dk_180 0 9 (dk_at dksX5_goesBy_5 6 rfl rfl)
theorem dX5_goesBy_123 : decode cX5_goesBy 123 = .ok (.iload 5, 2) := dk_21 5 (dk_at dksX5_goesBy_5 9 rfl rfl)
theorem dX5_goesBy_125 : decode cX5_goesBy 125 = .ok (.iaload, 1) := dk_46 (dk_at dksX5_goesBy_5 11 rfl rfl)
theorem dX5_goesBy_126 : decode cX5_goesBy 126 = .ok (.ifCond .ge 19, 3) := dk_156 0 19 (dk_at dksX5_goesBy_5 12 rfl rfl)
theorem dX5_goesBy_129 : decode cX5_goesBy 129 = .ok (.iconst 0, 1) := dk_3 (dk_at dksX5_goesBy_5 15 rfl rfl)
theorem dX5_goesBy_130 : decode cX5_goesBy 130 = .ok (.aload_n 0, 1) := dk_42 (dk_at dksX5_goesBy_5 16 rfl rfl)
theorem dX5_goesBy_131 : decode cX5_goesBy 131 = .ok (.getfield 15, 3) := dk_180 0 15 (dk_at dksX5_goesBy_5 17 rfl rfl)
theorem dX5_goesBy_134 : decode cX5_goesBy 134 = .ok (.iload 5, 2) := dk_21 5 (dk_at dksX5_goesBy_5 20 rfl rfl)
theorem dX5_goesBy_136 : decode cX5_goesBy 136 = .ok (.iaload, 1) := dk_46 (dk_at dksX5_goesBy_5 22 rfl rfl)
theorem dX5_goesBy_137 : decode cX5_goesBy 137 = .ok (.iconst 1, 1) := dk_4 (dk_at dksX5_goesBy_5 23 rfl rfl)
theorem dX5_goesBy_138 : decode cX5_goesBy 138 = .ok (.isub, 1) := dk_100 (dk_at dksX5_goesBy_6 0 rfl rfl)
theorem dX5_goesBy_139 : decode cX5_goesBy 139 = .ok (.invokestatic 156, 3) := dk_184 0 156 (dk_at dksX5_goesBy_6 1 rfl rfl)
theorem dX5_goesBy_142 : decode cX5_goesBy 142 = .ok (.goto 24, 3) := dk_167 0 24 (dk_at dksX5_goesBy_6 4 rfl rfl)
theorem dX5_goesBy_145 : decode cX5_goesBy 145 = .ok (.sipush 999, 3) := dk_17 3 231 (dk_at dksX5_goesBy_6 7 rfl rfl)
theorem dX5_goesBy_148 : decode cX5_goesBy 148 = .ok (.aload_n 0, 1) := dk_42 (dk_at dksX5_goesBy_6 10 rfl rfl)
theorem dX5_goesBy_149 : decode cX5_goesBy 149 = .ok (.getfield 15, 3) := dk_180 0 15 (dk_at dksX5_goesBy_6 11 rfl rfl)
theorem dX5_goesBy_152 : decode cX5_goesBy 152 = .ok (.iload 5, 2) := dk_21 5 (dk_at dksX5_goesBy_6 14 rfl rfl)
theorem dX5_goesBy_154 : decode cX5_goesBy 154 = .ok (.iaload, 1) := dk_46 (dk_at dksX5_goesBy_6 16 rfl rfl)
theorem dX5_goesBy_155 : decode cX5_goesBy 155 = .ok (.aload_n 0, 1) := dk_42 (dk_at dksX5_goesBy_6 17 rfl rfl)
theorem dX5_goesBy_156 : decode cX5_goesBy 156 = .ok (.getfield 21, 3) := dk_180 0 21 (dk_at dksX5_goesBy_6 18 rfl rfl)
theorem dX5_goesBy_159 : decode cX5_goesBy 159 = .ok (.iload 5, 2) := dk_21 5 (dk_at dksX5_goesBy_6 21 rfl rfl)
theorem dX5_goesBy_161 : decode cX5_goesBy 161 = .ok (.iaload, 1) := dk_46 (dk_at dksX5_goesBy_6 23 rfl rfl)
theorem dX5_goesBy_162 : decode cX5_goesBy 162 = .ok (.iadd, 1) := dk_96 (dk_at dksX5_goesBy_7 0 rfl rfl)
theorem dX5_goesBy_163 : decode cX5_goesBy 163 = .ok (.invokestatic 109, 3) := dk_184 0 109 (dk_at dksX5_goesBy_7 1 rfl rfl)
theorem dX5_goesBy_166 : decode cX5_goesBy 166 = .ok (.iastore, 1) := dk_79 (dk_at dksX5_goesBy_7 4 rfl rfl)
theorem dX5_goesBy_167 : decode cX5_goesBy 167 = .ok (.iinc 5 1, 3) := dk_132 5 1 (dk_at dksX5_goesBy_7 5 rfl rfl)
theorem dX5_goesBy_170 : decode cX5_goesBy 170 = .ok (.goto (-78), 3) := dk_167 255 178 (dk_at dksX5_goesBy_7 8 rfl rfl)
theorem dX5_goesBy_173 : decode cX5_goesBy 173 = .ok (.iconst 0, 1) := dk_3 (dk_at dksX5_goesBy_7 11 rfl rfl)
theorem dX5_goesBy_174 : decode cX5_goesBy 174 = .ok (.istore 5, 2) := dk_54 5 (dk_at dksX5_goesBy_7 12 rfl rfl)
theorem dX5_goesBy_176 : decode cX5_goesBy 176 = .ok (.iload 5, 2) := dk_21 5 (dk_at dksX5_goesBy_7 14 rfl rfl)
theorem dX5_goesBy_178 : decode cX5_goesBy 178 = .ok (.aload_n 1, 1) := dk_43 (dk_at dksX5_goesBy_7 16 rfl rfl)
theorem dX5_goesBy_179 : decode cX5_goesBy 179 = .ok (.getfield 91, 3) := dk_180 0 91 (dk_at dksX5_goesBy_7 17 rfl rfl)
theorem dX5_goesBy_182 : decode cX5_goesBy 182 = .ok (.invokevirtual 67, 3) := dk_182 0 67 (dk_at dksX5_goesBy_7 20 rfl rfl)
theorem dX5_goesBy_185 : decode cX5_goesBy 185 = .ok (.if_icmp .ge 36, 3) := dk_162 0 36 (dk_at dksX5_goesBy_8 0 rfl rfl)
theorem dX5_goesBy_188 : decode cX5_goesBy 188 = .ok (.aload_n 0, 1) := dk_42 (dk_at dksX5_goesBy_8 3 rfl rfl)
theorem dX5_goesBy_189 : decode cX5_goesBy 189 = .ok (.getfield 18, 3) := dk_180 0 18 (dk_at dksX5_goesBy_8 4 rfl rfl)
theorem dX5_goesBy_192 : decode cX5_goesBy 192 = .ok (.iload 5, 2) := dk_21 5 (dk_at dksX5_goesBy_8 7 rfl rfl)
theorem dX5_goesBy_194 : decode cX5_goesBy 194 = .ok (.bipush 99, 2) := dk_16 99 (dk_at dksX5_goesBy_8 9 rfl rfl)
theorem dX5_goesBy_196 : decode cX5_goesBy 196 = .ok (.aload_n 0, 1) := dk_42 (dk_at dksX5_goesBy_8 11 rfl rfl)
theorem dX5_goesBy_197 : decode cX5_goesBy 197 = .ok (.getfield 18, 3) := dk_180 0 18 (dk_at dksX5_goesBy_8 12 rfl rfl)
theorem dX5_goesBy_200 : decode cX5_goesBy 200 = .ok (.iload 5, 2) := dk_21 5 (dk_at dksX5_goesBy_8 15 rfl rfl)
theorem dX5_goesBy_202 : decode cX5_goesBy 202 = .ok (.iaload, 1) := dk_46 (dk_at dksX5_goesBy_8 17 rfl rfl)
theorem dX5_goesBy_203 : decode cX5_goesBy 203 = .ok (.aload_n 0, 1) := dk_42 (dk_at dksX5_goesBy_8 18 rfl rfl)
theorem dX5_goesBy_204 : decode cX5_goesBy 204 = .ok (.getfield 24, 3) := dk_180 0 24 (dk_at dksX5_goesBy_8 19 rfl rfl)
theorem dX5_goesBy_207 : decode cX5_goesBy 207 = .ok (.iload 5, 2) := dk_21 5 (dk_at dksX5_goesBy_8 22 rfl rfl)
theorem dX5_goesBy_209 : decode cX5_goesBy 209 = .ok (.iaload, 1) := dk_46 (dk_at dksX5_goesBy_9 0 rfl rfl)
theorem dX5_goesBy_210 : decode cX5_goesBy 210 = .ok (.iadd, 1) := dk_96 (dk_at dksX5_goesBy_9 1 rfl rfl)
theorem dX5_goesBy_211 : decode cX5_goesBy 211 = .ok (.invokestatic 109, 3) := dk_184 0 109 (dk_at dksX5_goesBy_9 2 rfl rfl)
theorem dX5_goesBy_214 : decode cX5_goesBy 214 = .ok (.iastore, 1) := dk_79 (dk_at dksX5_goesBy_9 5 rfl rfl)
theorem dX5_goesBy_215 : decode cX5_goesBy 215 = .ok (.iinc 5 1, 3) := dk_132 5 1 (dk_at dksX5_goesBy_9 6 rfl rfl)
theorem dX5_goesBy_218 : decode cX5_goesBy 218 = .ok (.goto (-42), 3) := dk_167 255 214 (dk_at dksX5_goesBy_9 9 rfl rfl)
theorem dX5_goesBy_221 : decode cX5_goesBy 221 = .ok (.iconst 0, 1) := dk_3 (dk_at dksX5_goesBy_9 12 rfl rfl)
theorem dX5_goesBy_222 : decode cX5_goesBy 222 = .ok (.istore 5, 2) := dk_54 5 (dk_at dksX5_goesBy_9 13 rfl rfl)
theorem dX5_goesBy_224 : decode cX5_goesBy 224 = .ok (.iload 5, 2) := dk_21 5 (dk_at dksX5_goesBy_9 15 rfl rfl)
theorem dX5_goesBy_226 : decode cX5_goesBy 226 = .ok (.aload_n 1, 1) := dk_43 (dk_at dksX5_goesBy_9 17 rfl rfl)
theorem dX5_goesBy_227 : decode cX5_goesBy 227 = .ok (.getfield 63, 3) := dk_180 0 63 (dk_at dksX5_goesBy_9 18 rfl rfl)
theorem dX5_goesBy_230 : decode cX5_goesBy 230 = .ok (.invokevirtual 67, 3) := dk_182 0 67 (dk_at dksX5_goesBy_9 21 rfl rfl)
theorem dX5_goesBy_233 : decode cX5_goesBy 233 = .ok (.if_icmp .ge 57, 3) := dk_162 0 57 (dk_at dksX5_goesBy_10 0 rfl rfl)
theorem dX5_goesBy_236 : decode cX5_goesBy 236 = .ok (.iload 4, 2) := dk_21 4 (dk_at dksX5_goesBy_10 3 rfl rfl)
theorem dX5_goesBy_238 : decode cX5_goesBy 238 = .ok (.aload_n 0, 1) := dk_42 (dk_at dksX5_goesBy_10 5 rfl rfl)
theorem dX5_goesBy_239 : decode cX5_goesBy 239 = .ok (.getfield 9, 3) := dk_180 0 9 (dk_at dksX5_goesBy_10 6 rfl rfl)
theorem dX5_goesBy_242 : decode cX5_goesBy 242 = .ok (.iload 5, 2) := dk_21 5 (dk_at dksX5_goesBy_10 9 rfl rfl)
theorem dX5_goesBy_244 : decode cX5_goesBy 244 = .ok (.iaload, 1) := dk_46 (dk_at dksX5_goesBy_10 11 rfl rfl)
theorem dX5_goesBy_245 : decode cX5_goesBy 245 = .ok (.ifCond .lt 35, 3) := dk_155 0 35 (dk_at dksX5_goesBy_10 12 rfl rfl)
theorem dX5_goesBy_248 : decode cX5_goesBy 248 = .ok (.aload_n 0, 1) := dk_42 (dk_at dksX5_goesBy_10 15 rfl rfl)
theorem dX5_goesBy_249 : decode cX5_goesBy 249 = .ok (.getfield 15, 3) := dk_180 0 15 (dk_at dksX5_goesBy_10 16 rfl rfl)
theorem dX5_goesBy_252 : decode cX5_goesBy 252 = .ok (.iload 5, 2) := dk_21 5 (dk_at dksX5_goesBy_10 19 rfl rfl)
theorem dX5_goesBy_254 : decode cX5_goesBy 254 = .ok (.iaload, 1) := dk_46 (dk_at dksX5_goesBy_10 21 rfl rfl)
theorem dX5_goesBy_255 : decode cX5_goesBy 255 = .ok (.aload_n 1, 1) := dk_43 (dk_at dksX5_goesBy_10 22 rfl rfl)
theorem dX5_goesBy_256 : decode cX5_goesBy 256 = .ok (.getfield 159, 3) := dk_180 0 159 (dk_at dksX5_goesBy_11 0 rfl rfl)
theorem dX5_goesBy_259 : decode cX5_goesBy 259 = .ok (.if_icmp .lt 21, 3) := dk_161 0 21 (dk_at dksX5_goesBy_11 3 rfl rfl)
theorem dX5_goesBy_262 : decode cX5_goesBy 262 = .ok (.aload_n 2, 1) := dk_44 (dk_at dksX5_goesBy_11 6 rfl rfl)
theorem dX5_goesBy_263 : decode cX5_goesBy 263 = .ok (.aload_n 0, 1) := dk_42 (dk_at dksX5_goesBy_11 7 rfl rfl)
theorem dX5_goesBy_264 : decode cX5_goesBy 264 = .ok (.aload_n 1, 1) := dk_43 (dk_at dksX5_goesBy_11 8 rfl rfl)
theorem dX5_goesBy_265 : decode cX5_goesBy 265 = .ok (.iload 5, 2) := dk_21 5 (dk_at dksX5_goesBy_11 9 rfl rfl)
theorem dX5_goesBy_267 : decode cX5_goesBy 267 = .ok (.invokevirtual 162, 3) := dk_182 0 162 (dk_at dksX5_goesBy_11 11 rfl rfl)
theorem dX5_goesBy_270 : decode cX5_goesBy 270 = .ok (.ifCond .eq 10, 3) := dk_153 0 10 (dk_at dksX5_goesBy_11 14 rfl rfl)
theorem dX5_goesBy_273 : decode cX5_goesBy 273 = .ok (.iconst 1, 1) := dk_4 (dk_at dksX5_goesBy_11 17 rfl rfl)
theorem dX5_goesBy_274 : decode cX5_goesBy 274 = .ok (.iload 5, 2) := dk_21 5 (dk_at dksX5_goesBy_11 18 rfl rfl)
theorem dX5_goesBy_276 : decode cX5_goesBy 276 = .ok (.ishl, 1) := dk_120 (dk_at dksX5_goesBy_11 20 rfl rfl)
theorem dX5_goesBy_277 : decode cX5_goesBy 277 = .ok (.goto 4, 3) := dk_167 0 4 (dk_at dksX5_goesBy_11 21 rfl rfl)
theorem dX5_goesBy_280 : decode cX5_goesBy 280 = .ok (.iconst 0, 1) := dk_3 (dk_at dksX5_goesBy_12 0 rfl rfl)
theorem dX5_goesBy_281 : decode cX5_goesBy 281 = .ok (.ior, 1) := dk_128 (dk_at dksX5_goesBy_12 1 rfl rfl)
theorem dX5_goesBy_282 : decode cX5_goesBy 282 = .ok (.istore 4, 2) := dk_54 4 (dk_at dksX5_goesBy_12 2 rfl rfl)
theorem dX5_goesBy_284 : decode cX5_goesBy 284 = .ok (.iinc 5 1, 3) := dk_132 5 1 (dk_at dksX5_goesBy_12 4 rfl rfl)
theorem dX5_goesBy_287 : decode cX5_goesBy 287 = .ok (.goto (-63), 3) := dk_167 255 193 (dk_at dksX5_goesBy_12 7 rfl rfl)
theorem dX5_goesBy_290 : decode cX5_goesBy 290 = .ok (.aload_n 0, 1) := dk_42 (dk_at dksX5_goesBy_12 10 rfl rfl)
theorem dX5_goesBy_291 : decode cX5_goesBy 291 = .ok (.dup, 1) := dk_89 (dk_at dksX5_goesBy_12 11 rfl rfl)
theorem dX5_goesBy_292 : decode cX5_goesBy 292 = .ok (.getfield 34, 3) := dk_180 0 34 (dk_at dksX5_goesBy_12 12 rfl rfl)
theorem dX5_goesBy_295 : decode cX5_goesBy 295 = .ok (.iload 4, 2) := dk_21 4 (dk_at dksX5_goesBy_12 15 rfl rfl)
theorem dX5_goesBy_297 : decode cX5_goesBy 297 = .ok (.ior, 1) := dk_128 (dk_at dksX5_goesBy_12 17 rfl rfl)
theorem dX5_goesBy_298 : decode cX5_goesBy 298 = .ok (.putfield 34, 3) := dk_181 0 34 (dk_at dksX5_goesBy_12 18 rfl rfl)
theorem dX5_goesBy_301 : decode cX5_goesBy 301 = .ok (.iconst 0, 1) := dk_3 (dk_at dksX5_goesBy_12 21 rfl rfl)
theorem dX5_goesBy_302 : decode cX5_goesBy 302 = .ok (.istore 5, 2) := dk_54 5 (dk_at dksX5_goesBy_12 22 rfl rfl)
theorem dX5_goesBy_304 : decode cX5_goesBy 304 = .ok (.iload 5, 2) := dk_21 5 (dk_at dksX5_goesBy_13 0 rfl rfl)
theorem dX5_goesBy_306 : decode cX5_goesBy 306 = .ok (.aload_n 1, 1) := dk_43 (dk_at dksX5_goesBy_13 2 rfl rfl)
theorem dX5_goesBy_307 : decode cX5_goesBy 307 = .ok (.getfield 63, 3) := dk_180 0 63 (dk_at dksX5_goesBy_13 3 rfl rfl)
theorem dX5_goesBy_310 : decode cX5_goesBy 310 = .ok (.invokevirtual 67, 3) := dk_182 0 67 (dk_at dksX5_goesBy_13 6 rfl rfl)
theorem dX5_goesBy_313 : decode cX5_goesBy 313 = .ok (.if_icmp .ge 29, 3) := dk_162 0 29 (dk_at dksX5_goesBy_13 9 rfl rfl)
theorem dX5_goesBy_316 : decode cX5_goesBy 316 = .ok (.iload 4, 2) := dk_21 4 (dk_at dksX5_goesBy_13 12 rfl rfl)
theorem dX5_goesBy_318 : decode cX5_goesBy 318 = .ok (.iload 5, 2) := dk_21 5 (dk_at dksX5_goesBy_13 14 rfl rfl)
theorem dX5_goesBy_320 : decode cX5_goesBy 320 = .ok (.ishr, 1) := dk_122 (dk_at dksX5_goesBy_13 16 rfl rfl)
theorem dX5_goesBy_321 : decode cX5_goesBy 321 = .ok (.iconst 1, 1) := dk_4 (dk_at dksX5_goesBy_13 17 rfl rfl)
theorem dX5_goesBy_322 : decode cX5_goesBy 322 = .ok (.iand, 1) := dk_126 (dk_at dksX5_goesBy_13 18 rfl rfl)
theorem dX5_goesBy_323 : decode cX5_goesBy 323 = .ok (.iconst 1, 1) := dk_4 (dk_at dksX5_goesBy_13 19 rfl rfl)
theorem dX5_goesBy_324 : decode cX5_goesBy 324 = .ok (.if_icmp .ne 12, 3) := dk_160 0 12 (dk_at dksX5_goesBy_13 20 rfl rfl)
theorem dX5_goesBy_327 : decode cX5_goesBy 327 = .ok (.aload_n 0, 1) := dk_42 (dk_at dksX5_goesBy_13 23 rfl rfl)
theorem dX5_goesBy_328 : decode cX5_goesBy 328 = .ok (.getfield 9, 3) := dk_180 0 9 (dk_at dksX5_goesBy_14 0 rfl rfl)
theorem dX5_goesBy_331 : decode cX5_goesBy 331 = .ok (.iload 5, 2) := dk_21 5 (dk_at dksX5_goesBy_14 3 rfl rfl)
theorem dX5_goesBy_333 : decode cX5_goesBy 333 = .ok (.bipush (-2), 2) := dk_16 254 (dk_at dksX5_goesBy_14 5 rfl rfl)
theorem dX5_goesBy_335 : decode cX5_goesBy 335 = .ok (.iastore, 1) := dk_79 (dk_at dksX5_goesBy_14 7 rfl rfl)
theorem dX5_goesBy_336 : decode cX5_goesBy 336 = .ok (.iinc 5 1, 3) := dk_132 5 1 (dk_at dksX5_goesBy_14 8 rfl rfl)
theorem dX5_goesBy_339 : decode cX5_goesBy 339 = .ok (.goto (-35), 3) := dk_167 255 221 (dk_at dksX5_goesBy_14 11 rfl rfl)
theorem dX5_goesBy_342 : decode cX5_goesBy 342 = .ok (.aload_n 0, 1) := dk_42 (dk_at dksX5_goesBy_14 14 rfl rfl)
theorem dX5_goesBy_343 : decode cX5_goesBy 343 = .ok (.dup, 1) := dk_89 (dk_at dksX5_goesBy_14 15 rfl rfl)
theorem dX5_goesBy_344 : decode cX5_goesBy 344 = .ok (.getfield 41, 3) := dk_180 0 41 (dk_at dksX5_goesBy_14 16 rfl rfl)
theorem dX5_goesBy_347 : decode cX5_goesBy 347 = .ok (.iconst 1, 1) := dk_4 (dk_at dksX5_goesBy_14 19 rfl rfl)
theorem dX5_goesBy_348 : decode cX5_goesBy 348 = .ok (.iadd, 1) := dk_96 (dk_at dksX5_goesBy_14 20 rfl rfl)
theorem dX5_goesBy_349 : decode cX5_goesBy 349 = .ok (.putfield 41, 3) := dk_181 0 41 (dk_at dksX5_goesBy_14 21 rfl rfl)
theorem dX5_goesBy_352 : decode cX5_goesBy 352 = .ok (.return_, 1) := dk_177 (dk_at dksX5_goesBy_15 0 rfl rfl)
abbrev cX5_due : ByteArray := prog_7_method_17_code
def yX5_due : MethodName := ⟨RX5, "due", "(LLentSundays$Text;)I"⟩
def dkwX5_due_1 : List UInt8 := [132, 3, 1, 167, 255, 233, 28, 172]
abbrev dktX5_due_1 : List UInt8 := dkwX5_due_1 ++ []
def dkwX5_due_0 : List UInt8 := [3, 61, 3, 62, 29, 43, 180, 0, 63, 182, 0, 67, 162, 0, 18, 28, 42, 43, 29, 182, 0, 141, 96, 61]
abbrev dktX5_due_0 : List UInt8 := dkwX5_due_0 ++ dktX5_due_1
theorem dksX5_due_0 : cX5_due.data.toList.drop 0 = dktX5_due_0 := by decide +kernel
theorem dksX5_due_1 : cX5_due.data.toList.drop 24 = dktX5_due_1 := dk_seg dksX5_due_0 24 rfl rfl
theorem dX5_due_0 : decode cX5_due 0 = .ok (.iconst 0, 1) := dk_3 (dk_at dksX5_due_0 0 rfl rfl)
theorem dX5_due_1 : decode cX5_due 1 = .ok (.istore_n 2, 1) := dk_61 (dk_at dksX5_due_0 1 rfl rfl)
theorem dX5_due_2 : decode cX5_due 2 = .ok (.iconst 0, 1) := dk_3 (dk_at dksX5_due_0 2 rfl rfl)
theorem dX5_due_3 : decode cX5_due 3 = .ok (.istore_n 3, 1) := dk_62 (dk_at dksX5_due_0 3 rfl rfl)
theorem dX5_due_4 : decode cX5_due 4 = .ok (.iload_n 3, 1) := dk_29 (dk_at dksX5_due_0 4 rfl rfl)
theorem dX5_due_5 : decode cX5_due 5 = .ok (.aload_n 1, 1) := dk_43 (dk_at dksX5_due_0 5 rfl rfl)
theorem dX5_due_6 : decode cX5_due 6 = .ok (.getfield 63, 3) := dk_180 0 63 (dk_at dksX5_due_0 6 rfl rfl)
theorem dX5_due_9 : decode cX5_due 9 = .ok (.invokevirtual 67, 3) := dk_182 0 67 (dk_at dksX5_due_0 9 rfl rfl)
theorem dX5_due_12 : decode cX5_due 12 = .ok (.if_icmp .ge 18, 3) := dk_162 0 18 (dk_at dksX5_due_0 12 rfl rfl)
theorem dX5_due_15 : decode cX5_due 15 = .ok (.iload_n 2, 1) := dk_28 (dk_at dksX5_due_0 15 rfl rfl)
theorem dX5_due_16 : decode cX5_due 16 = .ok (.aload_n 0, 1) := dk_42 (dk_at dksX5_due_0 16 rfl rfl)
theorem dX5_due_17 : decode cX5_due 17 = .ok (.aload_n 1, 1) := dk_43 (dk_at dksX5_due_0 17 rfl rfl)
theorem dX5_due_18 : decode cX5_due 18 = .ok (.iload_n 3, 1) := dk_29 (dk_at dksX5_due_0 18 rfl rfl)
theorem dX5_due_19 : decode cX5_due 19 = .ok (.invokevirtual 141, 3) := dk_182 0 141 (dk_at dksX5_due_0 19 rfl rfl)
theorem dX5_due_22 : decode cX5_due 22 = .ok (.iadd, 1) := dk_96 (dk_at dksX5_due_0 22 rfl rfl)
theorem dX5_due_23 : decode cX5_due 23 = .ok (.istore_n 2, 1) := dk_61 (dk_at dksX5_due_0 23 rfl rfl)
theorem dX5_due_24 : decode cX5_due 24 = .ok (.iinc 3 1, 3) := dk_132 3 1 (dk_at dksX5_due_1 0 rfl rfl)
theorem dX5_due_27 : decode cX5_due 27 = .ok (.goto (-23), 3) := dk_167 255 233 (dk_at dksX5_due_1 3 rfl rfl)
theorem dX5_due_30 : decode cX5_due 30 = .ok (.iload_n 2, 1) := dk_28 (dk_at dksX5_due_1 6 rfl rfl)
theorem dX5_due_31 : decode cX5_due 31 = .ok (.ireturn, 1) := dk_172 (dk_at dksX5_due_1 7 rfl rfl)
theorem q139 : (Jvm.Cond.initialized "LentSundays$House") ∈ lw_all := lw_g (lw_at lw_m1 12 rfl) rfl
theorem q370 : (Jvm.Cond.fieldLink "LentSundays$House" (91 : Nat) "LentSundays$Text" "sundays" "Ljava/util/ArrayList;") ∈ lw_all := lw_g (lw_at lw_m2 3 rfl) rfl
theorem q374 : (Jvm.Cond.fieldLink "LentSundays$House" (63 : Nat) "LentSundays$Text" "guests" "Ljava/util/ArrayList;") ∈ lw_all := lw_g (lw_at lw_m2 7 rfl) rfl
theorem q378 : (Jvm.Cond.fieldLink "LentSundays$House" (99 : Nat) "LentSundays$Text" "laws" "[LLentSundays$Law;") ∈ lw_all := lw_g (lw_at lw_m2 11 rfl) rfl
theorem q384 : (Jvm.Cond.fieldLink "LentSundays$House" (159 : Nat) "LentSundays$Text" "death" "I") ∈ lw_all := lw_g (lw_at lw_m2 17 rfl) rfl
theorem q386 : (Jvm.Cond.fieldLink "LentSundays$House" (47 : Nat) "LentSundays$Text" "seed" "I") ∈ lw_all := lw_g (lw_at lw_m2 19 rfl) rfl
theorem q403 : (Jvm.Cond.instantiable "LentSundays$House" (11 : Nat)) ∈ lw_all := lw_g (lw_at lw_m2 36 rfl) rfl
theorem q405 : (Jvm.Cond.instanceMethod ({ cls := "LentSundays$House", name := "<init>", desc := "()V" } : Jvm.MethodName)) ∈ lw_all := lw_g (lw_at lw_m2 38 rfl) rfl
theorem q406 : (Jvm.Cond.code ({ cls := "LentSundays$House", name := "<init>", desc := "()V" } : Jvm.MethodName) prog_7_method_1_code (1 : Nat) (Option.none : Option Jvm.ClassFile.FieldType)) ∈ lw_all := lw_g (lw_at lw_m2 39 rfl) rfl
theorem q407 : (Jvm.Cond.methodLink "LentSundays$House" (3 : Nat) ({ cls := "java/lang/Object", name := "<init>", desc := "()V" } : Jvm.MethodName)) ∈ lw_all := lw_g (lw_at lw_m2 40 rfl) rfl
theorem q408 : (Jvm.Cond.classLink "LentSundays$House" (27 : Nat) "LentSundays$Asked") ∈ lw_all := lw_g (lw_at lw_m2 41 rfl) rfl
theorem q410 : (Jvm.Cond.methodLinkNest "LentSundays$House" (29 : Nat) ({ cls := "LentSundays$Asked", name := "<init>", desc := "()V" } : Jvm.MethodName) "LentSundays") ∈ lw_tbl := lw_at lw_m2 43 rfl
theorem q416 : (Jvm.Cond.fieldLink "LentSundays$House" (82 : Nat) "LentSundays$Asked" "v" "[I") ∈ lw_all := lw_g (lw_at lw_m2 49 rfl) rfl
theorem q425 : (Jvm.Cond.fieldLink "LentSundays$House" (9 : Nat) "LentSundays$House" "in" "[I") ∈ lw_all := lw_g (lw_at lw_m2 58 rfl) rfl
theorem q427 : (Jvm.Cond.fieldLink "LentSundays$House" (15 : Nat) "LentSundays$House" "rested" "[I") ∈ lw_all := lw_g (lw_at lw_m2 60 rfl) rfl
theorem q430 : (Jvm.Cond.fieldLink "LentSundays$House" (18 : Nat) "LentSundays$House" "worn" "[I") ∈ lw_all := lw_g (lw_at lw_m2 63 rfl) rfl
theorem q432 : (Jvm.Cond.fieldLink "LentSundays$House" (34 : Nat) "LentSundays$House" "dead" "I") ∈ lw_all := lw_g (lw_at lw_m2 65 rfl) rfl
theorem q434 : (Jvm.Cond.fieldLink "LentSundays$House" (38 : Nat) "LentSundays$House" "sold" "I") ∈ lw_all := lw_g (lw_at lw_m2 67 rfl) rfl
theorem q437 : (Jvm.Cond.fieldLink "LentSundays$House" (41 : Nat) "LentSundays$House" "week" "I") ∈ lw_all := lw_g (lw_at lw_m2 70 rfl) rfl
theorem q439 : (Jvm.Cond.fieldLink "LentSundays$House" (44 : Nat) "LentSundays$House" "money" "I") ∈ lw_all := lw_g (lw_at lw_m2 72 rfl) rfl
theorem q442 : (Jvm.Cond.fieldLink "LentSundays$House" (52 : Nat) "LentSundays$House" "seed" "I") ∈ lw_all := lw_g (lw_at lw_m2 75 rfl) rfl
theorem q444 : (Jvm.Cond.fieldLink "LentSundays$House" (21 : Nat) "LentSundays$House" "rests" "[I") ∈ lw_all := lw_g (lw_at lw_m2 77 rfl) rfl
theorem q445 : (Jvm.Cond.fieldLink "LentSundays$House" (24 : Nat) "LentSundays$House" "wears" "[I") ∈ lw_all := lw_g (lw_at lw_m2 78 rfl) rfl
theorem q446 : (Jvm.Cond.fieldLink "LentSundays$House" (30 : Nat) "LentSundays$House" "asked" "LLentSundays$Asked;") ∈ lw_all := lw_g (lw_at lw_m2 79 rfl) rfl
theorem q447 : (Jvm.Cond.laysFinal "LentSundays$House" "LentSundays$House" "in" "[I") ∈ lw_all := lw_g (lw_at lw_m2 80 rfl) rfl
theorem q448 : (Jvm.Cond.soleField "LentSundays$House" "in") ∈ lw_all := lw_g (lw_at lw_m2 81 rfl) rfl
theorem q449 : (Jvm.Cond.laysFinal "LentSundays$House" "LentSundays$House" "rested" "[I") ∈ lw_all := lw_g (lw_at lw_m2 82 rfl) rfl
theorem q450 : (Jvm.Cond.soleField "LentSundays$House" "rested") ∈ lw_all := lw_g (lw_at lw_m2 83 rfl) rfl
theorem q451 : (Jvm.Cond.laysFinal "LentSundays$House" "LentSundays$House" "worn" "[I") ∈ lw_all := lw_g (lw_at lw_m2 84 rfl) rfl
theorem q452 : (Jvm.Cond.soleField "LentSundays$House" "worn") ∈ lw_all := lw_g (lw_at lw_m2 85 rfl) rfl
theorem q453 : (Jvm.Cond.lays "LentSundays$House" "LentSundays$House" "dead" "I") ∈ lw_all := lw_g (lw_at lw_m2 86 rfl) rfl
theorem q454 : (Jvm.Cond.soleField "LentSundays$House" "dead") ∈ lw_all := lw_g (lw_at lw_m2 87 rfl) rfl
theorem q455 : (Jvm.Cond.lays "LentSundays$House" "LentSundays$House" "sold" "I") ∈ lw_all := lw_g (lw_at lw_m2 88 rfl) rfl
theorem q456 : (Jvm.Cond.soleField "LentSundays$House" "sold") ∈ lw_all := lw_g (lw_at lw_m2 89 rfl) rfl
theorem q457 : (Jvm.Cond.lays "LentSundays$House" "LentSundays$House" "week" "I") ∈ lw_all := lw_g (lw_at lw_m2 90 rfl) rfl
theorem q458 : (Jvm.Cond.soleField "LentSundays$House" "week") ∈ lw_all := lw_g (lw_at lw_m2 91 rfl) rfl
theorem q459 : (Jvm.Cond.lays "LentSundays$House" "LentSundays$House" "money" "I") ∈ lw_all := lw_g (lw_at lw_m2 92 rfl) rfl
theorem q460 : (Jvm.Cond.soleField "LentSundays$House" "money") ∈ lw_all := lw_g (lw_at lw_m2 93 rfl) rfl
theorem q461 : (Jvm.Cond.lays "LentSundays$House" "LentSundays$House" "seed" "I") ∈ lw_all := lw_g (lw_at lw_m2 94 rfl) rfl
theorem q462 : (Jvm.Cond.soleField "LentSundays$House" "seed") ∈ lw_all := lw_g (lw_at lw_m2 95 rfl) rfl
theorem q463 : (Jvm.Cond.laysFinal "LentSundays$House" "LentSundays$House" "rests" "[I") ∈ lw_all := lw_g (lw_at lw_m2 96 rfl) rfl
theorem q464 : (Jvm.Cond.soleField "LentSundays$House" "rests") ∈ lw_all := lw_g (lw_at lw_m2 97 rfl) rfl
theorem q465 : (Jvm.Cond.laysFinal "LentSundays$House" "LentSundays$House" "wears" "[I") ∈ lw_all := lw_g (lw_at lw_m2 98 rfl) rfl
theorem q466 : (Jvm.Cond.soleField "LentSundays$House" "wears") ∈ lw_all := lw_g (lw_at lw_m2 99 rfl) rfl
theorem q467 : (Jvm.Cond.laysFinal "LentSundays$House" "LentSundays$House" "asked" "LLentSundays$Asked;") ∈ lw_all := lw_g (lw_at lw_m2 100 rfl) rfl
theorem q468 : (Jvm.Cond.soleField "LentSundays$House" "asked") ∈ lw_all := lw_g (lw_at lw_m2 101 rfl) rfl
theorem q469 : (Jvm.Cond.superclass "LentSundays$House" "java/lang/Object") ∈ lw_all := lw_g (lw_at lw_m2 102 rfl) rfl
theorem q491 : (Jvm.Cond.instanceMethod ({ cls := "LentSundays$House", name := "begins", desc := "(LLentSundays$Text;)V" } : Jvm.MethodName)) ∈ lw_all := lw_g (lw_at lw_m2 124 rfl) rfl
theorem q492 : (Jvm.Cond.selects "LentSundays$House" ({ cls := "LentSundays$House", name := "begins", desc := "(LLentSundays$Text;)V" } : Jvm.MethodName) ({ cls := "LentSundays$House", name := "begins", desc := "(LLentSundays$Text;)V" } : Jvm.MethodName)) ∈ lw_all := lw_g (lw_at lw_m2 125 rfl) rfl
theorem q493 : (Jvm.Cond.code ({ cls := "LentSundays$House", name := "begins", desc := "(LLentSundays$Text;)V" } : Jvm.MethodName) prog_7_method_2_code (3 : Nat) (Option.none : Option Jvm.ClassFile.FieldType)) ∈ lw_all := lw_g (lw_at lw_m2 126 rfl) rfl
theorem q1008 : (Jvm.Cond.fieldLink "LentSundays$House" (96 : Nat) "LentSundays$Sunday" "worth" "I") ∈ lw_all := lw_g (lw_at lw_m4 161 rfl) rfl
theorem q1052 : (Jvm.Cond.selects "LentSundays$House" ({ cls := "java/lang/Object", name := "getClass", desc := "()Ljava/lang/Class;" } : Jvm.MethodName) ({ cls := "java/lang/Object", name := "getClass", desc := "()Ljava/lang/Class;" } : Jvm.MethodName)) ∈ lw_all := lw_g (lw_at lw_m4 205 rfl) rfl
theorem q1083 : (Jvm.Cond.fieldLink "LentSundays$House" (88 : Nat) "LentSundays$Guest" "hour" "I") ∈ lw_all := lw_g (lw_at lw_m4 236 rfl) rfl
theorem q1088 : (Jvm.Cond.fieldLink "LentSundays$House" (79 : Nat) "LentSundays$Guest" "hours" "I") ∈ lw_all := lw_g (lw_at lw_m5 1 rfl) rfl
theorem q1091 : (Jvm.Cond.fieldLink "LentSundays$House" (85 : Nat) "LentSundays$Guest" "fee" "I") ∈ lw_all := lw_g (lw_at lw_m5 4 rfl) rfl
theorem q1139 : (Jvm.Cond.instanceMethod ({ cls := "LentSundays$House", name := "isSold", desc := "(I)Z" } : Jvm.MethodName)) ∈ lw_all := lw_g (lw_at lw_m5 52 rfl) rfl
theorem q1140 : (Jvm.Cond.selects "LentSundays$House" ({ cls := "LentSundays$House", name := "isSold", desc := "(I)Z" } : Jvm.MethodName) ({ cls := "LentSundays$House", name := "isSold", desc := "(I)Z" } : Jvm.MethodName)) ∈ lw_all := lw_g (lw_at lw_m5 53 rfl) rfl
theorem q1141 : (Jvm.Cond.code ({ cls := "LentSundays$House", name := "isSold", desc := "(I)Z" } : Jvm.MethodName) prog_7_method_6_code (2 : Nat) (Option.some Jvm.ClassFile.FieldType.boolean)) ∈ lw_all := lw_g (lw_at lw_m5 54 rfl) rfl
theorem q1143 : (Jvm.Cond.instanceMethod ({ cls := "LentSundays$House", name := "guests", desc := "(I)I" } : Jvm.MethodName)) ∈ lw_all := lw_g (lw_at lw_m5 56 rfl) rfl
theorem q1144 : (Jvm.Cond.selects "LentSundays$House" ({ cls := "LentSundays$House", name := "guests", desc := "(I)I" } : Jvm.MethodName) ({ cls := "LentSundays$House", name := "guests", desc := "(I)I" } : Jvm.MethodName)) ∈ lw_all := lw_g (lw_at lw_m5 57 rfl) rfl
theorem q1145 : (Jvm.Cond.code ({ cls := "LentSundays$House", name := "guests", desc := "(I)I" } : Jvm.MethodName) prog_7_method_7_code (4 : Nat) (Option.some Jvm.ClassFile.FieldType.int)) ∈ lw_all := lw_g (lw_at lw_m5 58 rfl) rfl
theorem q1147 : (Jvm.Cond.instanceMethod ({ cls := "LentSundays$House", name := "wears", desc := "(LLentSundays$Text;I)I" } : Jvm.MethodName)) ∈ lw_all := lw_g (lw_at lw_m5 60 rfl) rfl
theorem q1148 : (Jvm.Cond.selects "LentSundays$House" ({ cls := "LentSundays$House", name := "wears", desc := "(LLentSundays$Text;I)I" } : Jvm.MethodName) ({ cls := "LentSundays$House", name := "wears", desc := "(LLentSundays$Text;I)I" } : Jvm.MethodName)) ∈ lw_all := lw_g (lw_at lw_m5 61 rfl) rfl
theorem q1149 : (Jvm.Cond.code ({ cls := "LentSundays$House", name := "wears", desc := "(LLentSundays$Text;I)I" } : Jvm.MethodName) prog_7_method_15_code (3 : Nat) (Option.some Jvm.ClassFile.FieldType.int)) ∈ lw_all := lw_g (lw_at lw_m5 62 rfl) rfl
theorem q1150 : (Jvm.Cond.methodLink "LentSundays$House" (115 : Nat) ({ cls := "LentSundays$House", name := "guests", desc := "(I)I" } : Jvm.MethodName)) ∈ lw_all := lw_g (lw_at lw_m5 63 rfl) rfl
theorem q1151 : (Jvm.Cond.methodLink "LentSundays$House" (137 : Nat) ({ cls := "LentSundays$House", name := "toldOf", desc := "(LLentSundays$Text;II)I" } : Jvm.MethodName)) ∈ lw_all := lw_g (lw_at lw_m5 64 rfl) rfl
theorem q1152 : (Jvm.Cond.privateMethod ({ cls := "LentSundays$House", name := "toldOf", desc := "(LLentSundays$Text;II)I" } : Jvm.MethodName)) ∈ lw_tbl := lw_at lw_m5 65 rfl
theorem q1153 : (Jvm.Cond.instanceMethod ({ cls := "LentSundays$House", name := "toldOf", desc := "(LLentSundays$Text;II)I" } : Jvm.MethodName)) ∈ lw_all := lw_g (lw_at lw_m5 66 rfl) rfl
theorem q1154 : (Jvm.Cond.code ({ cls := "LentSundays$House", name := "toldOf", desc := "(LLentSundays$Text;II)I" } : Jvm.MethodName) prog_7_method_14_code (4 : Nat) (Option.some Jvm.ClassFile.FieldType.int)) ∈ lw_all := lw_g (lw_at lw_m5 67 rfl) rfl
theorem q1155 : (Jvm.Cond.methodLink "LentSundays$House" (134 : Nat) ({ cls := "LentSundays$House", name := "hours", desc := "(LLentSundays$Text;I)I" } : Jvm.MethodName)) ∈ lw_all := lw_g (lw_at lw_m5 68 rfl) rfl
theorem q1156 : (Jvm.Cond.instanceMethod ({ cls := "LentSundays$House", name := "hours", desc := "(LLentSundays$Text;I)I" } : Jvm.MethodName)) ∈ lw_all := lw_g (lw_at lw_m5 69 rfl) rfl
theorem q1157 : (Jvm.Cond.selects "LentSundays$House" ({ cls := "LentSundays$House", name := "hours", desc := "(LLentSundays$Text;I)I" } : Jvm.MethodName) ({ cls := "LentSundays$House", name := "hours", desc := "(LLentSundays$Text;I)I" } : Jvm.MethodName)) ∈ lw_all := lw_g (lw_at lw_m5 70 rfl) rfl
theorem q1158 : (Jvm.Cond.code ({ cls := "LentSundays$House", name := "hours", desc := "(LLentSundays$Text;I)I" } : Jvm.MethodName) prog_7_method_8_code (5 : Nat) (Option.some Jvm.ClassFile.FieldType.int)) ∈ lw_all := lw_g (lw_at lw_m5 71 rfl) rfl
theorem q1159 : (Jvm.Cond.methodLink "LentSundays$House" (67 : Nat) ({ cls := "java/util/ArrayList", name := "size", desc := "()I" } : Jvm.MethodName)) ∈ lw_all := lw_g (lw_at lw_m5 72 rfl) rfl
theorem q1160 : (Jvm.Cond.methodLink "LentSundays$House" (73 : Nat) ({ cls := "java/util/ArrayList", name := "get", desc := "(I)Ljava/lang/Object;" } : Jvm.MethodName)) ∈ lw_all := lw_g (lw_at lw_m5 73 rfl) rfl
theorem q1161 : (Jvm.Cond.classLink "LentSundays$House" (77 : Nat) "LentSundays$Guest") ∈ lw_all := lw_g (lw_at lw_m5 74 rfl) rfl
theorem q1162 : (Jvm.Cond.classLink "LentSundays$House" (94 : Nat) "LentSundays$Sunday") ∈ lw_all := lw_g (lw_at lw_m5 75 rfl) rfl
theorem q1163 : (Jvm.Cond.methodLink "LentSundays$House" (118 : Nat) ({ cls := "java/lang/Integer", name := "bitCount", desc := "(I)I" } : Jvm.MethodName)) ∈ lw_all := lw_g (lw_at lw_m5 76 rfl) rfl
theorem q1169 : (Jvm.Cond.methodLink "LentSundays$House" (103 : Nat) ({ cls := "LentSundays$Law", name := "of", desc := "(LLentSundays$Asked;)I" } : Jvm.MethodName)) ∈ lw_all := lw_g (lw_at lw_m5 82 rfl) rfl
theorem q1187 : (Jvm.Cond.methodLink "LentSundays$House" (109 : Nat) ({ cls := "java/lang/Math", name := "min", desc := "(II)I" } : Jvm.MethodName)) ∈ lw_all := lw_g (lw_at lw_m5 100 rfl) rfl
theorem q1189 : (Jvm.Cond.instanceMethod ({ cls := "LentSundays$House", name := "sells", desc := "(LLentSundays$Text;I)I" } : Jvm.MethodName)) ∈ lw_all := lw_g (lw_at lw_m5 102 rfl) rfl
theorem q1190 : (Jvm.Cond.selects "LentSundays$House" ({ cls := "LentSundays$House", name := "sells", desc := "(LLentSundays$Text;I)I" } : Jvm.MethodName) ({ cls := "LentSundays$House", name := "sells", desc := "(LLentSundays$Text;I)I" } : Jvm.MethodName)) ∈ lw_all := lw_g (lw_at lw_m5 103 rfl) rfl
theorem q1191 : (Jvm.Cond.code ({ cls := "LentSundays$House", name := "sells", desc := "(LLentSundays$Text;I)I" } : Jvm.MethodName) prog_7_method_16_code (3 : Nat) (Option.some Jvm.ClassFile.FieldType.int)) ∈ lw_all := lw_g (lw_at lw_m5 104 rfl) rfl
theorem q1206 : (Jvm.Cond.instanceMethod ({ cls := "LentSundays$House", name := "isDead", desc := "(I)Z" } : Jvm.MethodName)) ∈ lw_all := lw_g (lw_at lw_m5 119 rfl) rfl
theorem q1207 : (Jvm.Cond.selects "LentSundays$House" ({ cls := "LentSundays$House", name := "isDead", desc := "(I)Z" } : Jvm.MethodName) ({ cls := "LentSundays$House", name := "isDead", desc := "(I)Z" } : Jvm.MethodName)) ∈ lw_all := lw_g (lw_at lw_m5 120 rfl) rfl
theorem q1208 : (Jvm.Cond.code ({ cls := "LentSundays$House", name := "isDead", desc := "(I)Z" } : Jvm.MethodName) prog_7_method_5_code (2 : Nat) (Option.some Jvm.ClassFile.FieldType.boolean)) ∈ lw_all := lw_g (lw_at lw_m5 121 rfl) rfl
theorem q1210 : (Jvm.Cond.instanceMethod ({ cls := "LentSundays$House", name := "pays", desc := "(LLentSundays$Text;I)I" } : Jvm.MethodName)) ∈ lw_all := lw_g (lw_at lw_m5 123 rfl) rfl
theorem q1211 : (Jvm.Cond.selects "LentSundays$House" ({ cls := "LentSundays$House", name := "pays", desc := "(LLentSundays$Text;I)I" } : Jvm.MethodName) ({ cls := "LentSundays$House", name := "pays", desc := "(LLentSundays$Text;I)I" } : Jvm.MethodName)) ∈ lw_all := lw_g (lw_at lw_m5 124 rfl) rfl
theorem q1212 : (Jvm.Cond.code ({ cls := "LentSundays$House", name := "pays", desc := "(LLentSundays$Text;I)I" } : Jvm.MethodName) prog_7_method_12_code (3 : Nat) (Option.some Jvm.ClassFile.FieldType.int)) ∈ lw_all := lw_g (lw_at lw_m5 125 rfl) rfl
theorem q1213 : (Jvm.Cond.methodLink "LentSundays$House" (127 : Nat) ({ cls := "LentSundays$House", name := "others", desc := "(I)I" } : Jvm.MethodName)) ∈ lw_all := lw_g (lw_at lw_m5 126 rfl) rfl
theorem q1214 : (Jvm.Cond.privateMethod ({ cls := "LentSundays$House", name := "others", desc := "(I)I" } : Jvm.MethodName)) ∈ lw_tbl := lw_at lw_m5 127 rfl
theorem q1215 : (Jvm.Cond.instanceMethod ({ cls := "LentSundays$House", name := "others", desc := "(I)I" } : Jvm.MethodName)) ∈ lw_all := lw_g (lw_at lw_m5 128 rfl) rfl
theorem q1216 : (Jvm.Cond.code ({ cls := "LentSundays$House", name := "others", desc := "(I)I" } : Jvm.MethodName) prog_7_method_10_code (2 : Nat) (Option.some Jvm.ClassFile.FieldType.int)) ∈ lw_all := lw_g (lw_at lw_m5 129 rfl) rfl
theorem q1217 : (Jvm.Cond.methodLink "LentSundays$House" (130 : Nat) ({ cls := "LentSundays$House", name := "paysIn", desc := "(LLentSundays$Text;III)I" } : Jvm.MethodName)) ∈ lw_all := lw_g (lw_at lw_m5 130 rfl) rfl
theorem q1218 : (Jvm.Cond.instanceMethod ({ cls := "LentSundays$House", name := "paysIn", desc := "(LLentSundays$Text;III)I" } : Jvm.MethodName)) ∈ lw_all := lw_g (lw_at lw_m5 131 rfl) rfl
theorem q1219 : (Jvm.Cond.selects "LentSundays$House" ({ cls := "LentSundays$House", name := "paysIn", desc := "(LLentSundays$Text;III)I" } : Jvm.MethodName) ({ cls := "LentSundays$House", name := "paysIn", desc := "(LLentSundays$Text;III)I" } : Jvm.MethodName)) ∈ lw_all := lw_g (lw_at lw_m5 132 rfl) rfl
theorem q1220 : (Jvm.Cond.code ({ cls := "LentSundays$House", name := "paysIn", desc := "(LLentSundays$Text;III)I" } : Jvm.MethodName) prog_7_method_11_code (5 : Nat) (Option.some Jvm.ClassFile.FieldType.int)) ∈ lw_all := lw_g (lw_at lw_m5 133 rfl) rfl
theorem q1221 : (Jvm.Cond.methodLink "LentSundays$House" (123 : Nat) ({ cls := "LentSundays$House", name := "told", desc := "(LLentSundays$Text;IIII)I" } : Jvm.MethodName)) ∈ lw_all := lw_g (lw_at lw_m5 134 rfl) rfl
theorem q1222 : (Jvm.Cond.privateMethod ({ cls := "LentSundays$House", name := "told", desc := "(LLentSundays$Text;IIII)I" } : Jvm.MethodName)) ∈ lw_tbl := lw_at lw_m5 135 rfl
theorem q1223 : (Jvm.Cond.instanceMethod ({ cls := "LentSundays$House", name := "told", desc := "(LLentSundays$Text;IIII)I" } : Jvm.MethodName)) ∈ lw_all := lw_g (lw_at lw_m5 136 rfl) rfl
theorem q1224 : (Jvm.Cond.code ({ cls := "LentSundays$House", name := "told", desc := "(LLentSundays$Text;IIII)I" } : Jvm.MethodName) prog_7_method_9_code (7 : Nat) (Option.some Jvm.ClassFile.FieldType.int)) ∈ lw_all := lw_g (lw_at lw_m5 137 rfl) rfl
theorem q1226 : (Jvm.Cond.instanceMethod ({ cls := "LentSundays$House", name := "rests", desc := "(LLentSundays$Text;I)I" } : Jvm.MethodName)) ∈ lw_all := lw_g (lw_at lw_m5 139 rfl) rfl
theorem q1227 : (Jvm.Cond.selects "LentSundays$House" ({ cls := "LentSundays$House", name := "rests", desc := "(LLentSundays$Text;I)I" } : Jvm.MethodName) ({ cls := "LentSundays$House", name := "rests", desc := "(LLentSundays$Text;I)I" } : Jvm.MethodName)) ∈ lw_all := lw_g (lw_at lw_m5 140 rfl) rfl
theorem q1228 : (Jvm.Cond.code ({ cls := "LentSundays$House", name := "rests", desc := "(LLentSundays$Text;I)I" } : Jvm.MethodName) prog_7_method_13_code (3 : Nat) (Option.some Jvm.ClassFile.FieldType.int)) ∈ lw_all := lw_g (lw_at lw_m5 141 rfl) rfl
theorem q1246 : (Jvm.Cond.instanceMethod ({ cls := "LentSundays$House", name := "room", desc := "(LLentSundays$Text;I)I" } : Jvm.MethodName)) ∈ lw_all := lw_g (lw_at lw_m5 159 rfl) rfl
theorem q1247 : (Jvm.Cond.selects "LentSundays$House" ({ cls := "LentSundays$House", name := "room", desc := "(LLentSundays$Text;I)I" } : Jvm.MethodName) ({ cls := "LentSundays$House", name := "room", desc := "(LLentSundays$Text;I)I" } : Jvm.MethodName)) ∈ lw_all := lw_g (lw_at lw_m5 160 rfl) rfl
theorem q1248 : (Jvm.Cond.code ({ cls := "LentSundays$House", name := "room", desc := "(LLentSundays$Text;I)I" } : Jvm.MethodName) prog_7_method_19_code (5 : Nat) (Option.some Jvm.ClassFile.FieldType.int)) ∈ lw_all := lw_g (lw_at lw_m5 161 rfl) rfl
theorem q1249 : (Jvm.Cond.methodLink "LentSundays$House" (152 : Nat) ({ cls := "LentSundays$House", name := "isDead", desc := "(I)Z" } : Jvm.MethodName)) ∈ lw_all := lw_g (lw_at lw_m5 162 rfl) rfl
theorem q1250 : (Jvm.Cond.methodLink "LentSundays$House" (168 : Nat) ({ cls := "LentSundays$House", name := "isSold", desc := "(I)Z" } : Jvm.MethodName)) ∈ lw_all := lw_g (lw_at lw_m5 163 rfl) rfl
theorem q1251 : (Jvm.Cond.methodLink "LentSundays$House" (171 : Nat) ({ cls := "LentSundays$Text", name := "isLong", desc := "(II)Z" } : Jvm.MethodName)) ∈ lw_all := lw_g (lw_at lw_m5 164 rfl) rfl
theorem q1257 : (Jvm.Cond.methodLink "LentSundays$House" (175 : Nat) ({ cls := "LentSundays$Text", name := "rivals", desc := "(I)I" } : Jvm.MethodName)) ∈ lw_all := lw_g (lw_at lw_m5 170 rfl) rfl
theorem q1274 : (Jvm.Cond.instanceMethod ({ cls := "LentSundays$House", name := "takes", desc := "(LLentSundays$House;)V" } : Jvm.MethodName)) ∈ lw_all := lw_g (lw_at lw_m5 187 rfl) rfl
theorem q1275 : (Jvm.Cond.selects "LentSundays$House" ({ cls := "LentSundays$House", name := "takes", desc := "(LLentSundays$House;)V" } : Jvm.MethodName) ({ cls := "LentSundays$House", name := "takes", desc := "(LLentSundays$House;)V" } : Jvm.MethodName)) ∈ lw_all := lw_g (lw_at lw_m5 188 rfl) rfl
theorem q1276 : (Jvm.Cond.code ({ cls := "LentSundays$House", name := "takes", desc := "(LLentSundays$House;)V" } : Jvm.MethodName) prog_7_method_4_code (2 : Nat) (Option.none : Option Jvm.ClassFile.FieldType)) ∈ lw_all := lw_g (lw_at lw_m5 189 rfl) rfl
theorem q1277 : (Jvm.Cond.methodLink "LentSundays$House" (59 : Nat) ({ cls := "LentSundays$House", name := "copies", desc := "([I[I)V" } : Jvm.MethodName)) ∈ lw_all := lw_g (lw_at lw_m5 190 rfl) rfl
theorem q1278 : (Jvm.Cond.static ({ cls := "LentSundays$House", name := "copies", desc := "([I[I)V" } : Jvm.MethodName)) ∈ lw_all := lw_g (lw_at lw_m5 191 rfl) rfl
theorem q1279 : (Jvm.Cond.code ({ cls := "LentSundays$House", name := "copies", desc := "([I[I)V" } : Jvm.MethodName) prog_7_method_3_code (2 : Nat) (Option.none : Option Jvm.ClassFile.FieldType)) ∈ lw_all := lw_g (lw_at lw_m5 192 rfl) rfl
theorem q1280 : (Jvm.Cond.methodLink "LentSundays$House" (53 : Nat) ({ cls := "java/lang/System", name := "arraycopy", desc := "(Ljava/lang/Object;ILjava/lang/Object;II)V" } : Jvm.MethodName)) ∈ lw_all := lw_g (lw_at lw_m5 193 rfl) rfl
theorem q1311 : (Jvm.Cond.instanceMethod ({ cls := "LentSundays$House", name := "goesBy", desc := "(LLentSundays$Text;LLentSundays$Fate;)V" } : Jvm.MethodName)) ∈ lw_all := lw_g (lw_at lw_m5 224 rfl) rfl
theorem q1312 : (Jvm.Cond.selects "LentSundays$House" ({ cls := "LentSundays$House", name := "goesBy", desc := "(LLentSundays$Text;LLentSundays$Fate;)V" } : Jvm.MethodName) ({ cls := "LentSundays$House", name := "goesBy", desc := "(LLentSundays$Text;LLentSundays$Fate;)V" } : Jvm.MethodName)) ∈ lw_all := lw_g (lw_at lw_m5 225 rfl) rfl
theorem q1313 : (Jvm.Cond.code ({ cls := "LentSundays$House", name := "goesBy", desc := "(LLentSundays$Text;LLentSundays$Fate;)V" } : Jvm.MethodName) prog_7_method_18_code (6 : Nat) (Option.none : Option Jvm.ClassFile.FieldType)) ∈ lw_all := lw_g (lw_at lw_m5 226 rfl) rfl
theorem q1314 : (Jvm.Cond.methodLink "LentSundays$House" (144 : Nat) ({ cls := "LentSundays$House", name := "due", desc := "(LLentSundays$Text;)I" } : Jvm.MethodName)) ∈ lw_all := lw_g (lw_at lw_m5 227 rfl) rfl
theorem q1315 : (Jvm.Cond.instanceMethod ({ cls := "LentSundays$House", name := "due", desc := "(LLentSundays$Text;)I" } : Jvm.MethodName)) ∈ lw_all := lw_g (lw_at lw_m5 228 rfl) rfl
theorem q1316 : (Jvm.Cond.selects "LentSundays$House" ({ cls := "LentSundays$House", name := "due", desc := "(LLentSundays$Text;)I" } : Jvm.MethodName) ({ cls := "LentSundays$House", name := "due", desc := "(LLentSundays$Text;)I" } : Jvm.MethodName)) ∈ lw_all := lw_g (lw_at lw_m5 229 rfl) rfl
theorem q1317 : (Jvm.Cond.code ({ cls := "LentSundays$House", name := "due", desc := "(LLentSundays$Text;)I" } : Jvm.MethodName) prog_7_method_17_code (4 : Nat) (Option.some Jvm.ClassFile.FieldType.int)) ∈ lw_all := lw_g (lw_at lw_m5 230 rfl) rfl
theorem q1318 : (Jvm.Cond.methodLink "LentSundays$House" (141 : Nat) ({ cls := "LentSundays$House", name := "pays", desc := "(LLentSundays$Text;I)I" } : Jvm.MethodName)) ∈ lw_all := lw_g (lw_at lw_m5 231 rfl) rfl
theorem q1319 : (Jvm.Cond.methodLink "LentSundays$House" (148 : Nat) ({ cls := "LentSundays$House", name := "rests", desc := "(LLentSundays$Text;I)I" } : Jvm.MethodName)) ∈ lw_all := lw_g (lw_at lw_m5 232 rfl) rfl
theorem q1320 : (Jvm.Cond.methodLink "LentSundays$House" (150 : Nat) ({ cls := "LentSundays$House", name := "wears", desc := "(LLentSundays$Text;I)I" } : Jvm.MethodName)) ∈ lw_all := lw_g (lw_at lw_m5 233 rfl) rfl
theorem q1321 : (Jvm.Cond.methodLink "LentSundays$House" (156 : Nat) ({ cls := "java/lang/Math", name := "max", desc := "(II)I" } : Jvm.MethodName)) ∈ lw_all := lw_g (lw_at lw_m5 234 rfl) rfl
theorem q1322 : (Jvm.Cond.methodLink "LentSundays$House" (162 : Nat) ({ cls := "LentSundays$Fate", name := "dies", desc := "(LLentSundays$House;LLentSundays$Text;I)Z" } : Jvm.MethodName)) ∈ lw_all := lw_g (lw_at lw_m5 235 rfl) rfl
theorem q2231 : (Jvm.Cond.castable "LentSundays$House" "java/lang/Object") ∈ lw_tbl := lw_at lw_m9 184 rfl
theorem in_X5 : ∀ w ∈ wsX50, w ∈ lw_all := lw_in wsX50 [447, 449, 451, 453, 455, 457, 459, 461, 463, 465, 467] (by decide +kernel) (by decide +kernel)
/-! LentSundays$Asked -/
set_option maxRecDepth 100000
def RX6 : String := "LentSundays$Asked"
def TX6 : u_T := fun k => match k with
  | 0 => ("LentSundays$Asked", "v", "[I", true)
  | _ => ("LentSundays$Asked", "nought", "Z", false)
def tyX6 : Nat → FieldType := fun k => match k with
  | 0 => .array .int
  | _ => .boolean
abbrev wsX60 : List Cond := u_ws RX6 TX6 2
theorem nmX6 : ∀ a, a < 2 → ∀ b, b < 2 → a ≠ b → (TX6 a).2.1 ≠ (TX6 b).2.1 := by decide +kernel
theorem tyX6_ok : ∀ k, k < 2 → parseFieldDescriptor (TX6 k).2.2.1 = some (tyX6 k) := by decide +kernel
abbrev cX6_init : ByteArray := prog_2_method_1_code
def yX6_init : MethodName := ⟨RX6, "<init>", "()V"⟩
def dkwX6_init_0 : List UInt8 := [42, 183, 0, 1, 42, 16, 9, 188, 10, 181, 0, 7, 177]
abbrev dktX6_init_0 : List UInt8 := dkwX6_init_0 ++ []
theorem dksX6_init_0 : cX6_init.data.toList.drop 0 = dktX6_init_0 := by decide +kernel
theorem dX6_init_0 : decode cX6_init 0 = .ok (.aload_n 0, 1) := dk_42 (dk_at dksX6_init_0 0 rfl rfl)
theorem dX6_init_1 : decode cX6_init 1 = .ok (.invokespecial 1, 3) := dk_183 0 1 (dk_at dksX6_init_0 1 rfl rfl)
theorem dX6_init_4 : decode cX6_init 4 = .ok (.aload_n 0, 1) := dk_42 (dk_at dksX6_init_0 4 rfl rfl)
theorem dX6_init_5 : decode cX6_init 5 = .ok (.bipush 9, 2) := dk_16 9 (dk_at dksX6_init_0 5 rfl rfl)
theorem dX6_init_7 : decode cX6_init 7 = .ok (.newarray .int, 2) := dk_188_10 (dk_at dksX6_init_0 7 rfl rfl)
theorem dX6_init_9 : decode cX6_init 9 = .ok (.putfield 7, 3) := dk_181 0 7 (dk_at dksX6_init_0 9 rfl rfl)
theorem dX6_init_12 : decode cX6_init 12 = .ok (.return_, 1) := dk_177 (dk_at dksX6_init_0 12 rfl rfl)
theorem q140 : (Jvm.Cond.initialized "LentSundays$Asked") ∈ lw_all := lw_g (lw_at lw_m1 13 rfl) rfl
theorem q409 : (Jvm.Cond.instantiable "LentSundays$Asked" (2 : Nat)) ∈ lw_all := lw_g (lw_at lw_m2 42 rfl) rfl
theorem q411 : (Jvm.Cond.instanceMethod ({ cls := "LentSundays$Asked", name := "<init>", desc := "()V" } : Jvm.MethodName)) ∈ lw_all := lw_g (lw_at lw_m2 44 rfl) rfl
theorem q412 : (Jvm.Cond.code ({ cls := "LentSundays$Asked", name := "<init>", desc := "()V" } : Jvm.MethodName) prog_2_method_1_code (1 : Nat) (Option.none : Option Jvm.ClassFile.FieldType)) ∈ lw_all := lw_g (lw_at lw_m2 45 rfl) rfl
theorem q413 : (Jvm.Cond.methodLink "LentSundays$Asked" (1 : Nat) ({ cls := "java/lang/Object", name := "<init>", desc := "()V" } : Jvm.MethodName)) ∈ lw_all := lw_g (lw_at lw_m2 46 rfl) rfl
theorem q414 : (Jvm.Cond.fieldLink "LentSundays$Asked" (7 : Nat) "LentSundays$Asked" "v" "[I") ∈ lw_all := lw_g (lw_at lw_m2 47 rfl) rfl
theorem q419 : (Jvm.Cond.laysFinal "LentSundays$Asked" "LentSundays$Asked" "v" "[I") ∈ lw_all := lw_g (lw_at lw_m2 52 rfl) rfl
theorem q420 : (Jvm.Cond.soleField "LentSundays$Asked" "v") ∈ lw_all := lw_g (lw_at lw_m2 53 rfl) rfl
theorem q421 : (Jvm.Cond.lays "LentSundays$Asked" "LentSundays$Asked" "nought" "Z") ∈ lw_all := lw_g (lw_at lw_m2 54 rfl) rfl
theorem q422 : (Jvm.Cond.soleField "LentSundays$Asked" "nought") ∈ lw_all := lw_g (lw_at lw_m2 55 rfl) rfl
theorem q423 : (Jvm.Cond.superclass "LentSundays$Asked" "java/lang/Object") ∈ lw_all := lw_g (lw_at lw_m2 56 rfl) rfl
theorem q1048 : (Jvm.Cond.selects "LentSundays$Asked" ({ cls := "java/lang/Object", name := "getClass", desc := "()Ljava/lang/Class;" } : Jvm.MethodName) ({ cls := "java/lang/Object", name := "getClass", desc := "()Ljava/lang/Class;" } : Jvm.MethodName)) ∈ lw_all := lw_g (lw_at lw_m4 201 rfl) rfl
theorem q2239 : (Jvm.Cond.castable "LentSundays$Asked" "java/lang/Object") ∈ lw_tbl := lw_at lw_m9 192 rfl
theorem in_X6 : ∀ w ∈ wsX60, w ∈ lw_all := lw_in wsX60 [419, 421] (by decide +kernel) (by decide +kernel)
/-! LentSundays$Fate -/
set_option maxRecDepth 100000
def RX7 : String := "LentSundays$Fate"
abbrev cX7_init : ByteArray := prog_4_method_1_code
def yX7_init : MethodName := ⟨RX7, "<init>", "()V"⟩
theorem dX7_init_0 : decode cX7_init 0 = .ok (.aload_n 0, 1) := by decide +kernel
theorem dX7_init_1 : decode cX7_init 1 = .ok (.invokespecial 1, 3) := by decide +kernel
theorem dX7_init_4 : decode cX7_init 4 = .ok (.return_, 1) := by decide +kernel
theorem q141 : (Jvm.Cond.initialized "LentSundays$Fate") ∈ lw_all := lw_g (lw_at lw_m1 14 rfl) rfl
theorem q477 : (Jvm.Cond.instanceMethod ({ cls := "LentSundays$Fate", name := "<init>", desc := "()V" } : Jvm.MethodName)) ∈ lw_all := lw_g (lw_at lw_m2 110 rfl) rfl
theorem q478 : (Jvm.Cond.code ({ cls := "LentSundays$Fate", name := "<init>", desc := "()V" } : Jvm.MethodName) prog_4_method_1_code (1 : Nat) (Option.none : Option Jvm.ClassFile.FieldType)) ∈ lw_all := lw_g (lw_at lw_m2 111 rfl) rfl
theorem q479 : (Jvm.Cond.methodLink "LentSundays$Fate" (1 : Nat) ({ cls := "java/lang/Object", name := "<init>", desc := "()V" } : Jvm.MethodName)) ∈ lw_all := lw_g (lw_at lw_m2 112 rfl) rfl
theorem q1323 : (Jvm.Cond.declares ({ cls := "LentSundays$Fate", name := "dies", desc := "(LLentSundays$House;LLentSundays$Text;I)Z" } : Jvm.MethodName)) ∈ lw_tbl := lw_at lw_m5 236 rfl
theorem q1324 : (Jvm.Cond.sameMethod "LentSundays$Fate" "LentSundays$Fate" "dies" "(LLentSundays$House;LLentSundays$Text;I)Z") ∈ lw_all := lw_g (lw_at lw_m5 237 rfl) rfl
/-! LentSundays$Drawn -/
set_option maxRecDepth 100000
def RX8 : String := "LentSundays$Drawn"
abbrev cX8_init : ByteArray := prog_3_method_1_code
def yX8_init : MethodName := ⟨RX8, "<init>", "()V"⟩
theorem dX8_init_0 : decode cX8_init 0 = .ok (.aload_n 0, 1) := by decide +kernel
theorem dX8_init_1 : decode cX8_init 1 = .ok (.invokespecial 1, 3) := by decide +kernel
theorem dX8_init_4 : decode cX8_init 4 = .ok (.return_, 1) := by decide +kernel
abbrev cX8_dies : ByteArray := prog_3_method_2_code
def yX8_dies : MethodName := ⟨RX8, "dies", "(LLentSundays$House;LLentSundays$Text;I)Z"⟩
def dkwX8_dies_1 : List UInt8 := [44, 180, 0, 26, 100, 16, 10, 96, 162, 0, 7, 4, 167, 0, 4, 3, 172]
abbrev dktX8_dies_1 : List UInt8 := dkwX8_dies_1 ++ []
def dkwX8_dies_0 : List UInt8 := [43, 180, 0, 7, 16, 8, 43, 180, 0, 13, 104, 29, 96, 16, 100, 184, 0, 16, 43, 180, 0, 22, 29, 46]
abbrev dktX8_dies_0 : List UInt8 := dkwX8_dies_0 ++ dktX8_dies_1
theorem dksX8_dies_0 : cX8_dies.data.toList.drop 0 = dktX8_dies_0 := by decide +kernel
theorem dksX8_dies_1 : cX8_dies.data.toList.drop 24 = dktX8_dies_1 := dk_seg dksX8_dies_0 24 rfl rfl
theorem dX8_dies_0 : decode cX8_dies 0 = .ok (.aload_n 1, 1) := dk_43 (dk_at dksX8_dies_0 0 rfl rfl)
theorem dX8_dies_1 : decode cX8_dies 1 = .ok (.getfield 7, 3) := dk_180 0 7 (dk_at dksX8_dies_0 1 rfl rfl)
theorem dX8_dies_4 : decode cX8_dies 4 = .ok (.bipush 8, 2) := dk_16 8 (dk_at dksX8_dies_0 4 rfl rfl)
theorem dX8_dies_6 : decode cX8_dies 6 = .ok (.aload_n 1, 1) := dk_43 (dk_at dksX8_dies_0 6 rfl rfl)
theorem dX8_dies_7 : decode cX8_dies 7 = .ok (.getfield 13, 3) := dk_180 0 13 (dk_at dksX8_dies_0 7 rfl rfl)
theorem dX8_dies_10 : decode cX8_dies 10 = .ok (.imul, 1) := dk_104 (dk_at dksX8_dies_0 10 rfl rfl)
theorem dX8_dies_11 : decode cX8_dies 11 = .ok (.iload_n 3, 1) := dk_29 (dk_at dksX8_dies_0 11 rfl rfl)
theorem dX8_dies_12 : decode cX8_dies 12 = .ok (.iadd, 1) := dk_96 (dk_at dksX8_dies_0 12 rfl rfl)
theorem dX8_dies_13 : decode cX8_dies 13 = .ok (.bipush 100, 2) := dk_16 100 (dk_at dksX8_dies_0 13 rfl rfl)
theorem dX8_dies_15 : decode cX8_dies 15 = .ok (.invokestatic 16, 3) := dk_184 0 16 (dk_at dksX8_dies_0 15 rfl rfl)
theorem dX8_dies_18 : decode cX8_dies 18 = .ok (.aload_n 1, 1) := dk_43 (dk_at dksX8_dies_0 18 rfl rfl)
theorem dX8_dies_19 : decode cX8_dies 19 = .ok (.getfield 22, 3) := dk_180 0 22 (dk_at dksX8_dies_0 19 rfl rfl)
theorem dX8_dies_22 : decode cX8_dies 22 = .ok (.iload_n 3, 1) := dk_29 (dk_at dksX8_dies_0 22 rfl rfl)
theorem dX8_dies_23 : decode cX8_dies 23 = .ok (.iaload, 1) := dk_46 (dk_at dksX8_dies_0 23 rfl rfl)
theorem dX8_dies_24 : decode cX8_dies 24 = .ok (.aload_n 2, 1) := dk_44 (dk_at dksX8_dies_1 0 rfl rfl)
theorem dX8_dies_25 : decode cX8_dies 25 = .ok (.getfield 26, 3) := dk_180 0 26 (dk_at dksX8_dies_1 1 rfl rfl)
theorem dX8_dies_28 : decode cX8_dies 28 = .ok (.isub, 1) := dk_100 (dk_at dksX8_dies_1 4 rfl rfl)
theorem dX8_dies_29 : decode cX8_dies 29 = .ok (.bipush 10, 2) := dk_16 10 (dk_at dksX8_dies_1 5 rfl rfl)
theorem dX8_dies_31 : decode cX8_dies 31 = .ok (.iadd, 1) := dk_96 (dk_at dksX8_dies_1 7 rfl rfl)
theorem dX8_dies_32 : decode cX8_dies 32 = .ok (.if_icmp .ge 7, 3) := dk_162 0 7 (dk_at dksX8_dies_1 8 rfl rfl)
theorem dX8_dies_35 : decode cX8_dies 35 = .ok (.iconst 1, 1) := dk_4 (dk_at dksX8_dies_1 11 rfl rfl)
theorem dX8_dies_36 : decode cX8_dies 36 = .ok (.goto 4, 3) := dk_167 0 4 (dk_at dksX8_dies_1 12 rfl rfl)
theorem dX8_dies_39 : decode cX8_dies 39 = .ok (.iconst 0, 1) := dk_3 (dk_at dksX8_dies_1 15 rfl rfl)
theorem dX8_dies_40 : decode cX8_dies 40 = .ok (.ireturn, 1) := dk_172 (dk_at dksX8_dies_1 16 rfl rfl)
theorem q142 : (Jvm.Cond.initialized "LentSundays$Drawn") ∈ lw_all := lw_g (lw_at lw_m1 15 rfl) rfl
theorem q382 : (Jvm.Cond.fieldLink "LentSundays$Drawn" (26 : Nat) "LentSundays$Text" "death" "I") ∈ lw_all := lw_g (lw_at lw_m2 15 rfl) rfl
theorem q428 : (Jvm.Cond.fieldLink "LentSundays$Drawn" (22 : Nat) "LentSundays$House" "rested" "[I") ∈ lw_all := lw_g (lw_at lw_m2 61 rfl) rfl
theorem q436 : (Jvm.Cond.fieldLink "LentSundays$Drawn" (13 : Nat) "LentSundays$House" "week" "I") ∈ lw_all := lw_g (lw_at lw_m2 69 rfl) rfl
theorem q441 : (Jvm.Cond.fieldLink "LentSundays$Drawn" (7 : Nat) "LentSundays$House" "seed" "I") ∈ lw_all := lw_g (lw_at lw_m2 74 rfl) rfl
theorem q472 : (Jvm.Cond.instantiable "LentSundays$Drawn" (0 : Nat)) ∈ lw_all := lw_g (lw_at lw_m2 105 rfl) rfl
theorem q474 : (Jvm.Cond.instanceMethod ({ cls := "LentSundays$Drawn", name := "<init>", desc := "()V" } : Jvm.MethodName)) ∈ lw_all := lw_g (lw_at lw_m2 107 rfl) rfl
theorem q475 : (Jvm.Cond.code ({ cls := "LentSundays$Drawn", name := "<init>", desc := "()V" } : Jvm.MethodName) prog_3_method_1_code (1 : Nat) (Option.none : Option Jvm.ClassFile.FieldType)) ∈ lw_all := lw_g (lw_at lw_m2 108 rfl) rfl
theorem q476 : (Jvm.Cond.methodLinkNest "LentSundays$Drawn" (1 : Nat) ({ cls := "LentSundays$Fate", name := "<init>", desc := "()V" } : Jvm.MethodName) "LentSundays") ∈ lw_tbl := lw_at lw_m2 109 rfl
theorem q480 : (Jvm.Cond.superclass "LentSundays$Drawn" "LentSundays$Fate") ∈ lw_all := lw_g (lw_at lw_m2 113 rfl) rfl
theorem q1049 : (Jvm.Cond.selects "LentSundays$Drawn" ({ cls := "java/lang/Object", name := "getClass", desc := "()Ljava/lang/Class;" } : Jvm.MethodName) ({ cls := "java/lang/Object", name := "getClass", desc := "()Ljava/lang/Class;" } : Jvm.MethodName)) ∈ lw_all := lw_g (lw_at lw_m4 202 rfl) rfl
theorem q1325 : (Jvm.Cond.selects "LentSundays$Drawn" ({ cls := "LentSundays$Fate", name := "dies", desc := "(LLentSundays$House;LLentSundays$Text;I)Z" } : Jvm.MethodName) ({ cls := "LentSundays$Drawn", name := "dies", desc := "(LLentSundays$House;LLentSundays$Text;I)Z" } : Jvm.MethodName)) ∈ lw_all := lw_g (lw_at lw_m5 238 rfl) rfl
theorem q1326 : (Jvm.Cond.instanceMethod ({ cls := "LentSundays$Drawn", name := "dies", desc := "(LLentSundays$House;LLentSundays$Text;I)Z" } : Jvm.MethodName)) ∈ lw_all := lw_g (lw_at lw_m5 239 rfl) rfl
theorem q1327 : (Jvm.Cond.code ({ cls := "LentSundays$Drawn", name := "dies", desc := "(LLentSundays$House;LLentSundays$Text;I)Z" } : Jvm.MethodName) prog_3_method_2_code (4 : Nat) (Option.some Jvm.ClassFile.FieldType.boolean)) ∈ lw_all := lw_g (lw_at lw_m6 0 rfl) rfl
theorem q1328 : (Jvm.Cond.methodLinkNest "LentSundays$Drawn" (16 : Nat) ({ cls := "LentSundays", name := "lot", desc := "(III)I" } : Jvm.MethodName) "LentSundays") ∈ lw_tbl := lw_at lw_m6 1 rfl
theorem q2240 : (Jvm.Cond.castable "LentSundays$Drawn" "java/lang/Object") ∈ lw_tbl := lw_at lw_m9 193 rfl
/-! LentSundays$Spared -/
set_option maxRecDepth 100000
def RX9 : String := "LentSundays$Spared"
abbrev cX9_init : ByteArray := prog_13_method_1_code
def yX9_init : MethodName := ⟨RX9, "<init>", "()V"⟩
theorem dX9_init_0 : decode cX9_init 0 = .ok (.aload_n 0, 1) := by decide +kernel
theorem dX9_init_1 : decode cX9_init 1 = .ok (.invokespecial 1, 3) := by decide +kernel
theorem dX9_init_4 : decode cX9_init 4 = .ok (.return_, 1) := by decide +kernel
abbrev cX9_dies : ByteArray := prog_13_method_2_code
def yX9_dies : MethodName := ⟨RX9, "dies", "(LLentSundays$House;LLentSundays$Text;I)Z"⟩
theorem dX9_dies_0 : decode cX9_dies 0 = .ok (.iconst 0, 1) := by decide +kernel
theorem dX9_dies_1 : decode cX9_dies 1 = .ok (.ireturn, 1) := by decide +kernel
theorem q143 : (Jvm.Cond.initialized "LentSundays$Spared") ∈ lw_all := lw_g (lw_at lw_m1 16 rfl) rfl
theorem q482 : (Jvm.Cond.instantiable "LentSundays$Spared" (0 : Nat)) ∈ lw_all := lw_g (lw_at lw_m2 115 rfl) rfl
theorem q484 : (Jvm.Cond.instanceMethod ({ cls := "LentSundays$Spared", name := "<init>", desc := "()V" } : Jvm.MethodName)) ∈ lw_all := lw_g (lw_at lw_m2 117 rfl) rfl
theorem q485 : (Jvm.Cond.code ({ cls := "LentSundays$Spared", name := "<init>", desc := "()V" } : Jvm.MethodName) prog_13_method_1_code (1 : Nat) (Option.none : Option Jvm.ClassFile.FieldType)) ∈ lw_all := lw_g (lw_at lw_m2 118 rfl) rfl
theorem q486 : (Jvm.Cond.methodLinkNest "LentSundays$Spared" (1 : Nat) ({ cls := "LentSundays$Fate", name := "<init>", desc := "()V" } : Jvm.MethodName) "LentSundays") ∈ lw_tbl := lw_at lw_m2 119 rfl
theorem q487 : (Jvm.Cond.superclass "LentSundays$Spared" "LentSundays$Fate") ∈ lw_all := lw_g (lw_at lw_m2 120 rfl) rfl
theorem q1057 : (Jvm.Cond.selects "LentSundays$Spared" ({ cls := "java/lang/Object", name := "getClass", desc := "()Ljava/lang/Class;" } : Jvm.MethodName) ({ cls := "java/lang/Object", name := "getClass", desc := "()Ljava/lang/Class;" } : Jvm.MethodName)) ∈ lw_all := lw_g (lw_at lw_m4 210 rfl) rfl
theorem q1335 : (Jvm.Cond.selects "LentSundays$Spared" ({ cls := "LentSundays$Fate", name := "dies", desc := "(LLentSundays$House;LLentSundays$Text;I)Z" } : Jvm.MethodName) ({ cls := "LentSundays$Spared", name := "dies", desc := "(LLentSundays$House;LLentSundays$Text;I)Z" } : Jvm.MethodName)) ∈ lw_all := lw_g (lw_at lw_m6 8 rfl) rfl
theorem q1336 : (Jvm.Cond.instanceMethod ({ cls := "LentSundays$Spared", name := "dies", desc := "(LLentSundays$House;LLentSundays$Text;I)Z" } : Jvm.MethodName)) ∈ lw_all := lw_g (lw_at lw_m6 9 rfl) rfl
theorem q1337 : (Jvm.Cond.code ({ cls := "LentSundays$Spared", name := "dies", desc := "(LLentSundays$House;LLentSundays$Text;I)Z" } : Jvm.MethodName) prog_13_method_2_code (4 : Nat) (Option.some Jvm.ClassFile.FieldType.boolean)) ∈ lw_all := lw_g (lw_at lw_m6 10 rfl) rfl
theorem q2241 : (Jvm.Cond.castable "LentSundays$Spared" "java/lang/Object") ∈ lw_tbl := lw_at lw_m9 194 rfl
theorem q127 : (Jvm.Cond.initialized "LentSundaysLaw") ∈ lw_all := lw_g (lw_at lw_m1 0 rfl) rfl
set_option maxRecDepth 100000
theorem q165 : (Jvm.Cond.classLink "LentSundaysLaw" (7 : Nat) "LentSundays") ∈ lw_all := lw_g (lw_at lw_m1 38 rfl) rfl
theorem q167 : (Jvm.Cond.methodLink "LentSundaysLaw" (9 : Nat) ({ cls := "LentSundays", name := "<init>", desc := "()V" } : Jvm.MethodName)) ∈ lw_all := lw_g (lw_at lw_m1 40 rfl) rfl
theorem q559 : (Jvm.Cond.methodLink "LentSundaysLaw" (13 : Nat) ({ cls := "LentSundays", name := "feed", desc := "(IIIII)I" } : Jvm.MethodName)) ∈ lw_all := lw_g (lw_at lw_m2 192 rfl) rfl
theorem q567 : (Jvm.Cond.methodLink "LentSundaysLaw" (18 : Nat) ({ cls := "LentSundays", name := "back", desc := "(I)I" } : Jvm.MethodName)) ∈ lw_all := lw_g (lw_at lw_m2 200 rfl) rfl
theorem q571 : (Jvm.Cond.methodLink "LentSundaysLaw" (23 : Nat) ({ cls := "LentSundays", name := "read", desc := "()I" } : Jvm.MethodName)) ∈ lw_all := lw_g (lw_at lw_m2 204 rfl) rfl
theorem q1116 : (Jvm.Cond.methodLink "LentSundaysLaw" (28 : Nat) ({ cls := "LentSundays", name := "place", desc := "()I" } : Jvm.MethodName)) ∈ lw_all := lw_g (lw_at lw_m5 29 rfl) rfl
theorem q1120 : (Jvm.Cond.methodLink "LentSundaysLaw" (32 : Nat) ({ cls := "LentSundays", name := "sunday", desc := "(II)I" } : Jvm.MethodName)) ∈ lw_all := lw_g (lw_at lw_m5 33 rfl) rfl
theorem q1192 : (Jvm.Cond.methodLink "LentSundaysLaw" (37 : Nat) ({ cls := "LentSundays", name := "guest", desc := "(II)I" } : Jvm.MethodName)) ∈ lw_all := lw_g (lw_at lw_m5 105 rfl) rfl
theorem q1229 : (Jvm.Cond.methodLink "LentSundaysLaw" (41 : Nat) ({ cls := "LentSundays", name := "at", desc := "(II)I" } : Jvm.MethodName)) ∈ lw_all := lw_g (lw_at lw_m5 142 rfl) rfl
theorem q1241 : (Jvm.Cond.methodLink "LentSundaysLaw" (45 : Nat) ({ cls := "LentSundays", name := "letIn", desc := "(II)Z" } : Jvm.MethodName)) ∈ lw_all := lw_g (lw_at lw_m5 154 rfl) rfl
theorem q1282 : (Jvm.Cond.methodLink "LentSundaysLaw" (50 : Nat) ({ cls := "LentSundays", name := "putOut", desc := "(I)Z" } : Jvm.MethodName)) ∈ lw_all := lw_g (lw_at lw_m5 195 rfl) rfl
theorem q1286 : (Jvm.Cond.methodLink "LentSundaysLaw" (55 : Nat) ({ cls := "LentSundays", name := "sell", desc := "(I)I" } : Jvm.MethodName)) ∈ lw_all := lw_g (lw_at lw_m5 199 rfl) rfl
theorem q1294 : (Jvm.Cond.methodLink "LentSundaysLaw" (59 : Nat) ({ cls := "LentSundays", name := "air", desc := "(I)Z" } : Jvm.MethodName)) ∈ lw_all := lw_g (lw_at lw_m5 207 rfl) rfl
theorem q1299 : (Jvm.Cond.methodLink "LentSundaysLaw" (63 : Nat) ({ cls := "LentSundays", name := "weeks", desc := "(I)I" } : Jvm.MethodName)) ∈ lw_all := lw_g (lw_at lw_m5 212 rfl) rfl
theorem q1338 : (Jvm.Cond.methodLink "LentSundaysLaw" (67 : Nat) ({ cls := "LentSundays", name := "undo", desc := "()Z" } : Jvm.MethodName)) ∈ lw_all := lw_g (lw_at lw_m6 11 rfl) rfl
theorem q1342 : (Jvm.Cond.methodLink "LentSundaysLaw" (72 : Nat) ({ cls := "LentSundays", name := "alone", desc := "(II)I" } : Jvm.MethodName)) ∈ lw_all := lw_g (lw_at lw_m6 15 rfl) rfl
theorem q1365 : (Jvm.Cond.methodLink "LentSundaysLaw" (76 : Nat) ({ cls := "LentSundays", name := "letting", desc := "(I)I" } : Jvm.MethodName)) ∈ lw_all := lw_g (lw_at lw_m6 38 rfl) rfl
theorem q1377 : (Jvm.Cond.methodLink "LentSundaysLaw" (80 : Nat) ({ cls := "LentSundays", name := "fewest", desc := "(I)I" } : Jvm.MethodName)) ∈ lw_all := lw_g (lw_at lw_m6 50 rfl) rfl
theorem q1390 : (Jvm.Cond.methodLink "LentSundaysLaw" (84 : Nat) ({ cls := "LentSundays", name := "colours", desc := "()I" } : Jvm.MethodName)) ∈ lw_all := lw_g (lw_at lw_m6 63 rfl) rfl
theorem q1395 : (Jvm.Cond.methodLink "LentSundaysLaw" (88 : Nat) ({ cls := "LentSundays", name := "tangle", desc := "(I)I" } : Jvm.MethodName)) ∈ lw_all := lw_g (lw_at lw_m6 68 rfl) rfl
theorem q1403 : (Jvm.Cond.methodLink "LentSundaysLaw" (92 : Nat) ({ cls := "LentSundays", name := "fitting", desc := "(I)I" } : Jvm.MethodName)) ∈ lw_all := lw_g (lw_at lw_m6 76 rfl) rfl
theorem q1407 : (Jvm.Cond.methodLink "LentSundaysLaw" (96 : Nat) ({ cls := "LentSundays", name := "row", desc := "(II)I" } : Jvm.MethodName)) ∈ lw_all := lw_g (lw_at lw_m6 80 rfl) rfl
theorem q1411 : (Jvm.Cond.methodLink "LentSundaysLaw" (100 : Nat) ({ cls := "LentSundays", name := "change", desc := "(II)I" } : Jvm.MethodName)) ∈ lw_all := lw_g (lw_at lw_m6 84 rfl) rfl
theorem q1415 : (Jvm.Cond.methodLink "LentSundaysLaw" (104 : Nat) ({ cls := "LentSundays", name := "payer", desc := "(I)I" } : Jvm.MethodName)) ∈ lw_all := lw_g (lw_at lw_m6 88 rfl) rfl
theorem q1419 : (Jvm.Cond.methodLink "LentSundaysLaw" (108 : Nat) ({ cls := "LentSundays", name := "idle", desc := "()I" } : Jvm.MethodName)) ∈ lw_all := lw_g (lw_at lw_m6 92 rfl) rfl
theorem q1424 : (Jvm.Cond.methodLink "LentSundaysLaw" (120 : Nat) ({ cls := "LentSundays", name := "gap", desc := "(II)I" } : Jvm.MethodName)) ∈ lw_all := lw_g (lw_at lw_m6 97 rfl) rfl
theorem q1428 : (Jvm.Cond.methodLink "LentSundaysLaw" (124 : Nat) ({ cls := "LentSundays", name := "room", desc := "(I)I" } : Jvm.MethodName)) ∈ lw_all := lw_g (lw_at lw_m6 101 rfl) rfl
theorem q1432 : (Jvm.Cond.methodLink "LentSundaysLaw" (145 : Nat) ({ cls := "LentSundays", name := "rivals", desc := "(I)I" } : Jvm.MethodName)) ∈ lw_all := lw_g (lw_at lw_m6 105 rfl) rfl
theorem q1436 : (Jvm.Cond.methodLink "LentSundaysLaw" (128 : Nat) ({ cls := "LentSundays", name := "price", desc := "(II)I" } : Jvm.MethodName)) ∈ lw_all := lw_g (lw_at lw_m6 109 rfl) rfl
theorem q1440 : (Jvm.Cond.methodLink "LentSundaysLaw" (132 : Nat) ({ cls := "LentSundays", name := "best", desc := "(III)I" } : Jvm.MethodName)) ∈ lw_all := lw_g (lw_at lw_m6 113 rfl) rfl
theorem q1444 : (Jvm.Cond.methodLink "LentSundaysLaw" (137 : Nat) ({ cls := "LentSundays", name := "weary", desc := "(I)I" } : Jvm.MethodName)) ∈ lw_all := lw_g (lw_at lw_m6 117 rfl) rfl
theorem q1448 : (Jvm.Cond.methodLink "LentSundaysLaw" (112 : Nat) ({ cls := "LentSundays", name := "used", desc := "(II)I" } : Jvm.MethodName)) ∈ lw_all := lw_g (lw_at lw_m6 121 rfl) rfl
theorem q1452 : (Jvm.Cond.methodLink "LentSundaysLaw" (116 : Nat) ({ cls := "LentSundays", name := "first", desc := "(I)I" } : Jvm.MethodName)) ∈ lw_all := lw_g (lw_at lw_m6 125 rfl) rfl
theorem q1457 : (Jvm.Cond.methodLink "LentSundaysLaw" (141 : Nat) ({ cls := "LentSundays", name := "earned", desc := "(I)I" } : Jvm.MethodName)) ∈ lw_all := lw_g (lw_at lw_m6 130 rfl) rfl
theorem q1461 : (Jvm.Cond.methodLink "LentSundaysLaw" (149 : Nat) ({ cls := "LentSundays", name := "then", desc := "(III)I" } : Jvm.MethodName)) ∈ lw_all := lw_g (lw_at lw_m6 134 rfl) rfl
theorem q1465 : (Jvm.Cond.methodLink "LentSundaysLaw" (153 : Nat) ({ cls := "LentSundays", name := "wornIn", desc := "(II)I" } : Jvm.MethodName)) ∈ lw_all := lw_g (lw_at lw_m6 138 rfl) rfl
theorem q1469 : (Jvm.Cond.methodLink "LentSundaysLaw" (157 : Nat) ({ cls := "LentSundays", name := "year", desc := "(III)I" } : Jvm.MethodName)) ∈ lw_all := lw_g (lw_at lw_m6 142 rfl) rfl
theorem q1473 : (Jvm.Cond.methodLink "LentSundaysLaw" (161 : Nat) ({ cls := "LentSundays", name := "tell", desc := "(IZ)I" } : Jvm.MethodName)) ∈ lw_all := lw_g (lw_at lw_m6 146 rfl) rfl
theorem q1477 : (Jvm.Cond.methodLink "LentSundaysLaw" (166 : Nat) ({ cls := "LentSundays", name := "forget", desc := "()I" } : Jvm.MethodName)) ∈ lw_all := lw_g (lw_at lw_m6 150 rfl) rfl
theorem q1481 : (Jvm.Cond.methodLink "LentSundaysLaw" (170 : Nat) ({ cls := "LentSundays", name := "whose", desc := "(II)I" } : Jvm.MethodName)) ∈ lw_all := lw_g (lw_at lw_m6 154 rfl) rfl
theorem q1489 : (Jvm.Cond.methodLink "LentSundaysLaw" (174 : Nat) ({ cls := "LentSundays", name := "look", desc := "(I)I" } : Jvm.MethodName)) ∈ lw_all := lw_g (lw_at lw_m6 162 rfl) rfl
theorem q1493 : (Jvm.Cond.methodLink "LentSundaysLaw" (178 : Nat) ({ cls := "LentSundays", name := "hold", desc := "(I)Z" } : Jvm.MethodName)) ∈ lw_all := lw_g (lw_at lw_m6 166 rfl) rfl
theorem q1497 : (Jvm.Cond.methodLink "LentSundaysLaw" (182 : Nat) ({ cls := "LentSundays", name := "restore", desc := "(I)Z" } : Jvm.MethodName)) ∈ lw_all := lw_g (lw_at lw_m6 170 rfl) rfl
theorem q1501 : (Jvm.Cond.methodLink "LentSundaysLaw" (186 : Nat) ({ cls := "LentSundays", name := "count", desc := "(I)I" } : Jvm.MethodName)) ∈ lw_all := lw_g (lw_at lw_m6 174 rfl) rfl
theorem q1510 : (Jvm.Cond.classLink "LentSundaysLaw" (10 : Nat) "LentSundaysModel") ∈ lw_all := lw_g (lw_at lw_m6 183 rfl) rfl
theorem q1512 : (Jvm.Cond.methodLink "LentSundaysLaw" (12 : Nat) ({ cls := "LentSundaysModel", name := "<init>", desc := "()V" } : Jvm.MethodName)) ∈ lw_all := lw_g (lw_at lw_m6 185 rfl) rfl
theorem q1737 : (Jvm.Cond.methodLink "LentSundaysLaw" (17 : Nat) ({ cls := "LentSundaysModel", name := "feed", desc := "(IIIII)I" } : Jvm.MethodName)) ∈ lw_all := lw_g (lw_at lw_m7 170 rfl) rfl
theorem q1745 : (Jvm.Cond.methodLink "LentSundaysLaw" (22 : Nat) ({ cls := "LentSundaysModel", name := "back", desc := "(I)I" } : Jvm.MethodName)) ∈ lw_all := lw_g (lw_at lw_m7 178 rfl) rfl
theorem q1749 : (Jvm.Cond.methodLink "LentSundaysLaw" (27 : Nat) ({ cls := "LentSundaysModel", name := "read", desc := "()I" } : Jvm.MethodName)) ∈ lw_all := lw_g (lw_at lw_m7 182 rfl) rfl
theorem q1851 : (Jvm.Cond.methodLink "LentSundaysLaw" (31 : Nat) ({ cls := "LentSundaysModel", name := "place", desc := "()I" } : Jvm.MethodName)) ∈ lw_all := lw_g (lw_at lw_m8 44 rfl) rfl
theorem q1855 : (Jvm.Cond.methodLink "LentSundaysLaw" (36 : Nat) ({ cls := "LentSundaysModel", name := "sunday", desc := "(II)I" } : Jvm.MethodName)) ∈ lw_all := lw_g (lw_at lw_m8 48 rfl) rfl
theorem q1908 : (Jvm.Cond.methodLink "LentSundaysLaw" (40 : Nat) ({ cls := "LentSundaysModel", name := "guest", desc := "(II)I" } : Jvm.MethodName)) ∈ lw_all := lw_g (lw_at lw_m8 101 rfl) rfl
theorem q1944 : (Jvm.Cond.methodLink "LentSundaysLaw" (44 : Nat) ({ cls := "LentSundaysModel", name := "at", desc := "(II)I" } : Jvm.MethodName)) ∈ lw_all := lw_g (lw_at lw_m8 137 rfl) rfl
theorem q1956 : (Jvm.Cond.methodLink "LentSundaysLaw" (49 : Nat) ({ cls := "LentSundaysModel", name := "letIn", desc := "(II)Z" } : Jvm.MethodName)) ∈ lw_all := lw_g (lw_at lw_m8 149 rfl) rfl
theorem q1980 : (Jvm.Cond.methodLink "LentSundaysLaw" (54 : Nat) ({ cls := "LentSundaysModel", name := "putOut", desc := "(I)Z" } : Jvm.MethodName)) ∈ lw_all := lw_g (lw_at lw_m8 173 rfl) rfl
theorem q1984 : (Jvm.Cond.methodLink "LentSundaysLaw" (58 : Nat) ({ cls := "LentSundaysModel", name := "sell", desc := "(I)I" } : Jvm.MethodName)) ∈ lw_all := lw_g (lw_at lw_m8 177 rfl) rfl
theorem q1988 : (Jvm.Cond.methodLink "LentSundaysLaw" (62 : Nat) ({ cls := "LentSundaysModel", name := "air", desc := "(I)Z" } : Jvm.MethodName)) ∈ lw_all := lw_g (lw_at lw_m8 181 rfl) rfl
theorem q1992 : (Jvm.Cond.methodLink "LentSundaysLaw" (66 : Nat) ({ cls := "LentSundaysModel", name := "weeks", desc := "(I)I" } : Jvm.MethodName)) ∈ lw_all := lw_g (lw_at lw_m8 185 rfl) rfl
theorem q2027 : (Jvm.Cond.methodLink "LentSundaysLaw" (71 : Nat) ({ cls := "LentSundaysModel", name := "undo", desc := "()Z" } : Jvm.MethodName)) ∈ lw_all := lw_g (lw_at lw_m8 220 rfl) rfl
theorem q2031 : (Jvm.Cond.methodLink "LentSundaysLaw" (75 : Nat) ({ cls := "LentSundaysModel", name := "alone", desc := "(II)I" } : Jvm.MethodName)) ∈ lw_all := lw_g (lw_at lw_m8 224 rfl) rfl
theorem q2046 : (Jvm.Cond.methodLink "LentSundaysLaw" (79 : Nat) ({ cls := "LentSundaysModel", name := "letting", desc := "(I)I" } : Jvm.MethodName)) ∈ lw_all := lw_g (lw_at lw_m8 239 rfl) rfl
theorem q2073 : (Jvm.Cond.methodLink "LentSundaysLaw" (83 : Nat) ({ cls := "LentSundaysModel", name := "fewest", desc := "(I)I" } : Jvm.MethodName)) ∈ lw_all := lw_g (lw_at lw_m9 26 rfl) rfl
theorem q2081 : (Jvm.Cond.methodLink "LentSundaysLaw" (87 : Nat) ({ cls := "LentSundaysModel", name := "colours", desc := "()I" } : Jvm.MethodName)) ∈ lw_all := lw_g (lw_at lw_m9 34 rfl) rfl
theorem q2089 : (Jvm.Cond.methodLink "LentSundaysLaw" (91 : Nat) ({ cls := "LentSundaysModel", name := "tangle", desc := "(I)I" } : Jvm.MethodName)) ∈ lw_all := lw_g (lw_at lw_m9 42 rfl) rfl
theorem q2097 : (Jvm.Cond.methodLink "LentSundaysLaw" (148 : Nat) ({ cls := "LentSundaysModel", name := "rivals", desc := "(I)I" } : Jvm.MethodName)) ∈ lw_all := lw_g (lw_at lw_m9 50 rfl) rfl
theorem q2101 : (Jvm.Cond.methodLink "LentSundaysLaw" (95 : Nat) ({ cls := "LentSundaysModel", name := "fitting", desc := "(I)I" } : Jvm.MethodName)) ∈ lw_all := lw_g (lw_at lw_m9 54 rfl) rfl
theorem q2109 : (Jvm.Cond.methodLink "LentSundaysLaw" (99 : Nat) ({ cls := "LentSundaysModel", name := "row", desc := "(II)I" } : Jvm.MethodName)) ∈ lw_all := lw_g (lw_at lw_m9 62 rfl) rfl
theorem q2113 : (Jvm.Cond.methodLink "LentSundaysLaw" (103 : Nat) ({ cls := "LentSundaysModel", name := "change", desc := "(II)I" } : Jvm.MethodName)) ∈ lw_all := lw_g (lw_at lw_m9 66 rfl) rfl
theorem q2117 : (Jvm.Cond.methodLink "LentSundaysLaw" (127 : Nat) ({ cls := "LentSundaysModel", name := "room", desc := "(I)I" } : Jvm.MethodName)) ∈ lw_all := lw_g (lw_at lw_m9 70 rfl) rfl
theorem q2121 : (Jvm.Cond.methodLink "LentSundaysLaw" (107 : Nat) ({ cls := "LentSundaysModel", name := "payer", desc := "(I)I" } : Jvm.MethodName)) ∈ lw_all := lw_g (lw_at lw_m9 74 rfl) rfl
theorem q2125 : (Jvm.Cond.methodLink "LentSundaysLaw" (111 : Nat) ({ cls := "LentSundaysModel", name := "idle", desc := "()I" } : Jvm.MethodName)) ∈ lw_all := lw_g (lw_at lw_m9 78 rfl) rfl
theorem q2129 : (Jvm.Cond.methodLink "LentSundaysLaw" (123 : Nat) ({ cls := "LentSundaysModel", name := "gap", desc := "(II)I" } : Jvm.MethodName)) ∈ lw_all := lw_g (lw_at lw_m9 82 rfl) rfl
theorem q2133 : (Jvm.Cond.methodLink "LentSundaysLaw" (115 : Nat) ({ cls := "LentSundaysModel", name := "used", desc := "(II)I" } : Jvm.MethodName)) ∈ lw_all := lw_g (lw_at lw_m9 86 rfl) rfl
theorem q2141 : (Jvm.Cond.methodLink "LentSundaysLaw" (119 : Nat) ({ cls := "LentSundaysModel", name := "first", desc := "(I)I" } : Jvm.MethodName)) ∈ lw_all := lw_g (lw_at lw_m9 94 rfl) rfl
theorem q2149 : (Jvm.Cond.methodLink "LentSundaysLaw" (140 : Nat) ({ cls := "LentSundaysModel", name := "weary", desc := "(I)I" } : Jvm.MethodName)) ∈ lw_all := lw_g (lw_at lw_m9 102 rfl) rfl
theorem q2153 : (Jvm.Cond.methodLink "LentSundaysLaw" (131 : Nat) ({ cls := "LentSundaysModel", name := "price", desc := "(II)I" } : Jvm.MethodName)) ∈ lw_all := lw_g (lw_at lw_m9 106 rfl) rfl
theorem q2161 : (Jvm.Cond.methodLink "LentSundaysLaw" (136 : Nat) ({ cls := "LentSundaysModel", name := "best", desc := "(III)I" } : Jvm.MethodName)) ∈ lw_all := lw_g (lw_at lw_m9 114 rfl) rfl
theorem q2165 : (Jvm.Cond.methodLink "LentSundaysLaw" (144 : Nat) ({ cls := "LentSundaysModel", name := "earned", desc := "(I)I" } : Jvm.MethodName)) ∈ lw_all := lw_g (lw_at lw_m9 118 rfl) rfl
theorem q2169 : (Jvm.Cond.methodLink "LentSundaysLaw" (152 : Nat) ({ cls := "LentSundaysModel", name := "then", desc := "(III)I" } : Jvm.MethodName)) ∈ lw_all := lw_g (lw_at lw_m9 122 rfl) rfl
theorem q2173 : (Jvm.Cond.methodLink "LentSundaysLaw" (156 : Nat) ({ cls := "LentSundaysModel", name := "wornIn", desc := "(II)I" } : Jvm.MethodName)) ∈ lw_all := lw_g (lw_at lw_m9 126 rfl) rfl
theorem q2177 : (Jvm.Cond.methodLink "LentSundaysLaw" (160 : Nat) ({ cls := "LentSundaysModel", name := "year", desc := "(III)I" } : Jvm.MethodName)) ∈ lw_all := lw_g (lw_at lw_m9 130 rfl) rfl
theorem q2181 : (Jvm.Cond.methodLink "LentSundaysLaw" (165 : Nat) ({ cls := "LentSundaysModel", name := "tell", desc := "(IZ)I" } : Jvm.MethodName)) ∈ lw_all := lw_g (lw_at lw_m9 134 rfl) rfl
theorem q2185 : (Jvm.Cond.methodLink "LentSundaysLaw" (169 : Nat) ({ cls := "LentSundaysModel", name := "forget", desc := "()I" } : Jvm.MethodName)) ∈ lw_all := lw_g (lw_at lw_m9 138 rfl) rfl
theorem q2189 : (Jvm.Cond.methodLink "LentSundaysLaw" (173 : Nat) ({ cls := "LentSundaysModel", name := "whose", desc := "(II)I" } : Jvm.MethodName)) ∈ lw_all := lw_g (lw_at lw_m9 142 rfl) rfl
theorem q2201 : (Jvm.Cond.methodLink "LentSundaysLaw" (177 : Nat) ({ cls := "LentSundaysModel", name := "look", desc := "(I)I" } : Jvm.MethodName)) ∈ lw_all := lw_g (lw_at lw_m9 154 rfl) rfl
theorem q2205 : (Jvm.Cond.methodLink "LentSundaysLaw" (181 : Nat) ({ cls := "LentSundaysModel", name := "hold", desc := "(I)Z" } : Jvm.MethodName)) ∈ lw_all := lw_g (lw_at lw_m9 158 rfl) rfl
theorem q2209 : (Jvm.Cond.methodLink "LentSundaysLaw" (185 : Nat) ({ cls := "LentSundaysModel", name := "restore", desc := "(I)Z" } : Jvm.MethodName)) ∈ lw_all := lw_g (lw_at lw_m9 162 rfl) rfl
theorem q2213 : (Jvm.Cond.methodLink "LentSundaysLaw" (189 : Nat) ({ cls := "LentSundaysModel", name := "count", desc := "(I)I" } : Jvm.MethodName)) ∈ lw_all := lw_g (lw_at lw_m9 166 rfl) rfl
theorem q863 : (Jvm.Cond.sameMethod "[B" "java/lang/Object" "clone" "()Ljava/lang/Object;") ∈ lw_all := lw_g (lw_at lw_m4 16 rfl) rfl
set_option maxRecDepth 100000
theorem q866 : (Jvm.Cond.selects "[B" ({ cls := "[B", name := "clone", desc := "()Ljava/lang/Object;" } : Jvm.MethodName) ({ cls := "java/lang/Object", name := "clone", desc := "()Ljava/lang/Object;" } : Jvm.MethodName)) ∈ lw_all := lw_g (lw_at lw_m4 19 rfl) rfl
theorem q867 : (Jvm.Cond.castable "[B" "java/lang/Cloneable") ∈ lw_tbl := lw_at lw_m4 20 rfl
theorem q2256 : (Jvm.Cond.castable "[B" "java/lang/Object") ∈ lw_tbl := lw_at lw_m9 209 rfl
theorem q2260 : (Jvm.Cond.castable "[I" "java/lang/Object") ∈ lw_tbl := lw_at lw_m9 213 rfl
set_option maxRecDepth 100000
theorem q2266 : (Jvm.Cond.castable "[J" "java/lang/Object") ∈ lw_tbl := lw_at lw_m9 219 rfl
set_option maxRecDepth 100000
theorem q2261 : (Jvm.Cond.castable "[LLentSundays$House;" "java/lang/Object") ∈ lw_tbl := lw_at lw_m9 214 rfl
set_option maxRecDepth 100000
theorem q2259 : (Jvm.Cond.castable "[LLentSundays$Law;" "java/lang/Object") ∈ lw_tbl := lw_at lw_m9 212 rfl
set_option maxRecDepth 100000
theorem q2264 : (Jvm.Cond.castable "[LLentSundays$Sum;" "java/lang/Object") ∈ lw_tbl := lw_at lw_m9 217 rfl
set_option maxRecDepth 100000
theorem q2253 : (Jvm.Cond.sameMethod "[Ljava/lang/Object;" "java/lang/Object" "getClass" "()Ljava/lang/Class;") ∈ lw_all := lw_g (lw_at lw_m9 206 rfl) rfl
set_option maxRecDepth 100000
theorem q2254 : (Jvm.Cond.selects "[Ljava/lang/Object;" ({ cls := "java/lang/Object", name := "getClass", desc := "()Ljava/lang/Class;" } : Jvm.MethodName) ({ cls := "java/lang/Object", name := "getClass", desc := "()Ljava/lang/Class;" } : Jvm.MethodName)) ∈ lw_all := lw_g (lw_at lw_m9 207 rfl) rfl
theorem q2265 : (Jvm.Cond.castable "[Ljava/lang/Object;" "java/lang/Object") ∈ lw_tbl := lw_at lw_m9 218 rfl
theorem q2257 : (Jvm.Cond.castable "[Ljava/lang/String;" "java/lang/Object") ∈ lw_tbl := lw_at lw_m9 210 rfl
set_option maxRecDepth 100000
theorem q2258 : (Jvm.Cond.castable "[S" "java/lang/Object") ∈ lw_tbl := lw_at lw_m9 211 rfl
set_option maxRecDepth 100000
theorem q2263 : (Jvm.Cond.castable "[Z" "java/lang/Object") ∈ lw_tbl := lw_at lw_m9 216 rfl
set_option maxRecDepth 100000
theorem q2262 : (Jvm.Cond.castable "[[I" "java/lang/Object") ∈ lw_tbl := lw_at lw_m9 215 rfl
set_option maxRecDepth 100000
theorem q161 : (Jvm.Cond.initialized "java/lang/System") ∈ lw_all := lw_g (lw_at lw_m1 34 rfl) rfl
set_option maxRecDepth 100000
theorem q873 : (Jvm.Cond.static ({ cls := "java/lang/System", name := "arraycopy", desc := "(Ljava/lang/Object;ILjava/lang/Object;II)V" } : Jvm.MethodName)) ∈ lw_all := lw_g (lw_at lw_m4 26 rfl) rfl
theorem q874 : (Jvm.Cond.native ({ cls := "java/lang/System", name := "arraycopy", desc := "(Ljava/lang/Object;ILjava/lang/Object;II)V" } : Jvm.MethodName)) ∈ lw_all := lw_g (lw_at lw_m4 27 rfl) rfl
theorem q246 : (Jvm.Cond.arrayClass Jvm.ClassFile.FieldType.byte) ∈ lw_all := lw_g (lw_at lw_m1 119 rfl) rfl
set_option maxRecDepth 100000
theorem q254 : (Jvm.Cond.arrayOver (Jvm.ClassFile.FieldType.object "java/lang/String")) ∈ lw_tbl := lw_at lw_m1 127 rfl
theorem q306 : (Jvm.Cond.arrayClass Jvm.ClassFile.FieldType.short) ∈ lw_all := lw_g (lw_at lw_m1 179 rfl) rfl
theorem q368 : (Jvm.Cond.arrayOver (Jvm.ClassFile.FieldType.object "LentSundays$Law")) ∈ lw_tbl := lw_at lw_m2 1 rfl
theorem q424 : (Jvm.Cond.arrayClass Jvm.ClassFile.FieldType.int) ∈ lw_all := lw_g (lw_at lw_m2 57 rfl) rfl
theorem q470 : (Jvm.Cond.arrayOver (Jvm.ClassFile.FieldType.object "LentSundays$House")) ∈ lw_tbl := lw_at lw_m2 103 rfl
theorem q489 : (Jvm.Cond.arrayOver (Jvm.ClassFile.FieldType.array Jvm.ClassFile.FieldType.int)) ∈ lw_tbl := lw_at lw_m2 122 rfl
theorem q558 : (Jvm.Cond.arrayClass Jvm.ClassFile.FieldType.boolean) ∈ lw_all := lw_g (lw_at lw_m2 191 rfl) rfl
theorem q692 : (Jvm.Cond.arrayOver (Jvm.ClassFile.FieldType.object "LentSundays$Sum")) ∈ lw_tbl := lw_at lw_m3 85 rfl
theorem q1071 : (Jvm.Cond.arrayOver (Jvm.ClassFile.FieldType.object "java/lang/Object")) ∈ lw_tbl := lw_at lw_m4 224 rfl
theorem q1736 : (Jvm.Cond.arrayClass Jvm.ClassFile.FieldType.long) ∈ lw_all := lw_g (lw_at lw_m7 169 rfl) rfl
