/-! RaisedPress -/
set_option maxRecDepth 100000
def RX0 : String := "RaisedPress"
def TX0 : u_T := fun k => match k with
  | 0 => ("RaisedPress", "trays", "[LRaisedPress$Tray;", true)
  | 1 => ("RaisedPress", "bad", "LRaisedPress$Bad;", true)
  | 2 => ("RaisedPress", "tape", "[B", true)
  | 3 => ("RaisedPress", "taped", "I", false)
  | 4 => ("RaisedPress", "faultKind", "I", false)
  | 5 => ("RaisedPress", "faultAt", "I", false)
  | 6 => ("RaisedPress", "refused", "LRaisedPress$Refused;", true)
  | 7 => ("RaisedPress", "status", "I", false)
  | 8 => ("RaisedPress", "above", "J", false)
  | 9 => ("RaisedPress", "under", "J", false)
  | 10 => ("RaisedPress", "now", "LRaisedPress$House;", true)
  | 11 => ("RaisedPress", "marks", "[LRaisedPress$House;", true)
  | 12 => ("RaisedPress", "markMany", "I", false)
  | 13 => ("RaisedPress", "setter", "LRaisedPress$Setter;", false)
  | 14 => ("RaisedPress", "raggedFrom", "[I", true)
  | 15 => ("RaisedPress", "row", "[I", true)
  | 16 => ("RaisedPress", "failing", "[I", true)
  | 17 => ("RaisedPress", "waysFrom", "[I", true)
  | 18 => ("RaisedPress", "firstRules", "[I", true)
  | 19 => ("RaisedPress", "firstMany", "I", false)
  | 20 => ("RaisedPress", "firstLetters", "I", false)
  | 21 => ("RaisedPress", "word", "[B", true)
  | 22 => ("RaisedPress", "hanging", "[I", true)
  | 23 => ("RaisedPress", "settled", "[Z", true)
  | 24 => ("RaisedPress", "left", "[I", true)
  | 25 => ("RaisedPress", "wornTold", "[I", true)
  | _ => ("RaisedPress", "wornMany", "I", false)
def tyX0 : Nat → FieldType := fun k => match k with
  | 0 => .array (.object "RaisedPress$Tray")
  | 1 => .object "RaisedPress$Bad"
  | 2 => .array .byte
  | 3 => .int
  | 4 => .int
  | 5 => .int
  | 6 => .object "RaisedPress$Refused"
  | 7 => .int
  | 8 => .long
  | 9 => .long
  | 10 => .object "RaisedPress$House"
  | 11 => .array (.object "RaisedPress$House")
  | 12 => .int
  | 13 => .object "RaisedPress$Setter"
  | 14 => .array .int
  | 15 => .array .int
  | 16 => .array .int
  | 17 => .array .int
  | 18 => .array .int
  | 19 => .int
  | 20 => .int
  | 21 => .array .byte
  | 22 => .array .int
  | 23 => .array .boolean
  | 24 => .array .int
  | 25 => .array .int
  | _ => .int
abbrev wsX00 : List Cond := u_ws RX0 TX0 27
set_option maxRecDepth 100000 in
theorem nmX0 : ∀ a, a < 27 → ∀ b, b < 27 → a ≠ b → (TX0 a).2.1 ≠ (TX0 b).2.1 := by decide +kernel
set_option maxRecDepth 100000 in
theorem tyX0_ok : ∀ k, k < 27 → parseFieldDescriptor (TX0 k).2.2.1 = some (tyX0 k) := by decide +kernel
abbrev cX0_init : ByteArray := prog_1_method_12_code
def yX0_init : MethodName := ⟨RX0, "<init>", "()V"⟩
def dkwX0_init_9 : List UInt8 := [188, 10, 181, 0, 111, 177]
abbrev dktX0_init_9 : List UInt8 := dkwX0_init_9 ++ []
def dkwX0_init_8 : List UInt8 := [181, 0, 101, 42, 16, 72, 188, 4, 181, 0, 104, 42, 17, 5, 120, 188, 10, 181, 0, 108, 42, 17, 5, 120]
abbrev dktX0_init_8 : List UInt8 := dkwX0_init_8 ++ dktX0_init_9
def dkwX0_init_7 : List UInt8 := [181, 0, 92, 42, 16, 20, 188, 10, 181, 0, 95, 42, 16, 120, 188, 8, 181, 0, 98, 42, 16, 72, 188, 10]
abbrev dktX0_init_7 : List UInt8 := dkwX0_init_7 ++ dktX0_init_8
def dkwX0_init_6 : List UInt8 := [181, 0, 83, 42, 16, 20, 188, 10, 181, 0, 86, 42, 16, 20, 188, 10, 181, 0, 89, 42, 16, 21, 188, 10]
abbrev dktX0_init_6 : List UInt8 := dkwX0_init_6 ++ dktX0_init_7
def dkwX0_init_5 : List UInt8 := [187, 0, 70, 89, 42, 42, 180, 0, 62, 180, 0, 72, 183, 0, 76, 181, 0, 79, 42, 17, 1, 45, 188, 10]
abbrev dktX0_init_5 : List UInt8 := dkwX0_init_5 ++ dktX0_init_6
def dkwX0_init_4 : List UInt8 := [181, 0, 55, 42, 187, 0, 59, 89, 183, 0, 61, 181, 0, 62, 42, 6, 189, 0, 59, 181, 0, 66, 42]
abbrev dktX0_init_4 : List UInt8 := dkwX0_init_4 ++ dktX0_init_5
def dkwX0_init_3 : List UInt8 := [42, 2, 181, 0, 41, 42, 2, 181, 0, 45, 42, 187, 0, 48, 89, 183, 0, 50, 181, 0, 51, 42, 10]
abbrev dktX0_init_3 : List UInt8 := dkwX0_init_3 ++ dktX0_init_4
def dkwX0_init_2 : List UInt8 := [83, 181, 0, 27, 42, 187, 0, 31, 89, 183, 0, 33, 181, 0, 34, 42, 17, 3, 132, 188, 8, 181, 0, 38]
abbrev dktX0_init_2 : List UInt8 := dkwX0_init_2 ++ dktX0_init_3
def dkwX0_init_1 : List UInt8 := [89, 183, 0, 26, 83, 89, 5, 187, 0, 24, 89, 183, 0, 26, 83, 89, 6, 187, 0, 24, 89, 183, 0, 26]
abbrev dktX0_init_1 : List UInt8 := dkwX0_init_1 ++ dktX0_init_2
def dkwX0_init_0 : List UInt8 := [42, 183, 0, 18, 42, 7, 189, 0, 24, 89, 3, 187, 0, 24, 89, 183, 0, 26, 83, 89, 4, 187, 0, 24]
abbrev dktX0_init_0 : List UInt8 := dkwX0_init_0 ++ dktX0_init_1
theorem dksX0_init_0 : cX0_init.data.toList.drop 0 = dktX0_init_0 := by decide +kernel
theorem dksX0_init_1 : cX0_init.data.toList.drop 24 = dktX0_init_1 := dk_seg dksX0_init_0 24 rfl rfl
theorem dksX0_init_2 : cX0_init.data.toList.drop 48 = dktX0_init_2 := dk_seg dksX0_init_1 24 rfl rfl
theorem dksX0_init_3 : cX0_init.data.toList.drop 72 = dktX0_init_3 := dk_seg dksX0_init_2 24 rfl rfl
theorem dksX0_init_4 : cX0_init.data.toList.drop 95 = dktX0_init_4 := dk_seg dksX0_init_3 23 rfl rfl
theorem dksX0_init_5 : cX0_init.data.toList.drop 118 = dktX0_init_5 := dk_seg dksX0_init_4 23 rfl rfl
theorem dksX0_init_6 : cX0_init.data.toList.drop 142 = dktX0_init_6 := dk_seg dksX0_init_5 24 rfl rfl
theorem dksX0_init_7 : cX0_init.data.toList.drop 166 = dktX0_init_7 := dk_seg dksX0_init_6 24 rfl rfl
theorem dksX0_init_8 : cX0_init.data.toList.drop 190 = dktX0_init_8 := dk_seg dksX0_init_7 24 rfl rfl
theorem dksX0_init_9 : cX0_init.data.toList.drop 214 = dktX0_init_9 := dk_seg dksX0_init_8 24 rfl rfl
theorem dX0_init_0 : decode cX0_init 0 = .ok (.aload_n 0, 1) := dk_42 (dk_at dksX0_init_0 0 rfl rfl)
theorem dX0_init_1 : decode cX0_init 1 = .ok (.invokespecial 18, 3) := dk_183 0 18 (dk_at dksX0_init_0 1 rfl rfl)
theorem dX0_init_4 : decode cX0_init 4 = .ok (.aload_n 0, 1) := dk_42 (dk_at dksX0_init_0 4 rfl rfl)
theorem dX0_init_5 : decode cX0_init 5 = .ok (.iconst 4, 1) := dk_7 (dk_at dksX0_init_0 5 rfl rfl)
theorem dX0_init_6 : decode cX0_init 6 = .ok (.anewarray 24, 3) := dk_189 0 24 (dk_at dksX0_init_0 6 rfl rfl)
theorem dX0_init_9 : decode cX0_init 9 = .ok (.dup, 1) := dk_89 (dk_at dksX0_init_0 9 rfl rfl)
theorem dX0_init_10 : decode cX0_init 10 = .ok (.iconst 0, 1) := dk_3 (dk_at dksX0_init_0 10 rfl rfl)
theorem dX0_init_11 : decode cX0_init 11 = .ok (.new 24, 3) := dk_187 0 24 (dk_at dksX0_init_0 11 rfl rfl)
theorem dX0_init_14 : decode cX0_init 14 = .ok (.dup, 1) := dk_89 (dk_at dksX0_init_0 14 rfl rfl)
theorem dX0_init_15 : decode cX0_init 15 = .ok (.invokespecial 26, 3) := dk_183 0 26 (dk_at dksX0_init_0 15 rfl rfl)
theorem dX0_init_18 : decode cX0_init 18 = .ok (.aastore, 1) := dk_83 (dk_at dksX0_init_0 18 rfl rfl)
theorem dX0_init_19 : decode cX0_init 19 = .ok (.dup, 1) := dk_89 (dk_at dksX0_init_0 19 rfl rfl)
theorem dX0_init_20 : decode cX0_init 20 = .ok (.iconst 1, 1) := dk_4 (dk_at dksX0_init_0 20 rfl rfl)
theorem dX0_init_21 : decode cX0_init 21 = .ok (.new 24, 3) := dk_187 0 24 (dk_at dksX0_init_0 21 rfl rfl)
theorem dX0_init_24 : decode cX0_init 24 = .ok (.dup, 1) := dk_89 (dk_at dksX0_init_1 0 rfl rfl)
theorem dX0_init_25 : decode cX0_init 25 = .ok (.invokespecial 26, 3) := dk_183 0 26 (dk_at dksX0_init_1 1 rfl rfl)
theorem dX0_init_28 : decode cX0_init 28 = .ok (.aastore, 1) := dk_83 (dk_at dksX0_init_1 4 rfl rfl)
theorem dX0_init_29 : decode cX0_init 29 = .ok (.dup, 1) := dk_89 (dk_at dksX0_init_1 5 rfl rfl)
theorem dX0_init_30 : decode cX0_init 30 = .ok (.iconst 2, 1) := dk_5 (dk_at dksX0_init_1 6 rfl rfl)
theorem dX0_init_31 : decode cX0_init 31 = .ok (.new 24, 3) := dk_187 0 24 (dk_at dksX0_init_1 7 rfl rfl)
theorem dX0_init_34 : decode cX0_init 34 = .ok (.dup, 1) := dk_89 (dk_at dksX0_init_1 10 rfl rfl)
theorem dX0_init_35 : decode cX0_init 35 = .ok (.invokespecial 26, 3) := dk_183 0 26 (dk_at dksX0_init_1 11 rfl rfl)
theorem dX0_init_38 : decode cX0_init 38 = .ok (.aastore, 1) := dk_83 (dk_at dksX0_init_1 14 rfl rfl)
theorem dX0_init_39 : decode cX0_init 39 = .ok (.dup, 1) := dk_89 (dk_at dksX0_init_1 15 rfl rfl)
theorem dX0_init_40 : decode cX0_init 40 = .ok (.iconst 3, 1) := dk_6 (dk_at dksX0_init_1 16 rfl rfl)
theorem dX0_init_41 : decode cX0_init 41 = .ok (.new 24, 3) := dk_187 0 24 (dk_at dksX0_init_1 17 rfl rfl)
theorem dX0_init_44 : decode cX0_init 44 = .ok (.dup, 1) := dk_89 (dk_at dksX0_init_1 20 rfl rfl)
theorem dX0_init_45 : decode cX0_init 45 = .ok (.invokespecial 26, 3) := dk_183 0 26 (dk_at dksX0_init_1 21 rfl rfl)
theorem dX0_init_48 : decode cX0_init 48 = .ok (.aastore, 1) := dk_83 (dk_at dksX0_init_2 0 rfl rfl)
theorem dX0_init_49 : decode cX0_init 49 = .ok (.putfield 27, 3) := dk_181 0 27 (dk_at dksX0_init_2 1 rfl rfl)
theorem dX0_init_52 : decode cX0_init 52 = .ok (.aload_n 0, 1) := dk_42 (dk_at dksX0_init_2 4 rfl rfl)
theorem dX0_init_53 : decode cX0_init 53 = .ok (.new 31, 3) := dk_187 0 31 (dk_at dksX0_init_2 5 rfl rfl)
theorem dX0_init_56 : decode cX0_init 56 = .ok (.dup, 1) := dk_89 (dk_at dksX0_init_2 8 rfl rfl)
theorem dX0_init_57 : decode cX0_init 57 = .ok (.invokespecial 33, 3) := dk_183 0 33 (dk_at dksX0_init_2 9 rfl rfl)
theorem dX0_init_60 : decode cX0_init 60 = .ok (.putfield 34, 3) := dk_181 0 34 (dk_at dksX0_init_2 12 rfl rfl)
theorem dX0_init_63 : decode cX0_init 63 = .ok (.aload_n 0, 1) := dk_42 (dk_at dksX0_init_2 15 rfl rfl)
theorem dX0_init_64 : decode cX0_init 64 = .ok (.sipush 900, 3) := dk_17 3 132 (dk_at dksX0_init_2 16 rfl rfl)
theorem dX0_init_67 : decode cX0_init 67 = .ok (.newarray .byte, 2) := dk_188_8 (dk_at dksX0_init_2 19 rfl rfl)
theorem dX0_init_69 : decode cX0_init 69 = .ok (.putfield 38, 3) := dk_181 0 38 (dk_at dksX0_init_2 21 rfl rfl)
theorem dX0_init_72 : decode cX0_init 72 = .ok (.aload_n 0, 1) := dk_42 (dk_at dksX0_init_3 0 rfl rfl)
theorem dX0_init_73 : decode cX0_init 73 = .ok (.iconst (-1), 1) := dk_2 (dk_at dksX0_init_3 1 rfl rfl)
theorem dX0_init_74 : decode cX0_init 74 = .ok (.putfield 41, 3) := dk_181 0 41 (dk_at dksX0_init_3 2 rfl rfl)
theorem dX0_init_77 : decode cX0_init 77 = .ok (.aload_n 0, 1) := dk_42 (dk_at dksX0_init_3 5 rfl rfl)
theorem dX0_init_78 : decode cX0_init 78 = .ok (.iconst (-1), 1) := dk_2 (dk_at dksX0_init_3 6 rfl rfl)
theorem dX0_init_79 : decode cX0_init 79 = .ok (.putfield 45, 3) := dk_181 0 45 (dk_at dksX0_init_3 7 rfl rfl)
theorem dX0_init_82 : decode cX0_init 82 = .ok (.aload_n 0, 1) := dk_42 (dk_at dksX0_init_3 10 rfl rfl)
theorem dX0_init_83 : decode cX0_init 83 = .ok (.new 48, 3) := dk_187 0 48 (dk_at dksX0_init_3 11 rfl rfl)
theorem dX0_init_86 : decode cX0_init 86 = .ok (.dup, 1) := dk_89 (dk_at dksX0_init_3 14 rfl rfl)
theorem dX0_init_87 : decode cX0_init 87 = .ok (.invokespecial 50, 3) := dk_183 0 50 (dk_at dksX0_init_3 15 rfl rfl)
theorem dX0_init_90 : decode cX0_init 90 = .ok (.putfield 51, 3) := dk_181 0 51 (dk_at dksX0_init_3 18 rfl rfl)
theorem dX0_init_93 : decode cX0_init 93 = .ok (.aload_n 0, 1) := dk_42 (dk_at dksX0_init_3 21 rfl rfl)
theorem dX0_init_94 : decode cX0_init 94 = .ok (.lconst 1, 1) := dk_10 (dk_at dksX0_init_3 22 rfl rfl)
theorem dX0_init_95 : decode cX0_init 95 = .ok (.putfield 55, 3) := dk_181 0 55 (dk_at dksX0_init_4 0 rfl rfl)
theorem dX0_init_98 : decode cX0_init 98 = .ok (.aload_n 0, 1) := dk_42 (dk_at dksX0_init_4 3 rfl rfl)
theorem dX0_init_99 : decode cX0_init 99 = .ok (.new 59, 3) := dk_187 0 59 (dk_at dksX0_init_4 4 rfl rfl)
theorem dX0_init_102 : decode cX0_init 102 = .ok (.dup, 1) := dk_89 (dk_at dksX0_init_4 7 rfl rfl)
theorem dX0_init_103 : decode cX0_init 103 = .ok (.invokespecial 61, 3) := dk_183 0 61 (dk_at dksX0_init_4 8 rfl rfl)
theorem dX0_init_106 : decode cX0_init 106 = .ok (.putfield 62, 3) := dk_181 0 62 (dk_at dksX0_init_4 11 rfl rfl)
theorem dX0_init_109 : decode cX0_init 109 = .ok (.aload_n 0, 1) := dk_42 (dk_at dksX0_init_4 14 rfl rfl)
theorem dX0_init_110 : decode cX0_init 110 = .ok (.iconst 3, 1) := dk_6 (dk_at dksX0_init_4 15 rfl rfl)
theorem dX0_init_111 : decode cX0_init 111 = .ok (.anewarray 59, 3) := dk_189 0 59 (dk_at dksX0_init_4 16 rfl rfl)
theorem dX0_init_114 : decode cX0_init 114 = .ok (.putfield 66, 3) := dk_181 0 66 (dk_at dksX0_init_4 19 rfl rfl)
theorem dX0_init_117 : decode cX0_init 117 = .ok (.aload_n 0, 1) := dk_42 (dk_at dksX0_init_4 22 rfl rfl)
theorem dX0_init_118 : decode cX0_init 118 = .ok (.new 70, 3) := dk_187 0 70 (dk_at dksX0_init_5 0 rfl rfl)
theorem dX0_init_121 : decode cX0_init 121 = .ok (.dup, 1) := dk_89 (dk_at dksX0_init_5 3 rfl rfl)
theorem dX0_init_122 : decode cX0_init 122 = .ok (.aload_n 0, 1) := dk_42 (dk_at dksX0_init_5 4 rfl rfl)
theorem dX0_init_123 : decode cX0_init 123 = .ok (.aload_n 0, 1) := dk_42 (dk_at dksX0_init_5 5 rfl rfl)
theorem dX0_init_124 : decode cX0_init 124 = .ok (.getfield 62, 3) := dk_180 0 62 (dk_at dksX0_init_5 6 rfl rfl)
theorem dX0_init_127 : decode cX0_init 127 = .ok (.getfield 72, 3) := dk_180 0 72 (dk_at dksX0_init_5 9 rfl rfl)
theorem dX0_init_130 : decode cX0_init 130 = .ok (.invokespecial 76, 3) := dk_183 0 76 (dk_at dksX0_init_5 12 rfl rfl)
theorem dX0_init_133 : decode cX0_init 133 = .ok (.putfield 79, 3) := dk_181 0 79 (dk_at dksX0_init_5 15 rfl rfl)
theorem dX0_init_136 : decode cX0_init 136 = .ok (.aload_n 0, 1) := dk_42 (dk_at dksX0_init_5 18 rfl rfl)
theorem dX0_init_137 : decode cX0_init 137 = .ok (.sipush 301, 3) := dk_17 1 45 (dk_at dksX0_init_5 19 rfl rfl)
theorem dX0_init_140 : decode cX0_init 140 = .ok (.newarray .int, 2) := dk_188_10 (dk_at dksX0_init_5 22 rfl rfl)
theorem dX0_init_142 : decode cX0_init 142 = .ok (.putfield 83, 3) := dk_181 0 83 (dk_at dksX0_init_6 0 rfl rfl)
theorem dX0_init_145 : decode cX0_init 145 = .ok (.aload_n 0, 1) := dk_42 (dk_at dksX0_init_6 3 rfl rfl)
theorem dX0_init_146 : decode cX0_init 146 = .ok (.bipush 20, 2) := dk_16 20 (dk_at dksX0_init_6 4 rfl rfl)
theorem dX0_init_148 : decode cX0_init 148 = .ok (.newarray .int, 2) := dk_188_10 (dk_at dksX0_init_6 6 rfl rfl)
theorem dX0_init_150 : decode cX0_init 150 = .ok (.putfield 86, 3) := dk_181 0 86 (dk_at dksX0_init_6 8 rfl rfl)
theorem dX0_init_153 : decode cX0_init 153 = .ok (.aload_n 0, 1) := dk_42 (dk_at dksX0_init_6 11 rfl rfl)
theorem dX0_init_154 : decode cX0_init 154 = .ok (.bipush 20, 2) := dk_16 20 (dk_at dksX0_init_6 12 rfl rfl)
theorem dX0_init_156 : decode cX0_init 156 = .ok (.newarray .int, 2) := dk_188_10 (dk_at dksX0_init_6 14 rfl rfl)
theorem dX0_init_158 : decode cX0_init 158 = .ok (.putfield 89, 3) := dk_181 0 89 (dk_at dksX0_init_6 16 rfl rfl)
theorem dX0_init_161 : decode cX0_init 161 = .ok (.aload_n 0, 1) := dk_42 (dk_at dksX0_init_6 19 rfl rfl)
theorem dX0_init_162 : decode cX0_init 162 = .ok (.bipush 21, 2) := dk_16 21 (dk_at dksX0_init_6 20 rfl rfl)
theorem dX0_init_164 : decode cX0_init 164 = .ok (.newarray .int, 2) := dk_188_10 (dk_at dksX0_init_6 22 rfl rfl)
theorem dX0_init_166 : decode cX0_init 166 = .ok (.putfield 92, 3) := dk_181 0 92 (dk_at dksX0_init_7 0 rfl rfl)
theorem dX0_init_169 : decode cX0_init 169 = .ok (.aload_n 0, 1) := dk_42 (dk_at dksX0_init_7 3 rfl rfl)
theorem dX0_init_170 : decode cX0_init 170 = .ok (.bipush 20, 2) := dk_16 20 (dk_at dksX0_init_7 4 rfl rfl)
theorem dX0_init_172 : decode cX0_init 172 = .ok (.newarray .int, 2) := dk_188_10 (dk_at dksX0_init_7 6 rfl rfl)
theorem dX0_init_174 : decode cX0_init 174 = .ok (.putfield 95, 3) := dk_181 0 95 (dk_at dksX0_init_7 8 rfl rfl)
theorem dX0_init_177 : decode cX0_init 177 = .ok (.aload_n 0, 1) := dk_42 (dk_at dksX0_init_7 11 rfl rfl)
theorem dX0_init_178 : decode cX0_init 178 = .ok (.bipush 120, 2) := dk_16 120 (dk_at dksX0_init_7 12 rfl rfl)
theorem dX0_init_180 : decode cX0_init 180 = .ok (.newarray .byte, 2) := dk_188_8 (dk_at dksX0_init_7 14 rfl rfl)
theorem dX0_init_182 : decode cX0_init 182 = .ok (.putfield 98, 3) := dk_181 0 98 (dk_at dksX0_init_7 16 rfl rfl)
theorem dX0_init_185 : decode cX0_init 185 = .ok (.aload_n 0, 1) := dk_42 (dk_at dksX0_init_7 19 rfl rfl)
theorem dX0_init_186 : decode cX0_init 186 = .ok (.bipush 72, 2) := dk_16 72 (dk_at dksX0_init_7 20 rfl rfl)
theorem dX0_init_188 : decode cX0_init 188 = .ok (.newarray .int, 2) := dk_188_10 (dk_at dksX0_init_7 22 rfl rfl)
theorem dX0_init_190 : decode cX0_init 190 = .ok (.putfield 101, 3) := dk_181 0 101 (dk_at dksX0_init_8 0 rfl rfl)
theorem dX0_init_193 : decode cX0_init 193 = .ok (.aload_n 0, 1) := dk_42 (dk_at dksX0_init_8 3 rfl rfl)
theorem dX0_init_194 : decode cX0_init 194 = .ok (.bipush 72, 2) := dk_16 72 (dk_at dksX0_init_8 4 rfl rfl)
theorem dX0_init_196 : decode cX0_init 196 = .ok (.newarray .boolean, 2) := dk_188_4 (dk_at dksX0_init_8 6 rfl rfl)
theorem dX0_init_198 : decode cX0_init 198 = .ok (.putfield 104, 3) := dk_181 0 104 (dk_at dksX0_init_8 8 rfl rfl)
theorem dX0_init_201 : decode cX0_init 201 = .ok (.aload_n 0, 1) := dk_42 (dk_at dksX0_init_8 11 rfl rfl)
theorem dX0_init_202 : decode cX0_init 202 = .ok (.sipush 1400, 3) := dk_17 5 120 (dk_at dksX0_init_8 12 rfl rfl)
theorem dX0_init_205 : decode cX0_init 205 = .ok (.newarray .int, 2) := dk_188_10 (dk_at dksX0_init_8 15 rfl rfl)
theorem dX0_init_207 : decode cX0_init 207 = .ok (.putfield 108, 3) := dk_181 0 108 (dk_at dksX0_init_8 17 rfl rfl)
theorem dX0_init_210 : decode cX0_init 210 = .ok (.aload_n 0, 1) := dk_42 (dk_at dksX0_init_8 20 rfl rfl)
theorem dX0_init_211 : decode cX0_init 211 = .ok (.sipush 1400, 3) := dk_17 5 120 (dk_at dksX0_init_8 21 rfl rfl)
theorem dX0_init_214 : decode cX0_init 214 = .ok (.newarray .int, 2) := dk_188_10 (dk_at dksX0_init_9 0 rfl rfl)
theorem dX0_init_216 : decode cX0_init 216 = .ok (.putfield 111, 3) := dk_181 0 111 (dk_at dksX0_init_9 2 rfl rfl)
theorem dX0_init_219 : decode cX0_init 219 = .ok (.return_, 1) := dk_177 (dk_at dksX0_init_9 5 rfl rfl)
abbrev cX0_status : ByteArray := prog_1_method_13_code
def yX0_status : MethodName := ⟨RX0, "status", "()I"⟩
theorem dX0_status_0 : decode cX0_status 0 = .ok (.aload_n 0, 1) := by decide +kernel
theorem dX0_status_1 : decode cX0_status 1 = .ok (.getfield 114, 3) := by decide +kernel
theorem dX0_status_4 : decode cX0_status 4 = .ok (.ireturn, 1) := by decide +kernel
abbrev cX0_top : ByteArray := prog_1_method_14_code
def yX0_top : MethodName := ⟨RX0, "top", "()J"⟩
theorem dX0_top_0 : decode cX0_top 0 = .ok (.aload_n 0, 1) := by decide +kernel
theorem dX0_top_1 : decode cX0_top 1 = .ok (.getfield 117, 3) := by decide +kernel
theorem dX0_top_4 : decode cX0_top 4 = .ok (.lreturn, 1) := by decide +kernel
abbrev cX0_bottom : ByteArray := prog_1_method_15_code
def yX0_bottom : MethodName := ⟨RX0, "bottom", "()J"⟩
theorem dX0_bottom_0 : decode cX0_bottom 0 = .ok (.aload_n 0, 1) := by decide +kernel
theorem dX0_bottom_1 : decode cX0_bottom 1 = .ok (.getfield 55, 3) := by decide +kernel
theorem dX0_bottom_4 : decode cX0_bottom 4 = .ok (.lreturn, 1) := by decide +kernel
abbrev cX0_tray : ByteArray := prog_1_method_21_code
def yX0_tray : MethodName := ⟨RX0, "tray", "(III)Z"⟩
def dkwX0_tray_3 : List UInt8 := [182, 0, 151, 172]
abbrev dktX0_tray_3 : List UInt8 := dkwX0_tray_3 ++ []
def dkwX0_tray_2 : List UInt8 := [184, 0, 146, 181, 0, 143, 4, 172, 58, 4, 42, 4, 181, 0, 114, 3, 172, 58, 4, 42, 25, 4]
abbrev dktX0_tray_2 : List UInt8 := dkwX0_tray_2 ++ dktX0_tray_3
def dkwX0_tray_1 : List UInt8 := [29, 16, 60, 163, 0, 7, 4, 167, 0, 4, 3, 4, 182, 0, 139, 42, 180, 0, 27, 27, 50, 28, 29]
abbrev dktX0_tray_1 : List UInt8 := dkwX0_tray_1 ++ dktX0_tray_2
def dkwX0_tray_0 : List UInt8 := [42, 3, 181, 0, 114, 42, 27, 155, 0, 27, 27, 7, 162, 0, 22, 28, 155, 0, 18, 28, 6, 163, 0, 13]
abbrev dktX0_tray_0 : List UInt8 := dkwX0_tray_0 ++ dktX0_tray_1
theorem dksX0_tray_0 : cX0_tray.data.toList.drop 0 = dktX0_tray_0 := by decide +kernel
theorem dksX0_tray_1 : cX0_tray.data.toList.drop 24 = dktX0_tray_1 := dk_seg dksX0_tray_0 24 rfl rfl
theorem dksX0_tray_2 : cX0_tray.data.toList.drop 47 = dktX0_tray_2 := dk_seg dksX0_tray_1 23 rfl rfl
theorem dksX0_tray_3 : cX0_tray.data.toList.drop 69 = dktX0_tray_3 := dk_seg dksX0_tray_2 22 rfl rfl
theorem dX0_tray_0 : decode cX0_tray 0 = .ok (.aload_n 0, 1) := dk_42 (dk_at dksX0_tray_0 0 rfl rfl)
theorem dX0_tray_1 : decode cX0_tray 1 = .ok (.iconst 0, 1) := dk_3 (dk_at dksX0_tray_0 1 rfl rfl)
theorem dX0_tray_2 : decode cX0_tray 2 = .ok (.putfield 114, 3) := dk_181 0 114 (dk_at dksX0_tray_0 2 rfl rfl)
theorem dX0_tray_5 : decode cX0_tray 5 = .ok (.aload_n 0, 1) := dk_42 (dk_at dksX0_tray_0 5 rfl rfl)
theorem dX0_tray_6 : decode cX0_tray 6 = .ok (.iload_n 1, 1) := dk_27 (dk_at dksX0_tray_0 6 rfl rfl)
theorem dX0_tray_7 : decode cX0_tray 7 = .ok (.ifCond .lt 27, 3) := dk_155 0 27 (dk_at dksX0_tray_0 7 rfl rfl)
theorem dX0_tray_10 : decode cX0_tray 10 = .ok (.iload_n 1, 1) := dk_27 (dk_at dksX0_tray_0 10 rfl rfl)
theorem dX0_tray_11 : decode cX0_tray 11 = .ok (.iconst 4, 1) := dk_7 (dk_at dksX0_tray_0 11 rfl rfl)
theorem dX0_tray_12 : decode cX0_tray 12 = .ok (.if_icmp .ge 22, 3) := dk_162 0 22 (dk_at dksX0_tray_0 12 rfl rfl)
theorem dX0_tray_15 : decode cX0_tray 15 = .ok (.iload_n 2, 1) := dk_28 (dk_at dksX0_tray_0 15 rfl rfl)
theorem dX0_tray_16 : decode cX0_tray 16 = .ok (.ifCond .lt 18, 3) := dk_155 0 18 (dk_at dksX0_tray_0 16 rfl rfl)
theorem dX0_tray_19 : decode cX0_tray 19 = .ok (.iload_n 2, 1) := dk_28 (dk_at dksX0_tray_0 19 rfl rfl)
theorem dX0_tray_20 : decode cX0_tray 20 = .ok (.iconst 3, 1) := dk_6 (dk_at dksX0_tray_0 20 rfl rfl)
theorem dX0_tray_21 : decode cX0_tray 21 = .ok (.if_icmp .gt 13, 3) := dk_163 0 13 (dk_at dksX0_tray_0 21 rfl rfl)
theorem dX0_tray_24 : decode cX0_tray 24 = .ok (.iload_n 3, 1) := dk_29 (dk_at dksX0_tray_1 0 rfl rfl)
theorem dX0_tray_25 : decode cX0_tray 25 = .ok (.bipush 60, 2) := dk_16 60 (dk_at dksX0_tray_1 1 rfl rfl)
theorem dX0_tray_27 : decode cX0_tray 27 = .ok (.if_icmp .gt 7, 3) := dk_163 0 7 (dk_at dksX0_tray_1 3 rfl rfl)
theorem dX0_tray_30 : decode cX0_tray 30 = .ok (.iconst 1, 1) := dk_4 (dk_at dksX0_tray_1 6 rfl rfl)
theorem dX0_tray_31 : decode cX0_tray 31 = .ok (.goto 4, 3) := dk_167 0 4 (dk_at dksX0_tray_1 7 rfl rfl)
theorem dX0_tray_34 : decode cX0_tray 34 = .ok (.iconst 0, 1) := dk_3 (dk_at dksX0_tray_1 10 rfl rfl)
theorem dX0_tray_35 : decode cX0_tray 35 = .ok (.iconst 1, 1) := dk_4 (dk_at dksX0_tray_1 11 rfl rfl)
theorem dX0_tray_36 : decode cX0_tray 36 = .ok (.invokevirtual 139, 3) := dk_182 0 139 (dk_at dksX0_tray_1 12 rfl rfl)
theorem dX0_tray_39 : decode cX0_tray 39 = .ok (.aload_n 0, 1) := dk_42 (dk_at dksX0_tray_1 15 rfl rfl)
theorem dX0_tray_40 : decode cX0_tray 40 = .ok (.getfield 27, 3) := dk_180 0 27 (dk_at dksX0_tray_1 16 rfl rfl)
theorem dX0_tray_43 : decode cX0_tray 43 = .ok (.iload_n 1, 1) := dk_27 (dk_at dksX0_tray_1 19 rfl rfl)
theorem dX0_tray_44 : decode cX0_tray 44 = .ok (.aaload, 1) := dk_50 (dk_at dksX0_tray_1 20 rfl rfl)
theorem dX0_tray_45 : decode cX0_tray 45 = .ok (.iload_n 2, 1) := dk_28 (dk_at dksX0_tray_1 21 rfl rfl)
theorem dX0_tray_46 : decode cX0_tray 46 = .ok (.iload_n 3, 1) := dk_29 (dk_at dksX0_tray_1 22 rfl rfl)
theorem dX0_tray_47 : decode cX0_tray 47 = .ok (.invokestatic 146, 3) := dk_184 0 146 (dk_at dksX0_tray_2 0 rfl rfl)
theorem dX0_tray_50 : decode cX0_tray 50 = .ok (.putfield 143, 3) := dk_181 0 143 (dk_at dksX0_tray_2 3 rfl rfl)
theorem dX0_tray_53 : decode cX0_tray 53 = .ok (.iconst 1, 1) := dk_4 (dk_at dksX0_tray_2 6 rfl rfl)
theorem dX0_tray_54 : decode cX0_tray 54 = .ok (.ireturn, 1) := dk_172 (dk_at dksX0_tray_2 7 rfl rfl)
theorem dX0_tray_55 : decode cX0_tray 55 = .ok (.astore 4, 2) := dk_58 4 (dk_at dksX0_tray_2 8 rfl rfl)
theorem dX0_tray_57 : decode cX0_tray 57 = .ok (.aload_n 0, 1) := dk_42 (dk_at dksX0_tray_2 10 rfl rfl)
theorem dX0_tray_58 : decode cX0_tray 58 = .ok (.iconst 1, 1) := dk_4 (dk_at dksX0_tray_2 11 rfl rfl)
theorem dX0_tray_59 : decode cX0_tray 59 = .ok (.putfield 114, 3) := dk_181 0 114 (dk_at dksX0_tray_2 12 rfl rfl)
theorem dX0_tray_62 : decode cX0_tray 62 = .ok (.iconst 0, 1) := dk_3 (dk_at dksX0_tray_2 15 rfl rfl)
theorem dX0_tray_63 : decode cX0_tray 63 = .ok (.ireturn, 1) := dk_172 (dk_at dksX0_tray_2 16 rfl rfl)
theorem dX0_tray_64 : decode cX0_tray 64 = .ok (.astore 4, 2) := dk_58 4 (dk_at dksX0_tray_2 17 rfl rfl)
theorem dX0_tray_66 : decode cX0_tray 66 = .ok (.aload_n 0, 1) := dk_42 (dk_at dksX0_tray_2 19 rfl rfl)
theorem dX0_tray_67 : decode cX0_tray 67 = .ok (.aload 4, 2) := dk_25 4 (dk_at dksX0_tray_2 20 rfl rfl)
theorem dX0_tray_69 : decode cX0_tray 69 = .ok (.invokevirtual 151, 3) := dk_182 0 151 (dk_at dksX0_tray_3 0 rfl rfl)
theorem dX0_tray_72 : decode cX0_tray 72 = .ok (.ireturn, 1) := dk_172 (dk_at dksX0_tray_3 3 rfl rfl)
abbrev cX0_want : ByteArray := prog_1_method_16_code
def yX0_want : MethodName := ⟨RX0, "want", "(ZI)V"⟩
def dkwX0_want_0 : List UInt8 := [27, 154, 0, 12, 42, 180, 0, 51, 28, 182, 0, 120, 191, 177]
abbrev dktX0_want_0 : List UInt8 := dkwX0_want_0 ++ []
theorem dksX0_want_0 : cX0_want.data.toList.drop 0 = dktX0_want_0 := by decide +kernel
theorem dX0_want_0 : decode cX0_want 0 = .ok (.iload_n 1, 1) := dk_27 (dk_at dksX0_want_0 0 rfl rfl)
theorem dX0_want_1 : decode cX0_want 1 = .ok (.ifCond .ne 12, 3) := dk_154 0 12 (dk_at dksX0_want_0 1 rfl rfl)
theorem dX0_want_4 : decode cX0_want 4 = .ok (.aload_n 0, 1) := dk_42 (dk_at dksX0_want_0 4 rfl rfl)
theorem dX0_want_5 : decode cX0_want 5 = .ok (.getfield 51, 3) := dk_180 0 51 (dk_at dksX0_want_0 5 rfl rfl)
theorem dX0_want_8 : decode cX0_want 8 = .ok (.iload_n 2, 1) := dk_28 (dk_at dksX0_want_0 8 rfl rfl)
theorem dX0_want_9 : decode cX0_want 9 = .ok (.invokevirtual 120, 3) := dk_182 0 120 (dk_at dksX0_want_0 9 rfl rfl)
theorem dX0_want_12 : decode cX0_want 12 = .ok (.athrow, 1) := dk_191 (dk_at dksX0_want_0 12 rfl rfl)
theorem dX0_want_13 : decode cX0_want 13 = .ok (.return_, 1) := dk_177 (dk_at dksX0_want_0 13 rfl rfl)
abbrev cX0_row : ByteArray := prog_1_method_1_code
def yX0_row : MethodName := ⟨RX0, "row", "(II)Ljava/lang/Object;"⟩
def dkwX0_row_1 : List UInt8 := [160, 0, 9, 27, 188, 10, 167, 0, 6, 27, 188, 11, 176]
abbrev dktX0_row_1 : List UInt8 := dkwX0_row_1 ++ []
def dkwX0_row_0 : List UInt8 := [26, 154, 0, 9, 27, 188, 8, 167, 0, 28, 26, 4, 160, 0, 9, 27, 188, 9, 167, 0, 17, 26, 5]
abbrev dktX0_row_0 : List UInt8 := dkwX0_row_0 ++ dktX0_row_1
theorem dksX0_row_0 : cX0_row.data.toList.drop 0 = dktX0_row_0 := by decide +kernel
theorem dksX0_row_1 : cX0_row.data.toList.drop 23 = dktX0_row_1 := dk_seg dksX0_row_0 23 rfl rfl
theorem dX0_row_0 : decode cX0_row 0 = .ok (.iload_n 0, 1) := dk_26 (dk_at dksX0_row_0 0 rfl rfl)
theorem dX0_row_1 : decode cX0_row 1 = .ok (.ifCond .ne 9, 3) := dk_154 0 9 (dk_at dksX0_row_0 1 rfl rfl)
theorem dX0_row_4 : decode cX0_row 4 = .ok (.iload_n 1, 1) := dk_27 (dk_at dksX0_row_0 4 rfl rfl)
theorem dX0_row_5 : decode cX0_row 5 = .ok (.newarray .byte, 2) := dk_188_8 (dk_at dksX0_row_0 5 rfl rfl)
theorem dX0_row_7 : decode cX0_row 7 = .ok (.goto 28, 3) := dk_167 0 28 (dk_at dksX0_row_0 7 rfl rfl)
theorem dX0_row_10 : decode cX0_row 10 = .ok (.iload_n 0, 1) := dk_26 (dk_at dksX0_row_0 10 rfl rfl)
theorem dX0_row_11 : decode cX0_row 11 = .ok (.iconst 1, 1) := dk_4 (dk_at dksX0_row_0 11 rfl rfl)
theorem dX0_row_12 : decode cX0_row 12 = .ok (.if_icmp .ne 9, 3) := dk_160 0 9 (dk_at dksX0_row_0 12 rfl rfl)
theorem dX0_row_15 : decode cX0_row 15 = .ok (.iload_n 1, 1) := dk_27 (dk_at dksX0_row_0 15 rfl rfl)
theorem dX0_row_16 : decode cX0_row 16 = .ok (.newarray .short, 2) := dk_188_9 (dk_at dksX0_row_0 16 rfl rfl)
theorem dX0_row_18 : decode cX0_row 18 = .ok (.goto 17, 3) := dk_167 0 17 (dk_at dksX0_row_0 18 rfl rfl)
theorem dX0_row_21 : decode cX0_row 21 = .ok (.iload_n 0, 1) := dk_26 (dk_at dksX0_row_0 21 rfl rfl)
theorem dX0_row_22 : decode cX0_row 22 = .ok (.iconst 2, 1) := dk_5 (dk_at dksX0_row_0 22 rfl rfl)
theorem dX0_row_23 : decode cX0_row 23 = .ok (.if_icmp .ne 9, 3) := dk_160 0 9 (dk_at dksX0_row_1 0 rfl rfl)
theorem dX0_row_26 : decode cX0_row 26 = .ok (.iload_n 1, 1) := dk_27 (dk_at dksX0_row_1 3 rfl rfl)
theorem dX0_row_27 : decode cX0_row 27 = .ok (.newarray .int, 2) := dk_188_10 (dk_at dksX0_row_1 4 rfl rfl)
theorem dX0_row_29 : decode cX0_row 29 = .ok (.goto 6, 3) := dk_167 0 6 (dk_at dksX0_row_1 6 rfl rfl)
theorem dX0_row_32 : decode cX0_row 32 = .ok (.iload_n 1, 1) := dk_27 (dk_at dksX0_row_1 9 rfl rfl)
theorem dX0_row_33 : decode cX0_row 33 = .ok (.newarray .long, 2) := dk_188_11 (dk_at dksX0_row_1 10 rfl rfl)
theorem dX0_row_35 : decode cX0_row 35 = .ok (.areturn, 1) := dk_176 (dk_at dksX0_row_1 12 rfl rfl)
abbrev cX0_no : ByteArray := prog_1_method_18_code
def yX0_no : MethodName := ⟨RX0, "no", "(LRaisedPress$Refused;)Z"⟩
def dkwX0_no_0 : List UInt8 := [42, 43, 180, 0, 124, 181, 0, 114, 3, 172]
abbrev dktX0_no_0 : List UInt8 := dkwX0_no_0 ++ []
theorem dksX0_no_0 : cX0_no.data.toList.drop 0 = dktX0_no_0 := by decide +kernel
theorem dX0_no_0 : decode cX0_no 0 = .ok (.aload_n 0, 1) := dk_42 (dk_at dksX0_no_0 0 rfl rfl)
theorem dX0_no_1 : decode cX0_no 1 = .ok (.aload_n 1, 1) := dk_43 (dk_at dksX0_no_0 1 rfl rfl)
theorem dX0_no_2 : decode cX0_no 2 = .ok (.getfield 124, 3) := dk_180 0 124 (dk_at dksX0_no_0 2 rfl rfl)
theorem dX0_no_5 : decode cX0_no 5 = .ok (.putfield 114, 3) := dk_181 0 114 (dk_at dksX0_no_0 5 rfl rfl)
theorem dX0_no_8 : decode cX0_no 8 = .ok (.iconst 0, 1) := dk_3 (dk_at dksX0_no_0 8 rfl rfl)
theorem dX0_no_9 : decode cX0_no 9 = .ok (.ireturn, 1) := dk_172 (dk_at dksX0_no_0 9 rfl rfl)
abbrev cX0_write : ByteArray := prog_1_method_22_code
def yX0_write : MethodName := ⟨RX0, "write", "(IIJ)Z"⟩
def dkwX0_write_1 : List UInt8 := [3, 172, 58, 5, 42, 25, 5, 182, 0, 151, 172]
abbrev dktX0_write_1 : List UInt8 := dkwX0_write_1 ++ []
def dkwX0_write_0 : List UInt8 := [42, 3, 181, 0, 114, 42, 27, 182, 0, 155, 28, 33, 184, 0, 159, 4, 172, 58, 5, 42, 6, 181, 0, 114]
abbrev dktX0_write_0 : List UInt8 := dkwX0_write_0 ++ dktX0_write_1
theorem dksX0_write_0 : cX0_write.data.toList.drop 0 = dktX0_write_0 := by decide +kernel
theorem dksX0_write_1 : cX0_write.data.toList.drop 24 = dktX0_write_1 := dk_seg dksX0_write_0 24 rfl rfl
theorem dX0_write_0 : decode cX0_write 0 = .ok (.aload_n 0, 1) := dk_42 (dk_at dksX0_write_0 0 rfl rfl)
theorem dX0_write_1 : decode cX0_write 1 = .ok (.iconst 0, 1) := dk_3 (dk_at dksX0_write_0 1 rfl rfl)
theorem dX0_write_2 : decode cX0_write 2 = .ok (.putfield 114, 3) := dk_181 0 114 (dk_at dksX0_write_0 2 rfl rfl)
theorem dX0_write_5 : decode cX0_write 5 = .ok (.aload_n 0, 1) := dk_42 (dk_at dksX0_write_0 5 rfl rfl)
theorem dX0_write_6 : decode cX0_write 6 = .ok (.iload_n 1, 1) := dk_27 (dk_at dksX0_write_0 6 rfl rfl)
theorem dX0_write_7 : decode cX0_write 7 = .ok (.invokevirtual 155, 3) := dk_182 0 155 (dk_at dksX0_write_0 7 rfl rfl)
theorem dX0_write_10 : decode cX0_write 10 = .ok (.iload_n 2, 1) := dk_28 (dk_at dksX0_write_0 10 rfl rfl)
theorem dX0_write_11 : decode cX0_write 11 = .ok (.lload_n 3, 1) := dk_33 (dk_at dksX0_write_0 11 rfl rfl)
theorem dX0_write_12 : decode cX0_write 12 = .ok (.invokestatic 159, 3) := dk_184 0 159 (dk_at dksX0_write_0 12 rfl rfl)
theorem dX0_write_15 : decode cX0_write 15 = .ok (.iconst 1, 1) := dk_4 (dk_at dksX0_write_0 15 rfl rfl)
theorem dX0_write_16 : decode cX0_write 16 = .ok (.ireturn, 1) := dk_172 (dk_at dksX0_write_0 16 rfl rfl)
theorem dX0_write_17 : decode cX0_write 17 = .ok (.astore 5, 2) := dk_58 5 (dk_at dksX0_write_0 17 rfl rfl)
theorem dX0_write_19 : decode cX0_write 19 = .ok (.aload_n 0, 1) := dk_42 (dk_at dksX0_write_0 19 rfl rfl)
theorem dX0_write_20 : decode cX0_write 20 = .ok (.iconst 3, 1) := dk_6 (dk_at dksX0_write_0 20 rfl rfl)
theorem dX0_write_21 : decode cX0_write 21 = .ok (.putfield 114, 3) := dk_181 0 114 (dk_at dksX0_write_0 21 rfl rfl)
theorem dX0_write_24 : decode cX0_write 24 = .ok (.iconst 0, 1) := dk_3 (dk_at dksX0_write_1 0 rfl rfl)
theorem dX0_write_25 : decode cX0_write 25 = .ok (.ireturn, 1) := dk_172 (dk_at dksX0_write_1 1 rfl rfl)
theorem dX0_write_26 : decode cX0_write 26 = .ok (.astore 5, 2) := dk_58 5 (dk_at dksX0_write_1 2 rfl rfl)
theorem dX0_write_28 : decode cX0_write 28 = .ok (.aload_n 0, 1) := dk_42 (dk_at dksX0_write_1 4 rfl rfl)
theorem dX0_write_29 : decode cX0_write 29 = .ok (.aload 5, 2) := dk_25 5 (dk_at dksX0_write_1 5 rfl rfl)
theorem dX0_write_31 : decode cX0_write 31 = .ok (.invokevirtual 151, 3) := dk_182 0 151 (dk_at dksX0_write_1 7 rfl rfl)
theorem dX0_write_34 : decode cX0_write 34 = .ok (.ireturn, 1) := dk_172 (dk_at dksX0_write_1 10 rfl rfl)
abbrev cX0_on : ByteArray := prog_1_method_20_code
def yX0_on : MethodName := ⟨RX0, "on", "(I)Ljava/lang/Object;"⟩
def dkwX0_on_2 : List UInt8 := [180, 0, 143, 176]
abbrev dktX0_on_2 : List UInt8 := dkwX0_on_2 ++ []
def dkwX0_on_1 : List UInt8 := [27, 50, 180, 0, 143, 198, 0, 7, 4, 167, 0, 4, 3, 5, 182, 0, 139, 42, 180, 0, 27, 27, 50]
abbrev dktX0_on_1 : List UInt8 := dkwX0_on_1 ++ dktX0_on_2
def dkwX0_on_0 : List UInt8 := [42, 27, 155, 0, 12, 27, 7, 162, 0, 7, 4, 167, 0, 4, 3, 4, 182, 0, 139, 42, 42, 180, 0, 27]
abbrev dktX0_on_0 : List UInt8 := dkwX0_on_0 ++ dktX0_on_1
theorem dksX0_on_0 : cX0_on.data.toList.drop 0 = dktX0_on_0 := by decide +kernel
theorem dksX0_on_1 : cX0_on.data.toList.drop 24 = dktX0_on_1 := dk_seg dksX0_on_0 24 rfl rfl
theorem dksX0_on_2 : cX0_on.data.toList.drop 47 = dktX0_on_2 := dk_seg dksX0_on_1 23 rfl rfl
theorem dX0_on_0 : decode cX0_on 0 = .ok (.aload_n 0, 1) := dk_42 (dk_at dksX0_on_0 0 rfl rfl)
theorem dX0_on_1 : decode cX0_on 1 = .ok (.iload_n 1, 1) := dk_27 (dk_at dksX0_on_0 1 rfl rfl)
theorem dX0_on_2 : decode cX0_on 2 = .ok (.ifCond .lt 12, 3) := dk_155 0 12 (dk_at dksX0_on_0 2 rfl rfl)
theorem dX0_on_5 : decode cX0_on 5 = .ok (.iload_n 1, 1) := dk_27 (dk_at dksX0_on_0 5 rfl rfl)
theorem dX0_on_6 : decode cX0_on 6 = .ok (.iconst 4, 1) := dk_7 (dk_at dksX0_on_0 6 rfl rfl)
theorem dX0_on_7 : decode cX0_on 7 = .ok (.if_icmp .ge 7, 3) := dk_162 0 7 (dk_at dksX0_on_0 7 rfl rfl)
theorem dX0_on_10 : decode cX0_on 10 = .ok (.iconst 1, 1) := dk_4 (dk_at dksX0_on_0 10 rfl rfl)
theorem dX0_on_11 : decode cX0_on 11 = .ok (.goto 4, 3) := dk_167 0 4 (dk_at dksX0_on_0 11 rfl rfl)
theorem dX0_on_14 : decode cX0_on 14 = .ok (.iconst 0, 1) := dk_3 (dk_at dksX0_on_0 14 rfl rfl)
theorem dX0_on_15 : decode cX0_on 15 = .ok (.iconst 1, 1) := dk_4 (dk_at dksX0_on_0 15 rfl rfl)
theorem dX0_on_16 : decode cX0_on 16 = .ok (.invokevirtual 139, 3) := dk_182 0 139 (dk_at dksX0_on_0 16 rfl rfl)
theorem dX0_on_19 : decode cX0_on 19 = .ok (.aload_n 0, 1) := dk_42 (dk_at dksX0_on_0 19 rfl rfl)
theorem dX0_on_20 : decode cX0_on 20 = .ok (.aload_n 0, 1) := dk_42 (dk_at dksX0_on_0 20 rfl rfl)
theorem dX0_on_21 : decode cX0_on 21 = .ok (.getfield 27, 3) := dk_180 0 27 (dk_at dksX0_on_0 21 rfl rfl)
theorem dX0_on_24 : decode cX0_on 24 = .ok (.iload_n 1, 1) := dk_27 (dk_at dksX0_on_1 0 rfl rfl)
theorem dX0_on_25 : decode cX0_on 25 = .ok (.aaload, 1) := dk_50 (dk_at dksX0_on_1 1 rfl rfl)
theorem dX0_on_26 : decode cX0_on 26 = .ok (.getfield 143, 3) := dk_180 0 143 (dk_at dksX0_on_1 2 rfl rfl)
theorem dX0_on_29 : decode cX0_on 29 = .ok (.ifnull 7, 3) := dk_198 0 7 (dk_at dksX0_on_1 5 rfl rfl)
theorem dX0_on_32 : decode cX0_on 32 = .ok (.iconst 1, 1) := dk_4 (dk_at dksX0_on_1 8 rfl rfl)
theorem dX0_on_33 : decode cX0_on 33 = .ok (.goto 4, 3) := dk_167 0 4 (dk_at dksX0_on_1 9 rfl rfl)
theorem dX0_on_36 : decode cX0_on 36 = .ok (.iconst 0, 1) := dk_3 (dk_at dksX0_on_1 12 rfl rfl)
theorem dX0_on_37 : decode cX0_on 37 = .ok (.iconst 2, 1) := dk_5 (dk_at dksX0_on_1 13 rfl rfl)
theorem dX0_on_38 : decode cX0_on 38 = .ok (.invokevirtual 139, 3) := dk_182 0 139 (dk_at dksX0_on_1 14 rfl rfl)
theorem dX0_on_41 : decode cX0_on 41 = .ok (.aload_n 0, 1) := dk_42 (dk_at dksX0_on_1 17 rfl rfl)
theorem dX0_on_42 : decode cX0_on 42 = .ok (.getfield 27, 3) := dk_180 0 27 (dk_at dksX0_on_1 18 rfl rfl)
theorem dX0_on_45 : decode cX0_on 45 = .ok (.iload_n 1, 1) := dk_27 (dk_at dksX0_on_1 21 rfl rfl)
theorem dX0_on_46 : decode cX0_on 46 = .ok (.aaload, 1) := dk_50 (dk_at dksX0_on_1 22 rfl rfl)
theorem dX0_on_47 : decode cX0_on 47 = .ok (.getfield 143, 3) := dk_180 0 143 (dk_at dksX0_on_2 0 rfl rfl)
theorem dX0_on_50 : decode cX0_on 50 = .ok (.areturn, 1) := dk_176 (dk_at dksX0_on_2 3 rfl rfl)
abbrev cX0_put : ByteArray := prog_1_method_5_code
def yX0_put : MethodName := ⟨RX0, "put", "(Ljava/lang/Object;IJ)V"⟩
def dkwX0_put_3 : List UInt8 := [192, 0, 7, 27, 32, 80, 177]
abbrev dktX0_put_3 : List UInt8 := dkwX0_put_3 ++ []
def dkwX0_put_2 : List UInt8 := [193, 0, 5, 153, 0, 18, 42, 192, 0, 5, 58, 6, 25, 6, 27, 32, 136, 79, 167, 0, 10, 42]
abbrev dktX0_put_2 : List UInt8 := dkwX0_put_2 ++ dktX0_put_3
def dkwX0_put_1 : List UInt8 := [193, 0, 3, 153, 0, 19, 42, 192, 0, 3, 58, 5, 25, 5, 27, 32, 136, 147, 86, 167, 0, 32, 42]
abbrev dktX0_put_1 : List UInt8 := dkwX0_put_1 ++ dktX0_put_2
def dkwX0_put_0 : List UInt8 := [42, 193, 0, 1, 153, 0, 19, 42, 192, 0, 1, 58, 4, 25, 4, 27, 32, 136, 145, 84, 167, 0, 55, 42]
abbrev dktX0_put_0 : List UInt8 := dkwX0_put_0 ++ dktX0_put_1
theorem dksX0_put_0 : cX0_put.data.toList.drop 0 = dktX0_put_0 := by decide +kernel
theorem dksX0_put_1 : cX0_put.data.toList.drop 24 = dktX0_put_1 := dk_seg dksX0_put_0 24 rfl rfl
theorem dksX0_put_2 : cX0_put.data.toList.drop 47 = dktX0_put_2 := dk_seg dksX0_put_1 23 rfl rfl
theorem dksX0_put_3 : cX0_put.data.toList.drop 69 = dktX0_put_3 := dk_seg dksX0_put_2 22 rfl rfl
theorem dX0_put_0 : decode cX0_put 0 = .ok (.aload_n 0, 1) := dk_42 (dk_at dksX0_put_0 0 rfl rfl)
theorem dX0_put_1 : decode cX0_put 1 = .ok (.instanceof 1, 3) := dk_193 0 1 (dk_at dksX0_put_0 1 rfl rfl)
theorem dX0_put_4 : decode cX0_put 4 = .ok (.ifCond .eq 19, 3) := dk_153 0 19 (dk_at dksX0_put_0 4 rfl rfl)
theorem dX0_put_7 : decode cX0_put 7 = .ok (.aload_n 0, 1) := dk_42 (dk_at dksX0_put_0 7 rfl rfl)
theorem dX0_put_8 : decode cX0_put 8 = .ok (.checkcast 1, 3) := dk_192 0 1 (dk_at dksX0_put_0 8 rfl rfl)
theorem dX0_put_11 : decode cX0_put 11 = .ok (.astore 4, 2) := dk_58 4 (dk_at dksX0_put_0 11 rfl rfl)
theorem dX0_put_13 : decode cX0_put 13 = .ok (.aload 4, 2) := dk_25 4 (dk_at dksX0_put_0 13 rfl rfl)
theorem dX0_put_15 : decode cX0_put 15 = .ok (.iload_n 1, 1) := dk_27 (dk_at dksX0_put_0 15 rfl rfl)
theorem dX0_put_16 : decode cX0_put 16 = .ok (.lload_n 2, 1) := dk_32 (dk_at dksX0_put_0 16 rfl rfl)
theorem dX0_put_17 : decode cX0_put 17 = .ok (.l2i, 1) := dk_136 (dk_at dksX0_put_0 17 rfl rfl)
theorem dX0_put_18 : decode cX0_put 18 = .ok (.i2b, 1) := dk_145 (dk_at dksX0_put_0 18 rfl rfl)
theorem dX0_put_19 : decode cX0_put 19 = .ok (.bastore, 1) := dk_84 (dk_at dksX0_put_0 19 rfl rfl)
theorem dX0_put_20 : decode cX0_put 20 = .ok (.goto 55, 3) := dk_167 0 55 (dk_at dksX0_put_0 20 rfl rfl)
theorem dX0_put_23 : decode cX0_put 23 = .ok (.aload_n 0, 1) := dk_42 (dk_at dksX0_put_0 23 rfl rfl)
theorem dX0_put_24 : decode cX0_put 24 = .ok (.instanceof 3, 3) := dk_193 0 3 (dk_at dksX0_put_1 0 rfl rfl)
theorem dX0_put_27 : decode cX0_put 27 = .ok (.ifCond .eq 19, 3) := dk_153 0 19 (dk_at dksX0_put_1 3 rfl rfl)
theorem dX0_put_30 : decode cX0_put 30 = .ok (.aload_n 0, 1) := dk_42 (dk_at dksX0_put_1 6 rfl rfl)
theorem dX0_put_31 : decode cX0_put 31 = .ok (.checkcast 3, 3) := dk_192 0 3 (dk_at dksX0_put_1 7 rfl rfl)
theorem dX0_put_34 : decode cX0_put 34 = .ok (.astore 5, 2) := dk_58 5 (dk_at dksX0_put_1 10 rfl rfl)
theorem dX0_put_36 : decode cX0_put 36 = .ok (.aload 5, 2) := dk_25 5 (dk_at dksX0_put_1 12 rfl rfl)
theorem dX0_put_38 : decode cX0_put 38 = .ok (.iload_n 1, 1) := dk_27 (dk_at dksX0_put_1 14 rfl rfl)
theorem dX0_put_39 : decode cX0_put 39 = .ok (.lload_n 2, 1) := dk_32 (dk_at dksX0_put_1 15 rfl rfl)
theorem dX0_put_40 : decode cX0_put 40 = .ok (.l2i, 1) := dk_136 (dk_at dksX0_put_1 16 rfl rfl)
theorem dX0_put_41 : decode cX0_put 41 = .ok (.i2s, 1) := dk_147 (dk_at dksX0_put_1 17 rfl rfl)
theorem dX0_put_42 : decode cX0_put 42 = .ok (.sastore, 1) := dk_86 (dk_at dksX0_put_1 18 rfl rfl)
theorem dX0_put_43 : decode cX0_put 43 = .ok (.goto 32, 3) := dk_167 0 32 (dk_at dksX0_put_1 19 rfl rfl)
theorem dX0_put_46 : decode cX0_put 46 = .ok (.aload_n 0, 1) := dk_42 (dk_at dksX0_put_1 22 rfl rfl)
theorem dX0_put_47 : decode cX0_put 47 = .ok (.instanceof 5, 3) := dk_193 0 5 (dk_at dksX0_put_2 0 rfl rfl)
theorem dX0_put_50 : decode cX0_put 50 = .ok (.ifCond .eq 18, 3) := dk_153 0 18 (dk_at dksX0_put_2 3 rfl rfl)
theorem dX0_put_53 : decode cX0_put 53 = .ok (.aload_n 0, 1) := dk_42 (dk_at dksX0_put_2 6 rfl rfl)
theorem dX0_put_54 : decode cX0_put 54 = .ok (.checkcast 5, 3) := dk_192 0 5 (dk_at dksX0_put_2 7 rfl rfl)
theorem dX0_put_57 : decode cX0_put 57 = .ok (.astore 6, 2) := dk_58 6 (dk_at dksX0_put_2 10 rfl rfl)
theorem dX0_put_59 : decode cX0_put 59 = .ok (.aload 6, 2) := dk_25 6 (dk_at dksX0_put_2 12 rfl rfl)
theorem dX0_put_61 : decode cX0_put 61 = .ok (.iload_n 1, 1) := dk_27 (dk_at dksX0_put_2 14 rfl rfl)
theorem dX0_put_62 : decode cX0_put 62 = .ok (.lload_n 2, 1) := dk_32 (dk_at dksX0_put_2 15 rfl rfl)
theorem dX0_put_63 : decode cX0_put 63 = .ok (.l2i, 1) := dk_136 (dk_at dksX0_put_2 16 rfl rfl)
theorem dX0_put_64 : decode cX0_put 64 = .ok (.iastore, 1) := dk_79 (dk_at dksX0_put_2 17 rfl rfl)
theorem dX0_put_65 : decode cX0_put 65 = .ok (.goto 10, 3) := dk_167 0 10 (dk_at dksX0_put_2 18 rfl rfl)
theorem dX0_put_68 : decode cX0_put 68 = .ok (.aload_n 0, 1) := dk_42 (dk_at dksX0_put_2 21 rfl rfl)
theorem dX0_put_69 : decode cX0_put 69 = .ok (.checkcast 7, 3) := dk_192 0 7 (dk_at dksX0_put_3 0 rfl rfl)
theorem dX0_put_72 : decode cX0_put 72 = .ok (.iload_n 1, 1) := dk_27 (dk_at dksX0_put_3 3 rfl rfl)
theorem dX0_put_73 : decode cX0_put 73 = .ok (.lload_n 2, 1) := dk_32 (dk_at dksX0_put_3 4 rfl rfl)
theorem dX0_put_74 : decode cX0_put 74 = .ok (.lastore, 1) := dk_80 (dk_at dksX0_put_3 5 rfl rfl)
theorem dX0_put_75 : decode cX0_put 75 = .ok (.return_, 1) := dk_177 (dk_at dksX0_put_3 6 rfl rfl)
abbrev cX0_read : ByteArray := prog_1_method_23_code
def yX0_read : MethodName := ⟨RX0, "read", "(II)J"⟩
def dkwX0_read_1 : List UInt8 := [173, 78, 42, 45, 182, 0, 171, 133, 173]
abbrev dktX0_read_1 : List UInt8 := dkwX0_read_1 ++ []
def dkwX0_read_0 : List UInt8 := [42, 3, 181, 0, 114, 42, 27, 182, 0, 155, 28, 184, 0, 165, 173, 78, 42, 6, 181, 0, 114, 20, 0, 169]
abbrev dktX0_read_0 : List UInt8 := dkwX0_read_0 ++ dktX0_read_1
theorem dksX0_read_0 : cX0_read.data.toList.drop 0 = dktX0_read_0 := by decide +kernel
theorem dksX0_read_1 : cX0_read.data.toList.drop 24 = dktX0_read_1 := dk_seg dksX0_read_0 24 rfl rfl
theorem dX0_read_0 : decode cX0_read 0 = .ok (.aload_n 0, 1) := dk_42 (dk_at dksX0_read_0 0 rfl rfl)
theorem dX0_read_1 : decode cX0_read 1 = .ok (.iconst 0, 1) := dk_3 (dk_at dksX0_read_0 1 rfl rfl)
theorem dX0_read_2 : decode cX0_read 2 = .ok (.putfield 114, 3) := dk_181 0 114 (dk_at dksX0_read_0 2 rfl rfl)
theorem dX0_read_5 : decode cX0_read 5 = .ok (.aload_n 0, 1) := dk_42 (dk_at dksX0_read_0 5 rfl rfl)
theorem dX0_read_6 : decode cX0_read 6 = .ok (.iload_n 1, 1) := dk_27 (dk_at dksX0_read_0 6 rfl rfl)
theorem dX0_read_7 : decode cX0_read 7 = .ok (.invokevirtual 155, 3) := dk_182 0 155 (dk_at dksX0_read_0 7 rfl rfl)
theorem dX0_read_10 : decode cX0_read 10 = .ok (.iload_n 2, 1) := dk_28 (dk_at dksX0_read_0 10 rfl rfl)
theorem dX0_read_11 : decode cX0_read 11 = .ok (.invokestatic 165, 3) := dk_184 0 165 (dk_at dksX0_read_0 11 rfl rfl)
theorem dX0_read_14 : decode cX0_read 14 = .ok (.lreturn, 1) := dk_173 (dk_at dksX0_read_0 14 rfl rfl)
theorem dX0_read_15 : decode cX0_read 15 = .ok (.astore_n 3, 1) := dk_78 (dk_at dksX0_read_0 15 rfl rfl)
theorem dX0_read_16 : decode cX0_read 16 = .ok (.aload_n 0, 1) := dk_42 (dk_at dksX0_read_0 16 rfl rfl)
theorem dX0_read_17 : decode cX0_read 17 = .ok (.iconst 3, 1) := dk_6 (dk_at dksX0_read_0 17 rfl rfl)
theorem dX0_read_18 : decode cX0_read 18 = .ok (.putfield 114, 3) := dk_181 0 114 (dk_at dksX0_read_0 18 rfl rfl)
theorem dX0_read_21 : decode cX0_read 21 = .ok (.ldc2_w 169, 3) := dk_20 0 169 (dk_at dksX0_read_0 21 rfl rfl)
theorem dX0_read_24 : decode cX0_read 24 = .ok (.lreturn, 1) := dk_173 (dk_at dksX0_read_1 0 rfl rfl)
theorem dX0_read_25 : decode cX0_read 25 = .ok (.astore_n 3, 1) := dk_78 (dk_at dksX0_read_1 1 rfl rfl)
theorem dX0_read_26 : decode cX0_read 26 = .ok (.aload_n 0, 1) := dk_42 (dk_at dksX0_read_1 2 rfl rfl)
theorem dX0_read_27 : decode cX0_read 27 = .ok (.aload_n 3, 1) := dk_45 (dk_at dksX0_read_1 3 rfl rfl)
theorem dX0_read_28 : decode cX0_read 28 = .ok (.invokevirtual 171, 3) := dk_182 0 171 (dk_at dksX0_read_1 4 rfl rfl)
theorem dX0_read_31 : decode cX0_read 31 = .ok (.i2l, 1) := dk_133 (dk_at dksX0_read_1 7 rfl rfl)
theorem dX0_read_32 : decode cX0_read 32 = .ok (.lreturn, 1) := dk_173 (dk_at dksX0_read_1 8 rfl rfl)
abbrev cX0_number : ByteArray := prog_1_method_4_code
def yX0_number : MethodName := ⟨RX0, "number", "(Ljava/lang/Object;I)J"⟩
def dkwX0_number_2 : List UInt8 := [46, 133, 167, 0, 9, 42, 192, 0, 7, 27, 47, 173]
abbrev dktX0_number_2 : List UInt8 := dkwX0_number_2 ++ []
def dkwX0_number_1 : List UInt8 := [42, 192, 0, 3, 77, 44, 27, 53, 133, 173, 42, 193, 0, 5, 153, 0, 15, 42, 192, 0, 5, 77, 44, 27]
abbrev dktX0_number_1 : List UInt8 := dkwX0_number_1 ++ dktX0_number_2
def dkwX0_number_0 : List UInt8 := [42, 193, 0, 1, 153, 0, 13, 42, 192, 0, 1, 77, 44, 27, 51, 133, 173, 42, 193, 0, 3, 153, 0, 13]
abbrev dktX0_number_0 : List UInt8 := dkwX0_number_0 ++ dktX0_number_1
theorem dksX0_number_0 : cX0_number.data.toList.drop 0 = dktX0_number_0 := by decide +kernel
theorem dksX0_number_1 : cX0_number.data.toList.drop 24 = dktX0_number_1 := dk_seg dksX0_number_0 24 rfl rfl
theorem dksX0_number_2 : cX0_number.data.toList.drop 48 = dktX0_number_2 := dk_seg dksX0_number_1 24 rfl rfl
theorem dX0_number_0 : decode cX0_number 0 = .ok (.aload_n 0, 1) := dk_42 (dk_at dksX0_number_0 0 rfl rfl)
theorem dX0_number_1 : decode cX0_number 1 = .ok (.instanceof 1, 3) := dk_193 0 1 (dk_at dksX0_number_0 1 rfl rfl)
theorem dX0_number_4 : decode cX0_number 4 = .ok (.ifCond .eq 13, 3) := dk_153 0 13 (dk_at dksX0_number_0 4 rfl rfl)
theorem dX0_number_7 : decode cX0_number 7 = .ok (.aload_n 0, 1) := dk_42 (dk_at dksX0_number_0 7 rfl rfl)
theorem dX0_number_8 : decode cX0_number 8 = .ok (.checkcast 1, 3) := dk_192 0 1 (dk_at dksX0_number_0 8 rfl rfl)
theorem dX0_number_11 : decode cX0_number 11 = .ok (.astore_n 2, 1) := dk_77 (dk_at dksX0_number_0 11 rfl rfl)
theorem dX0_number_12 : decode cX0_number 12 = .ok (.aload_n 2, 1) := dk_44 (dk_at dksX0_number_0 12 rfl rfl)
theorem dX0_number_13 : decode cX0_number 13 = .ok (.iload_n 1, 1) := dk_27 (dk_at dksX0_number_0 13 rfl rfl)
theorem dX0_number_14 : decode cX0_number 14 = .ok (.baload, 1) := dk_51 (dk_at dksX0_number_0 14 rfl rfl)
theorem dX0_number_15 : decode cX0_number 15 = .ok (.i2l, 1) := dk_133 (dk_at dksX0_number_0 15 rfl rfl)
theorem dX0_number_16 : decode cX0_number 16 = .ok (.lreturn, 1) := dk_173 (dk_at dksX0_number_0 16 rfl rfl)
theorem dX0_number_17 : decode cX0_number 17 = .ok (.aload_n 0, 1) := dk_42 (dk_at dksX0_number_0 17 rfl rfl)
theorem dX0_number_18 : decode cX0_number 18 = .ok (.instanceof 3, 3) := dk_193 0 3 (dk_at dksX0_number_0 18 rfl rfl)
theorem dX0_number_21 : decode cX0_number 21 = .ok (.ifCond .eq 13, 3) := dk_153 0 13 (dk_at dksX0_number_0 21 rfl rfl)
theorem dX0_number_24 : decode cX0_number 24 = .ok (.aload_n 0, 1) := dk_42 (dk_at dksX0_number_1 0 rfl rfl)
theorem dX0_number_25 : decode cX0_number 25 = .ok (.checkcast 3, 3) := dk_192 0 3 (dk_at dksX0_number_1 1 rfl rfl)
theorem dX0_number_28 : decode cX0_number 28 = .ok (.astore_n 2, 1) := dk_77 (dk_at dksX0_number_1 4 rfl rfl)
theorem dX0_number_29 : decode cX0_number 29 = .ok (.aload_n 2, 1) := dk_44 (dk_at dksX0_number_1 5 rfl rfl)
theorem dX0_number_30 : decode cX0_number 30 = .ok (.iload_n 1, 1) := dk_27 (dk_at dksX0_number_1 6 rfl rfl)
theorem dX0_number_31 : decode cX0_number 31 = .ok (.saload, 1) := dk_53 (dk_at dksX0_number_1 7 rfl rfl)
theorem dX0_number_32 : decode cX0_number 32 = .ok (.i2l, 1) := dk_133 (dk_at dksX0_number_1 8 rfl rfl)
theorem dX0_number_33 : decode cX0_number 33 = .ok (.lreturn, 1) := dk_173 (dk_at dksX0_number_1 9 rfl rfl)
theorem dX0_number_34 : decode cX0_number 34 = .ok (.aload_n 0, 1) := dk_42 (dk_at dksX0_number_1 10 rfl rfl)
theorem dX0_number_35 : decode cX0_number 35 = .ok (.instanceof 5, 3) := dk_193 0 5 (dk_at dksX0_number_1 11 rfl rfl)
theorem dX0_number_38 : decode cX0_number 38 = .ok (.ifCond .eq 15, 3) := dk_153 0 15 (dk_at dksX0_number_1 14 rfl rfl)
theorem dX0_number_41 : decode cX0_number 41 = .ok (.aload_n 0, 1) := dk_42 (dk_at dksX0_number_1 17 rfl rfl)
theorem dX0_number_42 : decode cX0_number 42 = .ok (.checkcast 5, 3) := dk_192 0 5 (dk_at dksX0_number_1 18 rfl rfl)
theorem dX0_number_45 : decode cX0_number 45 = .ok (.astore_n 2, 1) := dk_77 (dk_at dksX0_number_1 21 rfl rfl)
theorem dX0_number_46 : decode cX0_number 46 = .ok (.aload_n 2, 1) := dk_44 (dk_at dksX0_number_1 22 rfl rfl)
theorem dX0_number_47 : decode cX0_number 47 = .ok (.iload_n 1, 1) := dk_27 (dk_at dksX0_number_1 23 rfl rfl)
theorem dX0_number_48 : decode cX0_number 48 = .ok (.iaload, 1) := dk_46 (dk_at dksX0_number_2 0 rfl rfl)
theorem dX0_number_49 : decode cX0_number 49 = .ok (.i2l, 1) := dk_133 (dk_at dksX0_number_2 1 rfl rfl)
theorem dX0_number_50 : decode cX0_number 50 = .ok (.goto 9, 3) := dk_167 0 9 (dk_at dksX0_number_2 2 rfl rfl)
theorem dX0_number_53 : decode cX0_number 53 = .ok (.aload_n 0, 1) := dk_42 (dk_at dksX0_number_2 5 rfl rfl)
theorem dX0_number_54 : decode cX0_number 54 = .ok (.checkcast 7, 3) := dk_192 0 7 (dk_at dksX0_number_2 6 rfl rfl)
theorem dX0_number_57 : decode cX0_number 57 = .ok (.iload_n 1, 1) := dk_27 (dk_at dksX0_number_2 9 rfl rfl)
theorem dX0_number_58 : decode cX0_number 58 = .ok (.laload, 1) := dk_47 (dk_at dksX0_number_2 10 rfl rfl)
theorem dX0_number_59 : decode cX0_number 59 = .ok (.lreturn, 1) := dk_173 (dk_at dksX0_number_2 11 rfl rfl)
abbrev cX0_none : ByteArray := prog_1_method_17_code
def yX0_none : MethodName := ⟨RX0, "none", "(LRaisedPress$Refused;)I"⟩
def dkwX0_none_0 : List UInt8 := [42, 43, 180, 0, 124, 181, 0, 114, 2, 172]
abbrev dktX0_none_0 : List UInt8 := dkwX0_none_0 ++ []
theorem dksX0_none_0 : cX0_none.data.toList.drop 0 = dktX0_none_0 := by decide +kernel
theorem dX0_none_0 : decode cX0_none 0 = .ok (.aload_n 0, 1) := dk_42 (dk_at dksX0_none_0 0 rfl rfl)
theorem dX0_none_1 : decode cX0_none 1 = .ok (.aload_n 1, 1) := dk_43 (dk_at dksX0_none_0 1 rfl rfl)
theorem dX0_none_2 : decode cX0_none 2 = .ok (.getfield 124, 3) := dk_180 0 124 (dk_at dksX0_none_0 2 rfl rfl)
theorem dX0_none_5 : decode cX0_none 5 = .ok (.putfield 114, 3) := dk_181 0 114 (dk_at dksX0_none_0 5 rfl rfl)
theorem dX0_none_8 : decode cX0_none 8 = .ok (.iconst (-1), 1) := dk_2 (dk_at dksX0_none_0 8 rfl rfl)
theorem dX0_none_9 : decode cX0_none 9 = .ok (.ireturn, 1) := dk_172 (dk_at dksX0_none_0 9 rfl rfl)
abbrev cX0_pour : ByteArray := prog_1_method_24_code
def yX0_pour : MethodName := ⟨RX0, "pour", "(IIIII)Z"⟩
def dkwX0_pour_5 : List UInt8 := [182, 0, 151, 172]
abbrev dktX0_pour_5 : List UInt8 := dkwX0_pour_5 ++ []
def dkwX0_pour_4 : List UInt8 := [184, 0, 179, 167, 0, 14, 58, 8, 42, 180, 0, 51, 6, 182, 0, 120, 191, 4, 172, 58, 6, 42, 25, 6]
abbrev dktX0_pour_4 : List UInt8 := dkwX0_pour_4 ++ dktX0_pour_5
def dkwX0_pour_3 : List UInt8 := [160, 0, 7, 4, 167, 0, 4, 3, 16, 8, 182, 0, 139, 25, 6, 28, 25, 7, 21, 4, 21, 5]
abbrev dktX0_pour_3 : List UInt8 := dkwX0_pour_3 ++ dktX0_pour_4
def dkwX0_pour_2 : List UInt8 := [27, 182, 0, 155, 58, 6, 42, 29, 182, 0, 155, 58, 7, 42, 25, 6, 184, 0, 175, 25, 7, 184, 0, 175]
abbrev dktX0_pour_2 : List UInt8 := dkwX0_pour_2 ++ dktX0_pour_3
def dkwX0_pour_1 : List UInt8 := [28, 155, 0, 17, 21, 4, 155, 0, 12, 21, 5, 155, 0, 7, 4, 167, 0, 4, 3, 4, 182, 0, 139, 42]
abbrev dktX0_pour_1 : List UInt8 := dkwX0_pour_1 ++ dktX0_pour_2
def dkwX0_pour_0 : List UInt8 := [42, 3, 181, 0, 114, 42, 27, 155, 0, 35, 27, 7, 162, 0, 30, 29, 155, 0, 26, 29, 7, 162, 0, 21]
abbrev dktX0_pour_0 : List UInt8 := dkwX0_pour_0 ++ dktX0_pour_1
theorem dksX0_pour_0 : cX0_pour.data.toList.drop 0 = dktX0_pour_0 := by decide +kernel
theorem dksX0_pour_1 : cX0_pour.data.toList.drop 24 = dktX0_pour_1 := dk_seg dksX0_pour_0 24 rfl rfl
theorem dksX0_pour_2 : cX0_pour.data.toList.drop 48 = dktX0_pour_2 := dk_seg dksX0_pour_1 24 rfl rfl
theorem dksX0_pour_3 : cX0_pour.data.toList.drop 72 = dktX0_pour_3 := dk_seg dksX0_pour_2 24 rfl rfl
theorem dksX0_pour_4 : cX0_pour.data.toList.drop 94 = dktX0_pour_4 := dk_seg dksX0_pour_3 22 rfl rfl
theorem dksX0_pour_5 : cX0_pour.data.toList.drop 118 = dktX0_pour_5 := dk_seg dksX0_pour_4 24 rfl rfl
theorem dX0_pour_0 : decode cX0_pour 0 = .ok (.aload_n 0, 1) := dk_42 (dk_at dksX0_pour_0 0 rfl rfl)
theorem dX0_pour_1 : decode cX0_pour 1 = .ok (.iconst 0, 1) := dk_3 (dk_at dksX0_pour_0 1 rfl rfl)
theorem dX0_pour_2 : decode cX0_pour 2 = .ok (.putfield 114, 3) := dk_181 0 114 (dk_at dksX0_pour_0 2 rfl rfl)
theorem dX0_pour_5 : decode cX0_pour 5 = .ok (.aload_n 0, 1) := dk_42 (dk_at dksX0_pour_0 5 rfl rfl)
theorem dX0_pour_6 : decode cX0_pour 6 = .ok (.iload_n 1, 1) := dk_27 (dk_at dksX0_pour_0 6 rfl rfl)
theorem dX0_pour_7 : decode cX0_pour 7 = .ok (.ifCond .lt 35, 3) := dk_155 0 35 (dk_at dksX0_pour_0 7 rfl rfl)
theorem dX0_pour_10 : decode cX0_pour 10 = .ok (.iload_n 1, 1) := dk_27 (dk_at dksX0_pour_0 10 rfl rfl)
theorem dX0_pour_11 : decode cX0_pour 11 = .ok (.iconst 4, 1) := dk_7 (dk_at dksX0_pour_0 11 rfl rfl)
theorem dX0_pour_12 : decode cX0_pour 12 = .ok (.if_icmp .ge 30, 3) := dk_162 0 30 (dk_at dksX0_pour_0 12 rfl rfl)
theorem dX0_pour_15 : decode cX0_pour 15 = .ok (.iload_n 3, 1) := dk_29 (dk_at dksX0_pour_0 15 rfl rfl)
theorem dX0_pour_16 : decode cX0_pour 16 = .ok (.ifCond .lt 26, 3) := dk_155 0 26 (dk_at dksX0_pour_0 16 rfl rfl)
theorem dX0_pour_19 : decode cX0_pour 19 = .ok (.iload_n 3, 1) := dk_29 (dk_at dksX0_pour_0 19 rfl rfl)
theorem dX0_pour_20 : decode cX0_pour 20 = .ok (.iconst 4, 1) := dk_7 (dk_at dksX0_pour_0 20 rfl rfl)
theorem dX0_pour_21 : decode cX0_pour 21 = .ok (.if_icmp .ge 21, 3) := dk_162 0 21 (dk_at dksX0_pour_0 21 rfl rfl)
theorem dX0_pour_24 : decode cX0_pour 24 = .ok (.iload_n 2, 1) := dk_28 (dk_at dksX0_pour_1 0 rfl rfl)
theorem dX0_pour_25 : decode cX0_pour 25 = .ok (.ifCond .lt 17, 3) := dk_155 0 17 (dk_at dksX0_pour_1 1 rfl rfl)
theorem dX0_pour_28 : decode cX0_pour 28 = .ok (.iload 4, 2) := dk_21 4 (dk_at dksX0_pour_1 4 rfl rfl)
theorem dX0_pour_30 : decode cX0_pour 30 = .ok (.ifCond .lt 12, 3) := dk_155 0 12 (dk_at dksX0_pour_1 6 rfl rfl)
theorem dX0_pour_33 : decode cX0_pour 33 = .ok (.iload 5, 2) := dk_21 5 (dk_at dksX0_pour_1 9 rfl rfl)
theorem dX0_pour_35 : decode cX0_pour 35 = .ok (.ifCond .lt 7, 3) := dk_155 0 7 (dk_at dksX0_pour_1 11 rfl rfl)
theorem dX0_pour_38 : decode cX0_pour 38 = .ok (.iconst 1, 1) := dk_4 (dk_at dksX0_pour_1 14 rfl rfl)
theorem dX0_pour_39 : decode cX0_pour 39 = .ok (.goto 4, 3) := dk_167 0 4 (dk_at dksX0_pour_1 15 rfl rfl)
theorem dX0_pour_42 : decode cX0_pour 42 = .ok (.iconst 0, 1) := dk_3 (dk_at dksX0_pour_1 18 rfl rfl)
theorem dX0_pour_43 : decode cX0_pour 43 = .ok (.iconst 1, 1) := dk_4 (dk_at dksX0_pour_1 19 rfl rfl)
theorem dX0_pour_44 : decode cX0_pour 44 = .ok (.invokevirtual 139, 3) := dk_182 0 139 (dk_at dksX0_pour_1 20 rfl rfl)
theorem dX0_pour_47 : decode cX0_pour 47 = .ok (.aload_n 0, 1) := dk_42 (dk_at dksX0_pour_1 23 rfl rfl)
theorem dX0_pour_48 : decode cX0_pour 48 = .ok (.iload_n 1, 1) := dk_27 (dk_at dksX0_pour_2 0 rfl rfl)
theorem dX0_pour_49 : decode cX0_pour 49 = .ok (.invokevirtual 155, 3) := dk_182 0 155 (dk_at dksX0_pour_2 1 rfl rfl)
theorem dX0_pour_52 : decode cX0_pour 52 = .ok (.astore 6, 2) := dk_58 6 (dk_at dksX0_pour_2 4 rfl rfl)
theorem dX0_pour_54 : decode cX0_pour 54 = .ok (.aload_n 0, 1) := dk_42 (dk_at dksX0_pour_2 6 rfl rfl)
theorem dX0_pour_55 : decode cX0_pour 55 = .ok (.iload_n 3, 1) := dk_29 (dk_at dksX0_pour_2 7 rfl rfl)
theorem dX0_pour_56 : decode cX0_pour 56 = .ok (.invokevirtual 155, 3) := dk_182 0 155 (dk_at dksX0_pour_2 8 rfl rfl)
theorem dX0_pour_59 : decode cX0_pour 59 = .ok (.astore 7, 2) := dk_58 7 (dk_at dksX0_pour_2 11 rfl rfl)
theorem dX0_pour_61 : decode cX0_pour 61 = .ok (.aload_n 0, 1) := dk_42 (dk_at dksX0_pour_2 13 rfl rfl)
theorem dX0_pour_62 : decode cX0_pour 62 = .ok (.aload 6, 2) := dk_25 6 (dk_at dksX0_pour_2 14 rfl rfl)
theorem dX0_pour_64 : decode cX0_pour 64 = .ok (.invokestatic 175, 3) := dk_184 0 175 (dk_at dksX0_pour_2 16 rfl rfl)
theorem dX0_pour_67 : decode cX0_pour 67 = .ok (.aload 7, 2) := dk_25 7 (dk_at dksX0_pour_2 19 rfl rfl)
theorem dX0_pour_69 : decode cX0_pour 69 = .ok (.invokestatic 175, 3) := dk_184 0 175 (dk_at dksX0_pour_2 21 rfl rfl)
theorem dX0_pour_72 : decode cX0_pour 72 = .ok (.if_icmp .ne 7, 3) := dk_160 0 7 (dk_at dksX0_pour_3 0 rfl rfl)
theorem dX0_pour_75 : decode cX0_pour 75 = .ok (.iconst 1, 1) := dk_4 (dk_at dksX0_pour_3 3 rfl rfl)
theorem dX0_pour_76 : decode cX0_pour 76 = .ok (.goto 4, 3) := dk_167 0 4 (dk_at dksX0_pour_3 4 rfl rfl)
theorem dX0_pour_79 : decode cX0_pour 79 = .ok (.iconst 0, 1) := dk_3 (dk_at dksX0_pour_3 7 rfl rfl)
theorem dX0_pour_80 : decode cX0_pour 80 = .ok (.bipush 8, 2) := dk_16 8 (dk_at dksX0_pour_3 8 rfl rfl)
theorem dX0_pour_82 : decode cX0_pour 82 = .ok (.invokevirtual 139, 3) := dk_182 0 139 (dk_at dksX0_pour_3 10 rfl rfl)
theorem dX0_pour_85 : decode cX0_pour 85 = .ok (.aload 6, 2) := dk_25 6 (dk_at dksX0_pour_3 13 rfl rfl)
theorem dX0_pour_87 : decode cX0_pour 87 = .ok (.iload_n 2, 1) := dk_28 (dk_at dksX0_pour_3 15 rfl rfl)
theorem dX0_pour_88 : decode cX0_pour 88 = .ok (.aload 7, 2) := dk_25 7 (dk_at dksX0_pour_3 16 rfl rfl)
theorem dX0_pour_90 : decode cX0_pour 90 = .ok (.iload 4, 2) := dk_21 4 (dk_at dksX0_pour_3 18 rfl rfl)
theorem dX0_pour_92 : decode cX0_pour 92 = .ok (.iload 5, 2) := dk_21 5 (dk_at dksX0_pour_3 20 rfl rfl)
theorem dX0_pour_94 : decode cX0_pour 94 = .ok (.invokestatic 179, 3) := dk_184 0 179 (dk_at dksX0_pour_4 0 rfl rfl)
theorem dX0_pour_97 : decode cX0_pour 97 = .ok (.goto 14, 3) := dk_167 0 14 (dk_at dksX0_pour_4 3 rfl rfl)
theorem dX0_pour_100 : decode cX0_pour 100 = .ok (.astore 8, 2) := dk_58 8 (dk_at dksX0_pour_4 6 rfl rfl)
theorem dX0_pour_102 : decode cX0_pour 102 = .ok (.aload_n 0, 1) := dk_42 (dk_at dksX0_pour_4 8 rfl rfl)
theorem dX0_pour_103 : decode cX0_pour 103 = .ok (.getfield 51, 3) := dk_180 0 51 (dk_at dksX0_pour_4 9 rfl rfl)
theorem dX0_pour_106 : decode cX0_pour 106 = .ok (.iconst 3, 1) := dk_6 (dk_at dksX0_pour_4 12 rfl rfl)
theorem dX0_pour_107 : decode cX0_pour 107 = .ok (.invokevirtual 120, 3) := dk_182 0 120 (dk_at dksX0_pour_4 13 rfl rfl)
theorem dX0_pour_110 : decode cX0_pour 110 = .ok (.athrow, 1) := dk_191 (dk_at dksX0_pour_4 16 rfl rfl)
theorem dX0_pour_111 : decode cX0_pour 111 = .ok (.iconst 1, 1) := dk_4 (dk_at dksX0_pour_4 17 rfl rfl)
theorem dX0_pour_112 : decode cX0_pour 112 = .ok (.ireturn, 1) := dk_172 (dk_at dksX0_pour_4 18 rfl rfl)
theorem dX0_pour_113 : decode cX0_pour 113 = .ok (.astore 6, 2) := dk_58 6 (dk_at dksX0_pour_4 19 rfl rfl)
theorem dX0_pour_115 : decode cX0_pour 115 = .ok (.aload_n 0, 1) := dk_42 (dk_at dksX0_pour_4 21 rfl rfl)
theorem dX0_pour_116 : decode cX0_pour 116 = .ok (.aload 6, 2) := dk_25 6 (dk_at dksX0_pour_4 22 rfl rfl)
theorem dX0_pour_118 : decode cX0_pour 118 = .ok (.invokevirtual 151, 3) := dk_182 0 151 (dk_at dksX0_pour_5 0 rfl rfl)
theorem dX0_pour_121 : decode cX0_pour 121 = .ok (.ireturn, 1) := dk_172 (dk_at dksX0_pour_5 3 rfl rfl)
abbrev cX0_sortOf : ByteArray := prog_1_method_2_code
def yX0_sortOf : MethodName := ⟨RX0, "sortOf", "(Ljava/lang/Object;)I"⟩
def dkwX0_sortOf_1 : List UInt8 := [193, 0, 5, 153, 0, 7, 5, 167, 0, 4, 6, 172]
abbrev dktX0_sortOf_1 : List UInt8 := dkwX0_sortOf_1 ++ []
def dkwX0_sortOf_0 : List UInt8 := [42, 193, 0, 1, 153, 0, 7, 3, 167, 0, 26, 42, 193, 0, 3, 153, 0, 7, 4, 167, 0, 15, 42]
abbrev dktX0_sortOf_0 : List UInt8 := dkwX0_sortOf_0 ++ dktX0_sortOf_1
theorem dksX0_sortOf_0 : cX0_sortOf.data.toList.drop 0 = dktX0_sortOf_0 := by decide +kernel
theorem dksX0_sortOf_1 : cX0_sortOf.data.toList.drop 23 = dktX0_sortOf_1 := dk_seg dksX0_sortOf_0 23 rfl rfl
theorem dX0_sortOf_0 : decode cX0_sortOf 0 = .ok (.aload_n 0, 1) := dk_42 (dk_at dksX0_sortOf_0 0 rfl rfl)
theorem dX0_sortOf_1 : decode cX0_sortOf 1 = .ok (.instanceof 1, 3) := dk_193 0 1 (dk_at dksX0_sortOf_0 1 rfl rfl)
theorem dX0_sortOf_4 : decode cX0_sortOf 4 = .ok (.ifCond .eq 7, 3) := dk_153 0 7 (dk_at dksX0_sortOf_0 4 rfl rfl)
theorem dX0_sortOf_7 : decode cX0_sortOf 7 = .ok (.iconst 0, 1) := dk_3 (dk_at dksX0_sortOf_0 7 rfl rfl)
theorem dX0_sortOf_8 : decode cX0_sortOf 8 = .ok (.goto 26, 3) := dk_167 0 26 (dk_at dksX0_sortOf_0 8 rfl rfl)
theorem dX0_sortOf_11 : decode cX0_sortOf 11 = .ok (.aload_n 0, 1) := dk_42 (dk_at dksX0_sortOf_0 11 rfl rfl)
theorem dX0_sortOf_12 : decode cX0_sortOf 12 = .ok (.instanceof 3, 3) := dk_193 0 3 (dk_at dksX0_sortOf_0 12 rfl rfl)
theorem dX0_sortOf_15 : decode cX0_sortOf 15 = .ok (.ifCond .eq 7, 3) := dk_153 0 7 (dk_at dksX0_sortOf_0 15 rfl rfl)
theorem dX0_sortOf_18 : decode cX0_sortOf 18 = .ok (.iconst 1, 1) := dk_4 (dk_at dksX0_sortOf_0 18 rfl rfl)
theorem dX0_sortOf_19 : decode cX0_sortOf 19 = .ok (.goto 15, 3) := dk_167 0 15 (dk_at dksX0_sortOf_0 19 rfl rfl)
theorem dX0_sortOf_22 : decode cX0_sortOf 22 = .ok (.aload_n 0, 1) := dk_42 (dk_at dksX0_sortOf_0 22 rfl rfl)
theorem dX0_sortOf_23 : decode cX0_sortOf 23 = .ok (.instanceof 5, 3) := dk_193 0 5 (dk_at dksX0_sortOf_1 0 rfl rfl)
theorem dX0_sortOf_26 : decode cX0_sortOf 26 = .ok (.ifCond .eq 7, 3) := dk_153 0 7 (dk_at dksX0_sortOf_1 3 rfl rfl)
theorem dX0_sortOf_29 : decode cX0_sortOf 29 = .ok (.iconst 2, 1) := dk_5 (dk_at dksX0_sortOf_1 6 rfl rfl)
theorem dX0_sortOf_30 : decode cX0_sortOf 30 = .ok (.goto 4, 3) := dk_167 0 4 (dk_at dksX0_sortOf_1 7 rfl rfl)
theorem dX0_sortOf_33 : decode cX0_sortOf 33 = .ok (.iconst 3, 1) := dk_6 (dk_at dksX0_sortOf_1 10 rfl rfl)
theorem dX0_sortOf_34 : decode cX0_sortOf 34 = .ok (.ireturn, 1) := dk_172 (dk_at dksX0_sortOf_1 11 rfl rfl)
abbrev cX0_feed : ByteArray := prog_1_method_32_code
def yX0_feed : MethodName := ⟨RX0, "feed", "(IIIII)I"⟩
def dkwX0_feed_2 : List UInt8 := [172]
abbrev dktX0_feed_2 : List UInt8 := dkwX0_feed_2 ++ []
def dkwX0_feed_1 : List UInt8 := [182, 0, 210, 42, 29, 182, 0, 210, 42, 21, 4, 182, 0, 210, 42, 21, 5, 182, 0, 210, 42, 180, 0, 207]
abbrev dktX0_feed_1 : List UInt8 := dkwX0_feed_1 ++ dktX0_feed_2
def dkwX0_feed_0 : List UInt8 := [42, 180, 0, 207, 16, 20, 96, 17, 3, 132, 164, 0, 5, 2, 172, 42, 27, 182, 0, 210, 42, 28]
abbrev dktX0_feed_0 : List UInt8 := dkwX0_feed_0 ++ dktX0_feed_1
theorem dksX0_feed_0 : cX0_feed.data.toList.drop 0 = dktX0_feed_0 := by decide +kernel
theorem dksX0_feed_1 : cX0_feed.data.toList.drop 22 = dktX0_feed_1 := dk_seg dksX0_feed_0 22 rfl rfl
theorem dksX0_feed_2 : cX0_feed.data.toList.drop 46 = dktX0_feed_2 := dk_seg dksX0_feed_1 24 rfl rfl
theorem dX0_feed_0 : decode cX0_feed 0 = .ok (.aload_n 0, 1) := dk_42 (dk_at dksX0_feed_0 0 rfl rfl)
theorem dX0_feed_1 : decode cX0_feed 1 = .ok (.getfield 207, 3) := dk_180 0 207 (dk_at dksX0_feed_0 1 rfl rfl)
theorem dX0_feed_4 : decode cX0_feed 4 = .ok (.bipush 20, 2) := dk_16 20 (dk_at dksX0_feed_0 4 rfl rfl)
theorem dX0_feed_6 : decode cX0_feed 6 = .ok (.iadd, 1) := dk_96 (dk_at dksX0_feed_0 6 rfl rfl)
theorem dX0_feed_7 : decode cX0_feed 7 = .ok (.sipush 900, 3) := dk_17 3 132 (dk_at dksX0_feed_0 7 rfl rfl)
theorem dX0_feed_10 : decode cX0_feed 10 = .ok (.if_icmp .le 5, 3) := dk_164 0 5 (dk_at dksX0_feed_0 10 rfl rfl)
theorem dX0_feed_13 : decode cX0_feed 13 = .ok (.iconst (-1), 1) := dk_2 (dk_at dksX0_feed_0 13 rfl rfl)
theorem dX0_feed_14 : decode cX0_feed 14 = .ok (.ireturn, 1) := dk_172 (dk_at dksX0_feed_0 14 rfl rfl)
theorem dX0_feed_15 : decode cX0_feed 15 = .ok (.aload_n 0, 1) := dk_42 (dk_at dksX0_feed_0 15 rfl rfl)
theorem dX0_feed_16 : decode cX0_feed 16 = .ok (.iload_n 1, 1) := dk_27 (dk_at dksX0_feed_0 16 rfl rfl)
theorem dX0_feed_17 : decode cX0_feed 17 = .ok (.invokevirtual 210, 3) := dk_182 0 210 (dk_at dksX0_feed_0 17 rfl rfl)
theorem dX0_feed_20 : decode cX0_feed 20 = .ok (.aload_n 0, 1) := dk_42 (dk_at dksX0_feed_0 20 rfl rfl)
theorem dX0_feed_21 : decode cX0_feed 21 = .ok (.iload_n 2, 1) := dk_28 (dk_at dksX0_feed_0 21 rfl rfl)
theorem dX0_feed_22 : decode cX0_feed 22 = .ok (.invokevirtual 210, 3) := dk_182 0 210 (dk_at dksX0_feed_1 0 rfl rfl)
theorem dX0_feed_25 : decode cX0_feed 25 = .ok (.aload_n 0, 1) := dk_42 (dk_at dksX0_feed_1 3 rfl rfl)
theorem dX0_feed_26 : decode cX0_feed 26 = .ok (.iload_n 3, 1) := dk_29 (dk_at dksX0_feed_1 4 rfl rfl)
theorem dX0_feed_27 : decode cX0_feed 27 = .ok (.invokevirtual 210, 3) := dk_182 0 210 (dk_at dksX0_feed_1 5 rfl rfl)
theorem dX0_feed_30 : decode cX0_feed 30 = .ok (.aload_n 0, 1) := dk_42 (dk_at dksX0_feed_1 8 rfl rfl)
theorem dX0_feed_31 : decode cX0_feed 31 = .ok (.iload 4, 2) := dk_21 4 (dk_at dksX0_feed_1 9 rfl rfl)
theorem dX0_feed_33 : decode cX0_feed 33 = .ok (.invokevirtual 210, 3) := dk_182 0 210 (dk_at dksX0_feed_1 11 rfl rfl)
theorem dX0_feed_36 : decode cX0_feed 36 = .ok (.aload_n 0, 1) := dk_42 (dk_at dksX0_feed_1 14 rfl rfl)
theorem dX0_feed_37 : decode cX0_feed 37 = .ok (.iload 5, 2) := dk_21 5 (dk_at dksX0_feed_1 15 rfl rfl)
theorem dX0_feed_39 : decode cX0_feed 39 = .ok (.invokevirtual 210, 3) := dk_182 0 210 (dk_at dksX0_feed_1 17 rfl rfl)
theorem dX0_feed_42 : decode cX0_feed 42 = .ok (.aload_n 0, 1) := dk_42 (dk_at dksX0_feed_1 20 rfl rfl)
theorem dX0_feed_43 : decode cX0_feed 43 = .ok (.getfield 207, 3) := dk_180 0 207 (dk_at dksX0_feed_1 21 rfl rfl)
theorem dX0_feed_46 : decode cX0_feed 46 = .ok (.ireturn, 1) := dk_172 (dk_at dksX0_feed_2 0 rfl rfl)
abbrev cX0_lay : ByteArray := prog_1_method_33_code
def yX0_lay : MethodName := ⟨RX0, "lay", "(I)V"⟩
def dkwX0_lay_1 : List UInt8 := [180, 0, 207, 4, 96, 181, 0, 207, 132, 2, 248, 167, 255, 226, 177]
abbrev dktX0_lay_1 : List UInt8 := dkwX0_lay_1 ++ []
def dkwX0_lay_0 : List UInt8 := [16, 24, 61, 28, 155, 0, 32, 42, 180, 0, 38, 42, 180, 0, 207, 27, 28, 122, 145, 84, 42, 89]
abbrev dktX0_lay_0 : List UInt8 := dkwX0_lay_0 ++ dktX0_lay_1
theorem dksX0_lay_0 : cX0_lay.data.toList.drop 0 = dktX0_lay_0 := by decide +kernel
theorem dksX0_lay_1 : cX0_lay.data.toList.drop 22 = dktX0_lay_1 := dk_seg dksX0_lay_0 22 rfl rfl
theorem dX0_lay_0 : decode cX0_lay 0 = .ok (.bipush 24, 2) := dk_16 24 (dk_at dksX0_lay_0 0 rfl rfl)
theorem dX0_lay_2 : decode cX0_lay 2 = .ok (.istore_n 2, 1) := dk_61 (dk_at dksX0_lay_0 2 rfl rfl)
theorem dX0_lay_3 : decode cX0_lay 3 = .ok (.iload_n 2, 1) := dk_28 (dk_at dksX0_lay_0 3 rfl rfl)
theorem dX0_lay_4 : decode cX0_lay 4 = .ok (.ifCond .lt 32, 3) := dk_155 0 32 (dk_at dksX0_lay_0 4 rfl rfl)
theorem dX0_lay_7 : decode cX0_lay 7 = .ok (.aload_n 0, 1) := dk_42 (dk_at dksX0_lay_0 7 rfl rfl)
theorem dX0_lay_8 : decode cX0_lay 8 = .ok (.getfield 38, 3) := dk_180 0 38 (dk_at dksX0_lay_0 8 rfl rfl)
theorem dX0_lay_11 : decode cX0_lay 11 = .ok (.aload_n 0, 1) := dk_42 (dk_at dksX0_lay_0 11 rfl rfl)
theorem dX0_lay_12 : decode cX0_lay 12 = .ok (.getfield 207, 3) := dk_180 0 207 (dk_at dksX0_lay_0 12 rfl rfl)
theorem dX0_lay_15 : decode cX0_lay 15 = .ok (.iload_n 1, 1) := dk_27 (dk_at dksX0_lay_0 15 rfl rfl)
theorem dX0_lay_16 : decode cX0_lay 16 = .ok (.iload_n 2, 1) := dk_28 (dk_at dksX0_lay_0 16 rfl rfl)
theorem dX0_lay_17 : decode cX0_lay 17 = .ok (.ishr, 1) := dk_122 (dk_at dksX0_lay_0 17 rfl rfl)
theorem dX0_lay_18 : decode cX0_lay 18 = .ok (.i2b, 1) := dk_145 (dk_at dksX0_lay_0 18 rfl rfl)
theorem dX0_lay_19 : decode cX0_lay 19 = .ok (.bastore, 1) := dk_84 (dk_at dksX0_lay_0 19 rfl rfl)
theorem dX0_lay_20 : decode cX0_lay 20 = .ok (.aload_n 0, 1) := dk_42 (dk_at dksX0_lay_0 20 rfl rfl)
theorem dX0_lay_21 : decode cX0_lay 21 = .ok (.dup, 1) := dk_89 (dk_at dksX0_lay_0 21 rfl rfl)
theorem dX0_lay_22 : decode cX0_lay 22 = .ok (.getfield 207, 3) := dk_180 0 207 (dk_at dksX0_lay_1 0 rfl rfl)
theorem dX0_lay_25 : decode cX0_lay 25 = .ok (.iconst 1, 1) := dk_4 (dk_at dksX0_lay_1 3 rfl rfl)
theorem dX0_lay_26 : decode cX0_lay 26 = .ok (.iadd, 1) := dk_96 (dk_at dksX0_lay_1 4 rfl rfl)
theorem dX0_lay_27 : decode cX0_lay 27 = .ok (.putfield 207, 3) := dk_181 0 207 (dk_at dksX0_lay_1 5 rfl rfl)
theorem dX0_lay_30 : decode cX0_lay 30 = .ok (.iinc 2 (-8), 3) := dk_132 2 248 (dk_at dksX0_lay_1 8 rfl rfl)
theorem dX0_lay_33 : decode cX0_lay 33 = .ok (.goto (-30), 3) := dk_167 255 226 (dk_at dksX0_lay_1 11 rfl rfl)
theorem dX0_lay_36 : decode cX0_lay 36 = .ok (.return_, 1) := dk_177 (dk_at dksX0_lay_1 14 rfl rfl)
abbrev cX0_press : ByteArray := prog_1_method_36_code
def yX0_press : MethodName := ⟨RX0, "press", "(I)I"⟩
def dkwX0_press_2 : List UInt8 := [181, 0, 199, 42, 180, 0, 62, 1, 181, 0, 233, 44, 180, 0, 190, 172, 77, 42, 44, 182, 0, 237, 172]
abbrev dktX0_press_2 : List UInt8 := dkwX0_press_2 ++ []
def dkwX0_press_1 : List UInt8 := [89, 42, 27, 183, 0, 227, 44, 182, 0, 230, 42, 180, 0, 62, 44, 181, 0, 72, 42, 180, 0, 62, 3]
abbrev dktX0_press_1 : List UInt8 := dkwX0_press_1 ++ dktX0_press_2
def dkwX0_press_0 : List UInt8 := [42, 27, 17, 3, 132, 182, 0, 220, 154, 0, 5, 2, 172, 187, 0, 191, 89, 183, 0, 224, 77, 187, 0, 225]
abbrev dktX0_press_0 : List UInt8 := dkwX0_press_0 ++ dktX0_press_1
theorem dksX0_press_0 : cX0_press.data.toList.drop 0 = dktX0_press_0 := by decide +kernel
theorem dksX0_press_1 : cX0_press.data.toList.drop 24 = dktX0_press_1 := dk_seg dksX0_press_0 24 rfl rfl
theorem dksX0_press_2 : cX0_press.data.toList.drop 47 = dktX0_press_2 := dk_seg dksX0_press_1 23 rfl rfl
theorem dX0_press_0 : decode cX0_press 0 = .ok (.aload_n 0, 1) := dk_42 (dk_at dksX0_press_0 0 rfl rfl)
theorem dX0_press_1 : decode cX0_press 1 = .ok (.iload_n 1, 1) := dk_27 (dk_at dksX0_press_0 1 rfl rfl)
theorem dX0_press_2 : decode cX0_press 2 = .ok (.sipush 900, 3) := dk_17 3 132 (dk_at dksX0_press_0 2 rfl rfl)
theorem dX0_press_5 : decode cX0_press 5 = .ok (.invokevirtual 220, 3) := dk_182 0 220 (dk_at dksX0_press_0 5 rfl rfl)
theorem dX0_press_8 : decode cX0_press 8 = .ok (.ifCond .ne 5, 3) := dk_154 0 5 (dk_at dksX0_press_0 8 rfl rfl)
theorem dX0_press_11 : decode cX0_press 11 = .ok (.iconst (-1), 1) := dk_2 (dk_at dksX0_press_0 11 rfl rfl)
theorem dX0_press_12 : decode cX0_press 12 = .ok (.ireturn, 1) := dk_172 (dk_at dksX0_press_0 12 rfl rfl)
theorem dX0_press_13 : decode cX0_press 13 = .ok (.new 191, 3) := dk_187 0 191 (dk_at dksX0_press_0 13 rfl rfl)
theorem dX0_press_16 : decode cX0_press 16 = .ok (.dup, 1) := dk_89 (dk_at dksX0_press_0 16 rfl rfl)
theorem dX0_press_17 : decode cX0_press 17 = .ok (.invokespecial 224, 3) := dk_183 0 224 (dk_at dksX0_press_0 17 rfl rfl)
theorem dX0_press_20 : decode cX0_press 20 = .ok (.astore_n 2, 1) := dk_77 (dk_at dksX0_press_0 20 rfl rfl)
theorem dX0_press_21 : decode cX0_press 21 = .ok (.new 225, 3) := dk_187 0 225 (dk_at dksX0_press_0 21 rfl rfl)
theorem dX0_press_24 : decode cX0_press 24 = .ok (.dup, 1) := dk_89 (dk_at dksX0_press_1 0 rfl rfl)
theorem dX0_press_25 : decode cX0_press 25 = .ok (.aload_n 0, 1) := dk_42 (dk_at dksX0_press_1 1 rfl rfl)
theorem dX0_press_26 : decode cX0_press 26 = .ok (.iload_n 1, 1) := dk_27 (dk_at dksX0_press_1 2 rfl rfl)
theorem dX0_press_27 : decode cX0_press 27 = .ok (.invokespecial 227, 3) := dk_183 0 227 (dk_at dksX0_press_1 3 rfl rfl)
theorem dX0_press_30 : decode cX0_press 30 = .ok (.aload_n 2, 1) := dk_44 (dk_at dksX0_press_1 6 rfl rfl)
theorem dX0_press_31 : decode cX0_press 31 = .ok (.invokevirtual 230, 3) := dk_182 0 230 (dk_at dksX0_press_1 7 rfl rfl)
theorem dX0_press_34 : decode cX0_press 34 = .ok (.aload_n 0, 1) := dk_42 (dk_at dksX0_press_1 10 rfl rfl)
theorem dX0_press_35 : decode cX0_press 35 = .ok (.getfield 62, 3) := dk_180 0 62 (dk_at dksX0_press_1 11 rfl rfl)
theorem dX0_press_38 : decode cX0_press 38 = .ok (.aload_n 2, 1) := dk_44 (dk_at dksX0_press_1 14 rfl rfl)
theorem dX0_press_39 : decode cX0_press 39 = .ok (.putfield 72, 3) := dk_181 0 72 (dk_at dksX0_press_1 15 rfl rfl)
theorem dX0_press_42 : decode cX0_press 42 = .ok (.aload_n 0, 1) := dk_42 (dk_at dksX0_press_1 18 rfl rfl)
theorem dX0_press_43 : decode cX0_press 43 = .ok (.getfield 62, 3) := dk_180 0 62 (dk_at dksX0_press_1 19 rfl rfl)
theorem dX0_press_46 : decode cX0_press 46 = .ok (.iconst 0, 1) := dk_3 (dk_at dksX0_press_1 22 rfl rfl)
theorem dX0_press_47 : decode cX0_press 47 = .ok (.putfield 199, 3) := dk_181 0 199 (dk_at dksX0_press_2 0 rfl rfl)
theorem dX0_press_50 : decode cX0_press 50 = .ok (.aload_n 0, 1) := dk_42 (dk_at dksX0_press_2 3 rfl rfl)
theorem dX0_press_51 : decode cX0_press 51 = .ok (.getfield 62, 3) := dk_180 0 62 (dk_at dksX0_press_2 4 rfl rfl)
theorem dX0_press_54 : decode cX0_press 54 = .ok (.aconst_null, 1) := dk_1 (dk_at dksX0_press_2 7 rfl rfl)
theorem dX0_press_55 : decode cX0_press 55 = .ok (.putfield 233, 3) := dk_181 0 233 (dk_at dksX0_press_2 8 rfl rfl)
theorem dX0_press_58 : decode cX0_press 58 = .ok (.aload_n 2, 1) := dk_44 (dk_at dksX0_press_2 11 rfl rfl)
theorem dX0_press_59 : decode cX0_press 59 = .ok (.getfield 190, 3) := dk_180 0 190 (dk_at dksX0_press_2 12 rfl rfl)
theorem dX0_press_62 : decode cX0_press 62 = .ok (.ireturn, 1) := dk_172 (dk_at dksX0_press_2 15 rfl rfl)
theorem dX0_press_63 : decode cX0_press 63 = .ok (.astore_n 2, 1) := dk_77 (dk_at dksX0_press_2 16 rfl rfl)
theorem dX0_press_64 : decode cX0_press 64 = .ok (.aload_n 0, 1) := dk_42 (dk_at dksX0_press_2 17 rfl rfl)
theorem dX0_press_65 : decode cX0_press 65 = .ok (.aload_n 2, 1) := dk_44 (dk_at dksX0_press_2 18 rfl rfl)
theorem dX0_press_66 : decode cX0_press 66 = .ok (.invokevirtual 237, 3) := dk_182 0 237 (dk_at dksX0_press_2 19 rfl rfl)
theorem dX0_press_69 : decode cX0_press 69 = .ok (.ireturn, 1) := dk_172 (dk_at dksX0_press_2 22 rfl rfl)
abbrev cX0_opens : ByteArray := prog_1_method_34_code
def yX0_opens : MethodName := ⟨RX0, "opens", "(II)Z"⟩
def dkwX0_opens_2 : List UInt8 := [181, 0, 45, 4, 172]
abbrev dktX0_opens_2 : List UInt8 := dkwX0_opens_2 ++ []
def dkwX0_opens_1 : List UInt8 := [181, 0, 114, 42, 180, 0, 114, 158, 0, 5, 3, 172, 42, 3, 181, 0, 207, 42, 3, 181, 0, 41, 42, 2]
abbrev dktX0_opens_1 : List UInt8 := dkwX0_opens_1 ++ dktX0_opens_2
def dkwX0_opens_0 : List UInt8 := [42, 27, 155, 0, 16, 27, 42, 180, 0, 207, 163, 0, 8, 27, 28, 164, 0, 7, 4, 167, 0, 4, 3]
abbrev dktX0_opens_0 : List UInt8 := dkwX0_opens_0 ++ dktX0_opens_1
theorem dksX0_opens_0 : cX0_opens.data.toList.drop 0 = dktX0_opens_0 := by decide +kernel
theorem dksX0_opens_1 : cX0_opens.data.toList.drop 23 = dktX0_opens_1 := dk_seg dksX0_opens_0 23 rfl rfl
theorem dksX0_opens_2 : cX0_opens.data.toList.drop 47 = dktX0_opens_2 := dk_seg dksX0_opens_1 24 rfl rfl
theorem dX0_opens_0 : decode cX0_opens 0 = .ok (.aload_n 0, 1) := dk_42 (dk_at dksX0_opens_0 0 rfl rfl)
theorem dX0_opens_1 : decode cX0_opens 1 = .ok (.iload_n 1, 1) := dk_27 (dk_at dksX0_opens_0 1 rfl rfl)
theorem dX0_opens_2 : decode cX0_opens 2 = .ok (.ifCond .lt 16, 3) := dk_155 0 16 (dk_at dksX0_opens_0 2 rfl rfl)
theorem dX0_opens_5 : decode cX0_opens 5 = .ok (.iload_n 1, 1) := dk_27 (dk_at dksX0_opens_0 5 rfl rfl)
theorem dX0_opens_6 : decode cX0_opens 6 = .ok (.aload_n 0, 1) := dk_42 (dk_at dksX0_opens_0 6 rfl rfl)
theorem dX0_opens_7 : decode cX0_opens 7 = .ok (.getfield 207, 3) := dk_180 0 207 (dk_at dksX0_opens_0 7 rfl rfl)
theorem dX0_opens_10 : decode cX0_opens 10 = .ok (.if_icmp .gt 8, 3) := dk_163 0 8 (dk_at dksX0_opens_0 10 rfl rfl)
theorem dX0_opens_13 : decode cX0_opens 13 = .ok (.iload_n 1, 1) := dk_27 (dk_at dksX0_opens_0 13 rfl rfl)
theorem dX0_opens_14 : decode cX0_opens 14 = .ok (.iload_n 2, 1) := dk_28 (dk_at dksX0_opens_0 14 rfl rfl)
theorem dX0_opens_15 : decode cX0_opens 15 = .ok (.if_icmp .le 7, 3) := dk_164 0 7 (dk_at dksX0_opens_0 15 rfl rfl)
theorem dX0_opens_18 : decode cX0_opens 18 = .ok (.iconst 1, 1) := dk_4 (dk_at dksX0_opens_0 18 rfl rfl)
theorem dX0_opens_19 : decode cX0_opens 19 = .ok (.goto 4, 3) := dk_167 0 4 (dk_at dksX0_opens_0 19 rfl rfl)
theorem dX0_opens_22 : decode cX0_opens 22 = .ok (.iconst 0, 1) := dk_3 (dk_at dksX0_opens_0 22 rfl rfl)
theorem dX0_opens_23 : decode cX0_opens 23 = .ok (.putfield 114, 3) := dk_181 0 114 (dk_at dksX0_opens_1 0 rfl rfl)
theorem dX0_opens_26 : decode cX0_opens 26 = .ok (.aload_n 0, 1) := dk_42 (dk_at dksX0_opens_1 3 rfl rfl)
theorem dX0_opens_27 : decode cX0_opens 27 = .ok (.getfield 114, 3) := dk_180 0 114 (dk_at dksX0_opens_1 4 rfl rfl)
theorem dX0_opens_30 : decode cX0_opens 30 = .ok (.ifCond .le 5, 3) := dk_158 0 5 (dk_at dksX0_opens_1 7 rfl rfl)
theorem dX0_opens_33 : decode cX0_opens 33 = .ok (.iconst 0, 1) := dk_3 (dk_at dksX0_opens_1 10 rfl rfl)
theorem dX0_opens_34 : decode cX0_opens 34 = .ok (.ireturn, 1) := dk_172 (dk_at dksX0_opens_1 11 rfl rfl)
theorem dX0_opens_35 : decode cX0_opens 35 = .ok (.aload_n 0, 1) := dk_42 (dk_at dksX0_opens_1 12 rfl rfl)
theorem dX0_opens_36 : decode cX0_opens 36 = .ok (.iconst 0, 1) := dk_3 (dk_at dksX0_opens_1 13 rfl rfl)
theorem dX0_opens_37 : decode cX0_opens 37 = .ok (.putfield 207, 3) := dk_181 0 207 (dk_at dksX0_opens_1 14 rfl rfl)
theorem dX0_opens_40 : decode cX0_opens 40 = .ok (.aload_n 0, 1) := dk_42 (dk_at dksX0_opens_1 17 rfl rfl)
theorem dX0_opens_41 : decode cX0_opens 41 = .ok (.iconst 0, 1) := dk_3 (dk_at dksX0_opens_1 18 rfl rfl)
theorem dX0_opens_42 : decode cX0_opens 42 = .ok (.putfield 41, 3) := dk_181 0 41 (dk_at dksX0_opens_1 19 rfl rfl)
theorem dX0_opens_45 : decode cX0_opens 45 = .ok (.aload_n 0, 1) := dk_42 (dk_at dksX0_opens_1 22 rfl rfl)
theorem dX0_opens_46 : decode cX0_opens 46 = .ok (.iconst (-1), 1) := dk_2 (dk_at dksX0_opens_1 23 rfl rfl)
theorem dX0_opens_47 : decode cX0_opens 47 = .ok (.putfield 45, 3) := dk_181 0 45 (dk_at dksX0_opens_2 0 rfl rfl)
theorem dX0_opens_50 : decode cX0_opens 50 = .ok (.iconst 1, 1) := dk_4 (dk_at dksX0_opens_2 3 rfl rfl)
theorem dX0_opens_51 : decode cX0_opens 51 = .ok (.ireturn, 1) := dk_172 (dk_at dksX0_opens_2 4 rfl rfl)
abbrev cX0_isBlank : ByteArray := prog_1_method_10_code
def yX0_isBlank : MethodName := ⟨RX0, "isBlank", "(I)Z"⟩
def dkwX0_isBlank_0 : List UInt8 := [26, 16, 10, 159, 0, 9, 26, 16, 32, 160, 0, 7, 4, 167, 0, 4, 3, 172]
abbrev dktX0_isBlank_0 : List UInt8 := dkwX0_isBlank_0 ++ []
theorem dksX0_isBlank_0 : cX0_isBlank.data.toList.drop 0 = dktX0_isBlank_0 := by decide +kernel
theorem dX0_isBlank_0 : decode cX0_isBlank 0 = .ok (.iload_n 0, 1) := dk_26 (dk_at dksX0_isBlank_0 0 rfl rfl)
theorem dX0_isBlank_1 : decode cX0_isBlank 1 = .ok (.bipush 10, 2) := dk_16 10 (dk_at dksX0_isBlank_0 1 rfl rfl)
theorem dX0_isBlank_3 : decode cX0_isBlank 3 = .ok (.if_icmp .eq 9, 3) := dk_159 0 9 (dk_at dksX0_isBlank_0 3 rfl rfl)
theorem dX0_isBlank_6 : decode cX0_isBlank 6 = .ok (.iload_n 0, 1) := dk_26 (dk_at dksX0_isBlank_0 6 rfl rfl)
theorem dX0_isBlank_7 : decode cX0_isBlank 7 = .ok (.bipush 32, 2) := dk_16 32 (dk_at dksX0_isBlank_0 7 rfl rfl)
theorem dX0_isBlank_9 : decode cX0_isBlank 9 = .ok (.if_icmp .ne 7, 3) := dk_160 0 7 (dk_at dksX0_isBlank_0 9 rfl rfl)
theorem dX0_isBlank_12 : decode cX0_isBlank 12 = .ok (.iconst 1, 1) := dk_4 (dk_at dksX0_isBlank_0 12 rfl rfl)
theorem dX0_isBlank_13 : decode cX0_isBlank 13 = .ok (.goto 4, 3) := dk_167 0 4 (dk_at dksX0_isBlank_0 13 rfl rfl)
theorem dX0_isBlank_16 : decode cX0_isBlank 16 = .ok (.iconst 0, 1) := dk_3 (dk_at dksX0_isBlank_0 16 rfl rfl)
theorem dX0_isBlank_17 : decode cX0_isBlank 17 = .ok (.ireturn, 1) := dk_172 (dk_at dksX0_isBlank_0 17 rfl rfl)
abbrev cX0_isSmall : ByteArray := prog_1_method_6_code
def yX0_isSmall : MethodName := ⟨RX0, "isSmall", "(I)Z"⟩
def dkwX0_isSmall_0 : List UInt8 := [26, 16, 97, 161, 0, 13, 26, 16, 122, 163, 0, 7, 4, 167, 0, 4, 3, 172]
abbrev dktX0_isSmall_0 : List UInt8 := dkwX0_isSmall_0 ++ []
theorem dksX0_isSmall_0 : cX0_isSmall.data.toList.drop 0 = dktX0_isSmall_0 := by decide +kernel
theorem dX0_isSmall_0 : decode cX0_isSmall 0 = .ok (.iload_n 0, 1) := dk_26 (dk_at dksX0_isSmall_0 0 rfl rfl)
theorem dX0_isSmall_1 : decode cX0_isSmall 1 = .ok (.bipush 97, 2) := dk_16 97 (dk_at dksX0_isSmall_0 1 rfl rfl)
theorem dX0_isSmall_3 : decode cX0_isSmall 3 = .ok (.if_icmp .lt 13, 3) := dk_161 0 13 (dk_at dksX0_isSmall_0 3 rfl rfl)
theorem dX0_isSmall_6 : decode cX0_isSmall 6 = .ok (.iload_n 0, 1) := dk_26 (dk_at dksX0_isSmall_0 6 rfl rfl)
theorem dX0_isSmall_7 : decode cX0_isSmall 7 = .ok (.bipush 122, 2) := dk_16 122 (dk_at dksX0_isSmall_0 7 rfl rfl)
theorem dX0_isSmall_9 : decode cX0_isSmall 9 = .ok (.if_icmp .gt 7, 3) := dk_163 0 7 (dk_at dksX0_isSmall_0 9 rfl rfl)
theorem dX0_isSmall_12 : decode cX0_isSmall 12 = .ok (.iconst 1, 1) := dk_4 (dk_at dksX0_isSmall_0 12 rfl rfl)
theorem dX0_isSmall_13 : decode cX0_isSmall 13 = .ok (.goto 4, 3) := dk_167 0 4 (dk_at dksX0_isSmall_0 13 rfl rfl)
theorem dX0_isSmall_16 : decode cX0_isSmall 16 = .ok (.iconst 0, 1) := dk_3 (dk_at dksX0_isSmall_0 16 rfl rfl)
theorem dX0_isSmall_17 : decode cX0_isSmall 17 = .ok (.ireturn, 1) := dk_172 (dk_at dksX0_isSmall_0 17 rfl rfl)
abbrev cX0_isFigure : ByteArray := prog_1_method_9_code
def yX0_isFigure : MethodName := ⟨RX0, "isFigure", "(I)Z"⟩
def dkwX0_isFigure_0 : List UInt8 := [26, 16, 48, 161, 0, 13, 26, 16, 57, 163, 0, 7, 4, 167, 0, 4, 3, 172]
abbrev dktX0_isFigure_0 : List UInt8 := dkwX0_isFigure_0 ++ []
theorem dksX0_isFigure_0 : cX0_isFigure.data.toList.drop 0 = dktX0_isFigure_0 := by decide +kernel
theorem dX0_isFigure_0 : decode cX0_isFigure 0 = .ok (.iload_n 0, 1) := dk_26 (dk_at dksX0_isFigure_0 0 rfl rfl)
theorem dX0_isFigure_1 : decode cX0_isFigure 1 = .ok (.bipush 48, 2) := dk_16 48 (dk_at dksX0_isFigure_0 1 rfl rfl)
theorem dX0_isFigure_3 : decode cX0_isFigure 3 = .ok (.if_icmp .lt 13, 3) := dk_161 0 13 (dk_at dksX0_isFigure_0 3 rfl rfl)
theorem dX0_isFigure_6 : decode cX0_isFigure 6 = .ok (.iload_n 0, 1) := dk_26 (dk_at dksX0_isFigure_0 6 rfl rfl)
theorem dX0_isFigure_7 : decode cX0_isFigure 7 = .ok (.bipush 57, 2) := dk_16 57 (dk_at dksX0_isFigure_0 7 rfl rfl)
theorem dX0_isFigure_9 : decode cX0_isFigure 9 = .ok (.if_icmp .gt 7, 3) := dk_163 0 7 (dk_at dksX0_isFigure_0 9 rfl rfl)
theorem dX0_isFigure_12 : decode cX0_isFigure 12 = .ok (.iconst 1, 1) := dk_4 (dk_at dksX0_isFigure_0 12 rfl rfl)
theorem dX0_isFigure_13 : decode cX0_isFigure 13 = .ok (.goto 4, 3) := dk_167 0 4 (dk_at dksX0_isFigure_0 13 rfl rfl)
theorem dX0_isFigure_16 : decode cX0_isFigure 16 = .ok (.iconst 0, 1) := dk_3 (dk_at dksX0_isFigure_0 16 rfl rfl)
theorem dX0_isFigure_17 : decode cX0_isFigure 17 = .ok (.ireturn, 1) := dk_172 (dk_at dksX0_isFigure_0 17 rfl rfl)
abbrev cX0_faulty : ByteArray := prog_1_method_35_code
def yX0_faulty : MethodName := ⟨RX0, "faulty", "(LRaisedPress$Bad;)I"⟩
def dkwX0_faulty_0 : List UInt8 := [42, 43, 180, 0, 214, 181, 0, 41, 42, 43, 180, 0, 217, 181, 0, 45, 42, 16, 9, 181, 0, 114, 2, 172]
abbrev dktX0_faulty_0 : List UInt8 := dkwX0_faulty_0 ++ []
theorem dksX0_faulty_0 : cX0_faulty.data.toList.drop 0 = dktX0_faulty_0 := by decide +kernel
theorem dX0_faulty_0 : decode cX0_faulty 0 = .ok (.aload_n 0, 1) := dk_42 (dk_at dksX0_faulty_0 0 rfl rfl)
theorem dX0_faulty_1 : decode cX0_faulty 1 = .ok (.aload_n 1, 1) := dk_43 (dk_at dksX0_faulty_0 1 rfl rfl)
theorem dX0_faulty_2 : decode cX0_faulty 2 = .ok (.getfield 214, 3) := dk_180 0 214 (dk_at dksX0_faulty_0 2 rfl rfl)
theorem dX0_faulty_5 : decode cX0_faulty 5 = .ok (.putfield 41, 3) := dk_181 0 41 (dk_at dksX0_faulty_0 5 rfl rfl)
theorem dX0_faulty_8 : decode cX0_faulty 8 = .ok (.aload_n 0, 1) := dk_42 (dk_at dksX0_faulty_0 8 rfl rfl)
theorem dX0_faulty_9 : decode cX0_faulty 9 = .ok (.aload_n 1, 1) := dk_43 (dk_at dksX0_faulty_0 9 rfl rfl)
theorem dX0_faulty_10 : decode cX0_faulty 10 = .ok (.getfield 217, 3) := dk_180 0 217 (dk_at dksX0_faulty_0 10 rfl rfl)
theorem dX0_faulty_13 : decode cX0_faulty 13 = .ok (.putfield 45, 3) := dk_181 0 45 (dk_at dksX0_faulty_0 13 rfl rfl)
theorem dX0_faulty_16 : decode cX0_faulty 16 = .ok (.aload_n 0, 1) := dk_42 (dk_at dksX0_faulty_0 16 rfl rfl)
theorem dX0_faulty_17 : decode cX0_faulty 17 = .ok (.bipush 9, 2) := dk_16 9 (dk_at dksX0_faulty_0 17 rfl rfl)
theorem dX0_faulty_19 : decode cX0_faulty 19 = .ok (.putfield 114, 3) := dk_181 0 114 (dk_at dksX0_faulty_0 19 rfl rfl)
theorem dX0_faulty_22 : decode cX0_faulty 22 = .ok (.iconst (-1), 1) := dk_2 (dk_at dksX0_faulty_0 22 rfl rfl)
theorem dX0_faulty_23 : decode cX0_faulty 23 = .ok (.ireturn, 1) := dk_172 (dk_at dksX0_faulty_0 23 rfl rfl)
abbrev cX0_writing : ByteArray := prog_1_method_37_code
def yX0_writing : MethodName := ⟨RX0, "writing", "(I)I"⟩
def dkwX0_writing_2 : List UInt8 := [180, 0, 62, 180, 0, 233, 180, 0, 252, 190, 172, 77, 42, 44, 182, 0, 237, 172]
abbrev dktX0_writing_2 : List UInt8 := dkwX0_writing_2 ++ []
def dkwX0_writing_1 : List UInt8 := [180, 0, 62, 180, 0, 199, 182, 0, 244, 42, 180, 0, 62, 42, 182, 0, 241, 182, 0, 248, 181, 0, 233, 42]
abbrev dktX0_writing_1 : List UInt8 := dkwX0_writing_1 ++ dktX0_writing_2
def dkwX0_writing_0 : List UInt8 := [42, 27, 17, 1, 44, 182, 0, 220, 154, 0, 5, 2, 172, 42, 182, 0, 241, 42, 180, 0, 38, 27, 42]
abbrev dktX0_writing_0 : List UInt8 := dkwX0_writing_0 ++ dktX0_writing_1
theorem dksX0_writing_0 : cX0_writing.data.toList.drop 0 = dktX0_writing_0 := by decide +kernel
theorem dksX0_writing_1 : cX0_writing.data.toList.drop 23 = dktX0_writing_1 := dk_seg dksX0_writing_0 23 rfl rfl
theorem dksX0_writing_2 : cX0_writing.data.toList.drop 47 = dktX0_writing_2 := dk_seg dksX0_writing_1 24 rfl rfl
theorem dX0_writing_0 : decode cX0_writing 0 = .ok (.aload_n 0, 1) := dk_42 (dk_at dksX0_writing_0 0 rfl rfl)
theorem dX0_writing_1 : decode cX0_writing 1 = .ok (.iload_n 1, 1) := dk_27 (dk_at dksX0_writing_0 1 rfl rfl)
theorem dX0_writing_2 : decode cX0_writing 2 = .ok (.sipush 300, 3) := dk_17 1 44 (dk_at dksX0_writing_0 2 rfl rfl)
theorem dX0_writing_5 : decode cX0_writing 5 = .ok (.invokevirtual 220, 3) := dk_182 0 220 (dk_at dksX0_writing_0 5 rfl rfl)
theorem dX0_writing_8 : decode cX0_writing 8 = .ok (.ifCond .ne 5, 3) := dk_154 0 5 (dk_at dksX0_writing_0 8 rfl rfl)
theorem dX0_writing_11 : decode cX0_writing 11 = .ok (.iconst (-1), 1) := dk_2 (dk_at dksX0_writing_0 11 rfl rfl)
theorem dX0_writing_12 : decode cX0_writing 12 = .ok (.ireturn, 1) := dk_172 (dk_at dksX0_writing_0 12 rfl rfl)
theorem dX0_writing_13 : decode cX0_writing 13 = .ok (.aload_n 0, 1) := dk_42 (dk_at dksX0_writing_0 13 rfl rfl)
theorem dX0_writing_14 : decode cX0_writing 14 = .ok (.invokevirtual 241, 3) := dk_182 0 241 (dk_at dksX0_writing_0 14 rfl rfl)
theorem dX0_writing_17 : decode cX0_writing 17 = .ok (.aload_n 0, 1) := dk_42 (dk_at dksX0_writing_0 17 rfl rfl)
theorem dX0_writing_18 : decode cX0_writing 18 = .ok (.getfield 38, 3) := dk_180 0 38 (dk_at dksX0_writing_0 18 rfl rfl)
theorem dX0_writing_21 : decode cX0_writing 21 = .ok (.iload_n 1, 1) := dk_27 (dk_at dksX0_writing_0 21 rfl rfl)
theorem dX0_writing_22 : decode cX0_writing 22 = .ok (.aload_n 0, 1) := dk_42 (dk_at dksX0_writing_0 22 rfl rfl)
theorem dX0_writing_23 : decode cX0_writing 23 = .ok (.getfield 62, 3) := dk_180 0 62 (dk_at dksX0_writing_1 0 rfl rfl)
theorem dX0_writing_26 : decode cX0_writing 26 = .ok (.getfield 199, 3) := dk_180 0 199 (dk_at dksX0_writing_1 3 rfl rfl)
theorem dX0_writing_29 : decode cX0_writing 29 = .ok (.invokevirtual 244, 3) := dk_182 0 244 (dk_at dksX0_writing_1 6 rfl rfl)
theorem dX0_writing_32 : decode cX0_writing 32 = .ok (.aload_n 0, 1) := dk_42 (dk_at dksX0_writing_1 9 rfl rfl)
theorem dX0_writing_33 : decode cX0_writing 33 = .ok (.getfield 62, 3) := dk_180 0 62 (dk_at dksX0_writing_1 10 rfl rfl)
theorem dX0_writing_36 : decode cX0_writing 36 = .ok (.aload_n 0, 1) := dk_42 (dk_at dksX0_writing_1 13 rfl rfl)
theorem dX0_writing_37 : decode cX0_writing 37 = .ok (.invokevirtual 241, 3) := dk_182 0 241 (dk_at dksX0_writing_1 14 rfl rfl)
theorem dX0_writing_40 : decode cX0_writing 40 = .ok (.invokevirtual 248, 3) := dk_182 0 248 (dk_at dksX0_writing_1 17 rfl rfl)
theorem dX0_writing_43 : decode cX0_writing 43 = .ok (.putfield 233, 3) := dk_181 0 233 (dk_at dksX0_writing_1 20 rfl rfl)
theorem dX0_writing_46 : decode cX0_writing 46 = .ok (.aload_n 0, 1) := dk_42 (dk_at dksX0_writing_1 23 rfl rfl)
theorem dX0_writing_47 : decode cX0_writing 47 = .ok (.getfield 62, 3) := dk_180 0 62 (dk_at dksX0_writing_2 0 rfl rfl)
theorem dX0_writing_50 : decode cX0_writing 50 = .ok (.getfield 233, 3) := dk_180 0 233 (dk_at dksX0_writing_2 3 rfl rfl)
theorem dX0_writing_53 : decode cX0_writing 53 = .ok (.getfield 252, 3) := dk_180 0 252 (dk_at dksX0_writing_2 6 rfl rfl)
theorem dX0_writing_56 : decode cX0_writing 56 = .ok (.arraylength, 1) := dk_190 (dk_at dksX0_writing_2 9 rfl rfl)
theorem dX0_writing_57 : decode cX0_writing 57 = .ok (.ireturn, 1) := dk_172 (dk_at dksX0_writing_2 10 rfl rfl)
theorem dX0_writing_58 : decode cX0_writing 58 = .ok (.astore_n 2, 1) := dk_77 (dk_at dksX0_writing_2 11 rfl rfl)
theorem dX0_writing_59 : decode cX0_writing 59 = .ok (.aload_n 0, 1) := dk_42 (dk_at dksX0_writing_2 12 rfl rfl)
theorem dX0_writing_60 : decode cX0_writing 60 = .ok (.aload_n 2, 1) := dk_44 (dk_at dksX0_writing_2 13 rfl rfl)
theorem dX0_writing_61 : decode cX0_writing 61 = .ok (.invokevirtual 237, 3) := dk_182 0 237 (dk_at dksX0_writing_2 14 rfl rfl)
theorem dX0_writing_64 : decode cX0_writing 64 = .ok (.ireturn, 1) := dk_172 (dk_at dksX0_writing_2 17 rfl rfl)
abbrev cX0_setter : ByteArray := prog_1_method_31_code
def yX0_setter : MethodName := ⟨RX0, "setter", "()LRaisedPress$Setter;"⟩
def dkwX0_setter_1 : List UInt8 := [183, 0, 76, 181, 0, 79, 42, 180, 0, 79, 176]
abbrev dktX0_setter_1 : List UInt8 := dkwX0_setter_1 ++ []
def dkwX0_setter_0 : List UInt8 := [42, 180, 0, 79, 180, 0, 206, 42, 182, 0, 187, 165, 0, 19, 42, 187, 0, 70, 89, 42, 42, 182, 0, 187]
abbrev dktX0_setter_0 : List UInt8 := dkwX0_setter_0 ++ dktX0_setter_1
theorem dksX0_setter_0 : cX0_setter.data.toList.drop 0 = dktX0_setter_0 := by decide +kernel
theorem dksX0_setter_1 : cX0_setter.data.toList.drop 24 = dktX0_setter_1 := dk_seg dksX0_setter_0 24 rfl rfl
theorem dX0_setter_0 : decode cX0_setter 0 = .ok (.aload_n 0, 1) := dk_42 (dk_at dksX0_setter_0 0 rfl rfl)
theorem dX0_setter_1 : decode cX0_setter 1 = .ok (.getfield 79, 3) := dk_180 0 79 (dk_at dksX0_setter_0 1 rfl rfl)
theorem dX0_setter_4 : decode cX0_setter 4 = .ok (.getfield 206, 3) := dk_180 0 206 (dk_at dksX0_setter_0 4 rfl rfl)
theorem dX0_setter_7 : decode cX0_setter 7 = .ok (.aload_n 0, 1) := dk_42 (dk_at dksX0_setter_0 7 rfl rfl)
theorem dX0_setter_8 : decode cX0_setter 8 = .ok (.invokevirtual 187, 3) := dk_182 0 187 (dk_at dksX0_setter_0 8 rfl rfl)
theorem dX0_setter_11 : decode cX0_setter 11 = .ok (.if_acmp .eq 19, 3) := dk_165 0 19 (dk_at dksX0_setter_0 11 rfl rfl)
theorem dX0_setter_14 : decode cX0_setter 14 = .ok (.aload_n 0, 1) := dk_42 (dk_at dksX0_setter_0 14 rfl rfl)
theorem dX0_setter_15 : decode cX0_setter 15 = .ok (.new 70, 3) := dk_187 0 70 (dk_at dksX0_setter_0 15 rfl rfl)
theorem dX0_setter_18 : decode cX0_setter 18 = .ok (.dup, 1) := dk_89 (dk_at dksX0_setter_0 18 rfl rfl)
theorem dX0_setter_19 : decode cX0_setter 19 = .ok (.aload_n 0, 1) := dk_42 (dk_at dksX0_setter_0 19 rfl rfl)
theorem dX0_setter_20 : decode cX0_setter 20 = .ok (.aload_n 0, 1) := dk_42 (dk_at dksX0_setter_0 20 rfl rfl)
theorem dX0_setter_21 : decode cX0_setter 21 = .ok (.invokevirtual 187, 3) := dk_182 0 187 (dk_at dksX0_setter_0 21 rfl rfl)
theorem dX0_setter_24 : decode cX0_setter 24 = .ok (.invokespecial 76, 3) := dk_183 0 76 (dk_at dksX0_setter_1 0 rfl rfl)
theorem dX0_setter_27 : decode cX0_setter 27 = .ok (.putfield 79, 3) := dk_181 0 79 (dk_at dksX0_setter_1 3 rfl rfl)
theorem dX0_setter_30 : decode cX0_setter 30 = .ok (.aload_n 0, 1) := dk_42 (dk_at dksX0_setter_1 6 rfl rfl)
theorem dX0_setter_31 : decode cX0_setter 31 = .ok (.getfield 79, 3) := dk_180 0 79 (dk_at dksX0_setter_1 7 rfl rfl)
theorem dX0_setter_34 : decode cX0_setter 34 = .ok (.areturn, 1) := dk_176 (dk_at dksX0_setter_1 10 rfl rfl)
abbrev cX0_table : ByteArray := prog_1_method_26_code
def yX0_table : MethodName := ⟨RX0, "table", "()LRaisedPress$Table;"⟩
def dkwX0_table_0 : List UInt8 := [42, 180, 0, 62, 180, 0, 72, 176]
abbrev dktX0_table_0 : List UInt8 := dkwX0_table_0 ++ []
theorem dksX0_table_0 : cX0_table.data.toList.drop 0 = dktX0_table_0 := by decide +kernel
theorem dX0_table_0 : decode cX0_table 0 = .ok (.aload_n 0, 1) := dk_42 (dk_at dksX0_table_0 0 rfl rfl)
theorem dX0_table_1 : decode cX0_table 1 = .ok (.getfield 62, 3) := dk_180 0 62 (dk_at dksX0_table_0 1 rfl rfl)
theorem dX0_table_4 : decode cX0_table 4 = .ok (.getfield 72, 3) := dk_180 0 72 (dk_at dksX0_table_0 4 rfl rfl)
theorem dX0_table_7 : decode cX0_table 7 = .ok (.areturn, 1) := dk_176 (dk_at dksX0_table_0 7 rfl rfl)
abbrev cX0_isLetter : ByteArray := prog_1_method_8_code
def yX0_isLetter : MethodName := ⟨RX0, "isLetter", "(I)Z"⟩
def dkwX0_isLetter_0 : List UInt8 := [26, 184, 0, 9, 154, 0, 10, 26, 184, 0, 15, 153, 0, 7, 4, 167, 0, 4, 3, 172]
abbrev dktX0_isLetter_0 : List UInt8 := dkwX0_isLetter_0 ++ []
theorem dksX0_isLetter_0 : cX0_isLetter.data.toList.drop 0 = dktX0_isLetter_0 := by decide +kernel
theorem dX0_isLetter_0 : decode cX0_isLetter 0 = .ok (.iload_n 0, 1) := dk_26 (dk_at dksX0_isLetter_0 0 rfl rfl)
theorem dX0_isLetter_1 : decode cX0_isLetter 1 = .ok (.invokestatic 9, 3) := dk_184 0 9 (dk_at dksX0_isLetter_0 1 rfl rfl)
theorem dX0_isLetter_4 : decode cX0_isLetter 4 = .ok (.ifCond .ne 10, 3) := dk_154 0 10 (dk_at dksX0_isLetter_0 4 rfl rfl)
theorem dX0_isLetter_7 : decode cX0_isLetter 7 = .ok (.iload_n 0, 1) := dk_26 (dk_at dksX0_isLetter_0 7 rfl rfl)
theorem dX0_isLetter_8 : decode cX0_isLetter 8 = .ok (.invokestatic 15, 3) := dk_184 0 15 (dk_at dksX0_isLetter_0 8 rfl rfl)
theorem dX0_isLetter_11 : decode cX0_isLetter 11 = .ok (.ifCond .eq 7, 3) := dk_153 0 7 (dk_at dksX0_isLetter_0 11 rfl rfl)
theorem dX0_isLetter_14 : decode cX0_isLetter 14 = .ok (.iconst 1, 1) := dk_4 (dk_at dksX0_isLetter_0 14 rfl rfl)
theorem dX0_isLetter_15 : decode cX0_isLetter 15 = .ok (.goto 4, 3) := dk_167 0 4 (dk_at dksX0_isLetter_0 15 rfl rfl)
theorem dX0_isLetter_18 : decode cX0_isLetter 18 = .ok (.iconst 0, 1) := dk_3 (dk_at dksX0_isLetter_0 18 rfl rfl)
theorem dX0_isLetter_19 : decode cX0_isLetter 19 = .ok (.ireturn, 1) := dk_172 (dk_at dksX0_isLetter_0 19 rfl rfl)
abbrev cX0_isGreat : ByteArray := prog_1_method_7_code
def yX0_isGreat : MethodName := ⟨RX0, "isGreat", "(I)Z"⟩
def dkwX0_isGreat_0 : List UInt8 := [26, 16, 65, 161, 0, 13, 26, 16, 90, 163, 0, 7, 4, 167, 0, 4, 3, 172]
abbrev dktX0_isGreat_0 : List UInt8 := dkwX0_isGreat_0 ++ []
theorem dksX0_isGreat_0 : cX0_isGreat.data.toList.drop 0 = dktX0_isGreat_0 := by decide +kernel
theorem dX0_isGreat_0 : decode cX0_isGreat 0 = .ok (.iload_n 0, 1) := dk_26 (dk_at dksX0_isGreat_0 0 rfl rfl)
theorem dX0_isGreat_1 : decode cX0_isGreat 1 = .ok (.bipush 65, 2) := dk_16 65 (dk_at dksX0_isGreat_0 1 rfl rfl)
theorem dX0_isGreat_3 : decode cX0_isGreat 3 = .ok (.if_icmp .lt 13, 3) := dk_161 0 13 (dk_at dksX0_isGreat_0 3 rfl rfl)
theorem dX0_isGreat_6 : decode cX0_isGreat 6 = .ok (.iload_n 0, 1) := dk_26 (dk_at dksX0_isGreat_0 6 rfl rfl)
theorem dX0_isGreat_7 : decode cX0_isGreat 7 = .ok (.bipush 90, 2) := dk_16 90 (dk_at dksX0_isGreat_0 7 rfl rfl)
theorem dX0_isGreat_9 : decode cX0_isGreat 9 = .ok (.if_icmp .gt 7, 3) := dk_163 0 7 (dk_at dksX0_isGreat_0 9 rfl rfl)
theorem dX0_isGreat_12 : decode cX0_isGreat 12 = .ok (.iconst 1, 1) := dk_4 (dk_at dksX0_isGreat_0 12 rfl rfl)
theorem dX0_isGreat_13 : decode cX0_isGreat 13 = .ok (.goto 4, 3) := dk_167 0 4 (dk_at dksX0_isGreat_0 13 rfl rfl)
theorem dX0_isGreat_16 : decode cX0_isGreat 16 = .ok (.iconst 0, 1) := dk_3 (dk_at dksX0_isGreat_0 16 rfl rfl)
theorem dX0_isGreat_17 : decode cX0_isGreat 17 = .ok (.ireturn, 1) := dk_172 (dk_at dksX0_isGreat_0 17 rfl rfl)
abbrev cX0_small : ByteArray := prog_1_method_11_code
def yX0_small : MethodName := ⟨RX0, "small", "(I)I"⟩
def dkwX0_small_0 : List UInt8 := [26, 184, 0, 15, 153, 0, 10, 26, 16, 32, 96, 167, 0, 4, 26, 172]
abbrev dktX0_small_0 : List UInt8 := dkwX0_small_0 ++ []
theorem dksX0_small_0 : cX0_small.data.toList.drop 0 = dktX0_small_0 := by decide +kernel
theorem dX0_small_0 : decode cX0_small 0 = .ok (.iload_n 0, 1) := dk_26 (dk_at dksX0_small_0 0 rfl rfl)
theorem dX0_small_1 : decode cX0_small 1 = .ok (.invokestatic 15, 3) := dk_184 0 15 (dk_at dksX0_small_0 1 rfl rfl)
theorem dX0_small_4 : decode cX0_small 4 = .ok (.ifCond .eq 10, 3) := dk_153 0 10 (dk_at dksX0_small_0 4 rfl rfl)
theorem dX0_small_7 : decode cX0_small 7 = .ok (.iload_n 0, 1) := dk_26 (dk_at dksX0_small_0 7 rfl rfl)
theorem dX0_small_8 : decode cX0_small 8 = .ok (.bipush 32, 2) := dk_16 32 (dk_at dksX0_small_0 8 rfl rfl)
theorem dX0_small_10 : decode cX0_small 10 = .ok (.iadd, 1) := dk_96 (dk_at dksX0_small_0 10 rfl rfl)
theorem dX0_small_11 : decode cX0_small 11 = .ok (.goto 4, 3) := dk_167 0 4 (dk_at dksX0_small_0 11 rfl rfl)
theorem dX0_small_14 : decode cX0_small 14 = .ok (.iload_n 0, 1) := dk_26 (dk_at dksX0_small_0 14 rfl rfl)
theorem dX0_small_15 : decode cX0_small 15 = .ok (.ireturn, 1) := dk_172 (dk_at dksX0_small_0 15 rfl rfl)
abbrev cX0_fault : ByteArray := prog_1_method_38_code
def yX0_fault : MethodName := ⟨RX0, "fault", "(I)I"⟩
def dkwX0_fault_1 : List UInt8 := [172]
abbrev dktX0_fault_1 : List UInt8 := dkwX0_fault_1 ++ []
def dkwX0_fault_0 : List UInt8 := [27, 154, 0, 10, 42, 180, 0, 41, 167, 0, 16, 27, 4, 160, 0, 10, 42, 180, 0, 45, 167, 0, 4, 2]
abbrev dktX0_fault_0 : List UInt8 := dkwX0_fault_0 ++ dktX0_fault_1
theorem dksX0_fault_0 : cX0_fault.data.toList.drop 0 = dktX0_fault_0 := by decide +kernel
theorem dksX0_fault_1 : cX0_fault.data.toList.drop 24 = dktX0_fault_1 := dk_seg dksX0_fault_0 24 rfl rfl
theorem dX0_fault_0 : decode cX0_fault 0 = .ok (.iload_n 1, 1) := dk_27 (dk_at dksX0_fault_0 0 rfl rfl)
theorem dX0_fault_1 : decode cX0_fault 1 = .ok (.ifCond .ne 10, 3) := dk_154 0 10 (dk_at dksX0_fault_0 1 rfl rfl)
theorem dX0_fault_4 : decode cX0_fault 4 = .ok (.aload_n 0, 1) := dk_42 (dk_at dksX0_fault_0 4 rfl rfl)
theorem dX0_fault_5 : decode cX0_fault 5 = .ok (.getfield 41, 3) := dk_180 0 41 (dk_at dksX0_fault_0 5 rfl rfl)
theorem dX0_fault_8 : decode cX0_fault 8 = .ok (.goto 16, 3) := dk_167 0 16 (dk_at dksX0_fault_0 8 rfl rfl)
theorem dX0_fault_11 : decode cX0_fault 11 = .ok (.iload_n 1, 1) := dk_27 (dk_at dksX0_fault_0 11 rfl rfl)
theorem dX0_fault_12 : decode cX0_fault 12 = .ok (.iconst 1, 1) := dk_4 (dk_at dksX0_fault_0 12 rfl rfl)
theorem dX0_fault_13 : decode cX0_fault 13 = .ok (.if_icmp .ne 10, 3) := dk_160 0 10 (dk_at dksX0_fault_0 13 rfl rfl)
theorem dX0_fault_16 : decode cX0_fault 16 = .ok (.aload_n 0, 1) := dk_42 (dk_at dksX0_fault_0 16 rfl rfl)
theorem dX0_fault_17 : decode cX0_fault 17 = .ok (.getfield 45, 3) := dk_180 0 45 (dk_at dksX0_fault_0 17 rfl rfl)
theorem dX0_fault_20 : decode cX0_fault 20 = .ok (.goto 4, 3) := dk_167 0 4 (dk_at dksX0_fault_0 20 rfl rfl)
theorem dX0_fault_23 : decode cX0_fault 23 = .ok (.iconst (-1), 1) := dk_2 (dk_at dksX0_fault_0 23 rfl rfl)
theorem dX0_fault_24 : decode cX0_fault 24 = .ok (.ireturn, 1) := dk_172 (dk_at dksX0_fault_1 0 rfl rfl)
abbrev cX0_told : ByteArray := prog_1_method_39_code
def yX0_told : MethodName := ⟨RX0, "told", "(I)I"⟩
def dkwX0_told_5 : List UInt8 := [172]
abbrev dktX0_told_5 : List UInt8 := dkwX0_told_5 ++ []
def dkwX0_told_4 : List UInt8 := [182, 0, 187, 180, 1, 15, 172, 42, 182, 0, 187, 180, 1, 18, 172, 42, 180, 0, 62, 180, 0, 199, 172, 2]
abbrev dktX0_told_4 : List UInt8 := dkwX0_told_4 ++ dktX0_told_5
def dkwX0_told_3 : List UInt8 := [182, 0, 187, 180, 1, 10, 182, 1, 6, 172, 42, 42, 182, 0, 187, 180, 1, 12, 182, 1, 6, 172, 42]
abbrev dktX0_told_3 : List UInt8 := dkwX0_told_3 ++ dktX0_told_4
def dkwX0_told_2 : List UInt8 := [42, 182, 0, 187, 180, 0, 190, 172, 42, 42, 182, 0, 187, 180, 1, 3, 182, 1, 6, 172, 42, 42]
abbrev dktX0_told_2 : List UInt8 := dkwX0_told_2 ++ dktX0_told_3
def dkwX0_told_1 : List UInt8 := [170, 0, 0, 0, 0, 110, 0, 0, 0, 0, 0, 0, 0, 6, 0, 0, 0, 42, 0, 0, 0, 50, 0, 0, 0, 62, 0, 0, 0, 74, 0, 0, 0, 86, 0, 0, 0, 94, 0, 0, 0, 102]
abbrev dktX0_told_1 : List UInt8 := dkwX0_told_1 ++ dktX0_told_2
def dkwX0_told_0 : List UInt8 := [42, 27, 133, 9, 20, 1, 1, 184, 0, 195, 153, 0, 7, 3, 167, 0, 4, 4, 181, 0, 114, 27]
abbrev dktX0_told_0 : List UInt8 := dkwX0_told_0 ++ dktX0_told_1
theorem dksX0_told_0 : cX0_told.data.toList.drop 0 = dktX0_told_0 := by decide +kernel
theorem dksX0_told_1 : cX0_told.data.toList.drop 22 = dktX0_told_1 := dk_seg dksX0_told_0 22 rfl rfl
theorem dksX0_told_2 : cX0_told.data.toList.drop 64 = dktX0_told_2 := dk_seg dksX0_told_1 42 rfl rfl
theorem dksX0_told_3 : cX0_told.data.toList.drop 86 = dktX0_told_3 := dk_seg dksX0_told_2 22 rfl rfl
theorem dksX0_told_4 : cX0_told.data.toList.drop 109 = dktX0_told_4 := dk_seg dksX0_told_3 23 rfl rfl
theorem dksX0_told_5 : cX0_told.data.toList.drop 133 = dktX0_told_5 := dk_seg dksX0_told_4 24 rfl rfl
theorem dX0_told_0 : decode cX0_told 0 = .ok (.aload_n 0, 1) := dk_42 (dk_at dksX0_told_0 0 rfl rfl)
theorem dX0_told_1 : decode cX0_told 1 = .ok (.iload_n 1, 1) := dk_27 (dk_at dksX0_told_0 1 rfl rfl)
theorem dX0_told_2 : decode cX0_told 2 = .ok (.i2l, 1) := dk_133 (dk_at dksX0_told_0 2 rfl rfl)
theorem dX0_told_3 : decode cX0_told 3 = .ok (.lconst 0, 1) := dk_9 (dk_at dksX0_told_0 3 rfl rfl)
theorem dX0_told_4 : decode cX0_told 4 = .ok (.ldc2_w 257, 3) := dk_20 1 1 (dk_at dksX0_told_0 4 rfl rfl)
theorem dX0_told_7 : decode cX0_told 7 = .ok (.invokestatic 195, 3) := dk_184 0 195 (dk_at dksX0_told_0 7 rfl rfl)
theorem dX0_told_10 : decode cX0_told 10 = .ok (.ifCond .eq 7, 3) := dk_153 0 7 (dk_at dksX0_told_0 10 rfl rfl)
theorem dX0_told_13 : decode cX0_told 13 = .ok (.iconst 0, 1) := dk_3 (dk_at dksX0_told_0 13 rfl rfl)
theorem dX0_told_14 : decode cX0_told 14 = .ok (.goto 4, 3) := dk_167 0 4 (dk_at dksX0_told_0 14 rfl rfl)
theorem dX0_told_17 : decode cX0_told 17 = .ok (.iconst 1, 1) := dk_4 (dk_at dksX0_told_0 17 rfl rfl)
theorem dX0_told_18 : decode cX0_told 18 = .ok (.putfield 114, 3) := dk_181 0 114 (dk_at dksX0_told_0 18 rfl rfl)
theorem dX0_told_21 : decode cX0_told 21 = .ok (.iload_n 1, 1) := dk_27 (dk_at dksX0_told_0 21 rfl rfl)
theorem dX0_told_22 : decode cX0_told 22 = .ok (.tableswitch 110 0 6 #[42, 50, 62, 74, 86, 94, 102], 42) := by decide +kernel
theorem dX0_told_64 : decode cX0_told 64 = .ok (.aload_n 0, 1) := dk_42 (dk_at dksX0_told_2 0 rfl rfl)
theorem dX0_told_65 : decode cX0_told 65 = .ok (.invokevirtual 187, 3) := dk_182 0 187 (dk_at dksX0_told_2 1 rfl rfl)
theorem dX0_told_68 : decode cX0_told 68 = .ok (.getfield 190, 3) := dk_180 0 190 (dk_at dksX0_told_2 4 rfl rfl)
theorem dX0_told_71 : decode cX0_told 71 = .ok (.ireturn, 1) := dk_172 (dk_at dksX0_told_2 7 rfl rfl)
theorem dX0_told_72 : decode cX0_told 72 = .ok (.aload_n 0, 1) := dk_42 (dk_at dksX0_told_2 8 rfl rfl)
theorem dX0_told_73 : decode cX0_told 73 = .ok (.aload_n 0, 1) := dk_42 (dk_at dksX0_told_2 9 rfl rfl)
theorem dX0_told_74 : decode cX0_told 74 = .ok (.invokevirtual 187, 3) := dk_182 0 187 (dk_at dksX0_told_2 10 rfl rfl)
theorem dX0_told_77 : decode cX0_told 77 = .ok (.getfield 259, 3) := dk_180 1 3 (dk_at dksX0_told_2 13 rfl rfl)
theorem dX0_told_80 : decode cX0_told 80 = .ok (.invokevirtual 262, 3) := dk_182 1 6 (dk_at dksX0_told_2 16 rfl rfl)
theorem dX0_told_83 : decode cX0_told 83 = .ok (.ireturn, 1) := dk_172 (dk_at dksX0_told_2 19 rfl rfl)
theorem dX0_told_84 : decode cX0_told 84 = .ok (.aload_n 0, 1) := dk_42 (dk_at dksX0_told_2 20 rfl rfl)
theorem dX0_told_85 : decode cX0_told 85 = .ok (.aload_n 0, 1) := dk_42 (dk_at dksX0_told_2 21 rfl rfl)
theorem dX0_told_86 : decode cX0_told 86 = .ok (.invokevirtual 187, 3) := dk_182 0 187 (dk_at dksX0_told_3 0 rfl rfl)
theorem dX0_told_89 : decode cX0_told 89 = .ok (.getfield 266, 3) := dk_180 1 10 (dk_at dksX0_told_3 3 rfl rfl)
theorem dX0_told_92 : decode cX0_told 92 = .ok (.invokevirtual 262, 3) := dk_182 1 6 (dk_at dksX0_told_3 6 rfl rfl)
theorem dX0_told_95 : decode cX0_told 95 = .ok (.ireturn, 1) := dk_172 (dk_at dksX0_told_3 9 rfl rfl)
theorem dX0_told_96 : decode cX0_told 96 = .ok (.aload_n 0, 1) := dk_42 (dk_at dksX0_told_3 10 rfl rfl)
theorem dX0_told_97 : decode cX0_told 97 = .ok (.aload_n 0, 1) := dk_42 (dk_at dksX0_told_3 11 rfl rfl)
theorem dX0_told_98 : decode cX0_told 98 = .ok (.invokevirtual 187, 3) := dk_182 0 187 (dk_at dksX0_told_3 12 rfl rfl)
theorem dX0_told_101 : decode cX0_told 101 = .ok (.getfield 268, 3) := dk_180 1 12 (dk_at dksX0_told_3 15 rfl rfl)
theorem dX0_told_104 : decode cX0_told 104 = .ok (.invokevirtual 262, 3) := dk_182 1 6 (dk_at dksX0_told_3 18 rfl rfl)
theorem dX0_told_107 : decode cX0_told 107 = .ok (.ireturn, 1) := dk_172 (dk_at dksX0_told_3 21 rfl rfl)
theorem dX0_told_108 : decode cX0_told 108 = .ok (.aload_n 0, 1) := dk_42 (dk_at dksX0_told_3 22 rfl rfl)
theorem dX0_told_109 : decode cX0_told 109 = .ok (.invokevirtual 187, 3) := dk_182 0 187 (dk_at dksX0_told_4 0 rfl rfl)
theorem dX0_told_112 : decode cX0_told 112 = .ok (.getfield 271, 3) := dk_180 1 15 (dk_at dksX0_told_4 3 rfl rfl)
theorem dX0_told_115 : decode cX0_told 115 = .ok (.ireturn, 1) := dk_172 (dk_at dksX0_told_4 6 rfl rfl)
theorem dX0_told_116 : decode cX0_told 116 = .ok (.aload_n 0, 1) := dk_42 (dk_at dksX0_told_4 7 rfl rfl)
theorem dX0_told_117 : decode cX0_told 117 = .ok (.invokevirtual 187, 3) := dk_182 0 187 (dk_at dksX0_told_4 8 rfl rfl)
theorem dX0_told_120 : decode cX0_told 120 = .ok (.getfield 274, 3) := dk_180 1 18 (dk_at dksX0_told_4 11 rfl rfl)
theorem dX0_told_123 : decode cX0_told 123 = .ok (.ireturn, 1) := dk_172 (dk_at dksX0_told_4 14 rfl rfl)
theorem dX0_told_124 : decode cX0_told 124 = .ok (.aload_n 0, 1) := dk_42 (dk_at dksX0_told_4 15 rfl rfl)
theorem dX0_told_125 : decode cX0_told 125 = .ok (.getfield 62, 3) := dk_180 0 62 (dk_at dksX0_told_4 16 rfl rfl)
theorem dX0_told_128 : decode cX0_told 128 = .ok (.getfield 199, 3) := dk_180 0 199 (dk_at dksX0_told_4 19 rfl rfl)
theorem dX0_told_131 : decode cX0_told 131 = .ok (.ireturn, 1) := dk_172 (dk_at dksX0_told_4 22 rfl rfl)
theorem dX0_told_132 : decode cX0_told 132 = .ok (.iconst (-1), 1) := dk_2 (dk_at dksX0_told_4 23 rfl rfl)
theorem dX0_told_133 : decode cX0_told 133 = .ok (.ireturn, 1) := dk_172 (dk_at dksX0_told_5 0 rfl rfl)
abbrev cX0_isIn : ByteArray := prog_1_method_25_code
def yX0_isIn : MethodName := ⟨RX0, "isIn", "(JJJ)Z"⟩
def dkwX0_isIn_0 : List UInt8 := [30, 32, 148, 155, 0, 14, 30, 22, 4, 148, 157, 0, 7, 4, 167, 0, 4, 3, 172]
abbrev dktX0_isIn_0 : List UInt8 := dkwX0_isIn_0 ++ []
theorem dksX0_isIn_0 : cX0_isIn.data.toList.drop 0 = dktX0_isIn_0 := by decide +kernel
theorem dX0_isIn_0 : decode cX0_isIn 0 = .ok (.lload_n 0, 1) := dk_30 (dk_at dksX0_isIn_0 0 rfl rfl)
theorem dX0_isIn_1 : decode cX0_isIn 1 = .ok (.lload_n 2, 1) := dk_32 (dk_at dksX0_isIn_0 1 rfl rfl)
theorem dX0_isIn_2 : decode cX0_isIn 2 = .ok (.lcmp, 1) := dk_148 (dk_at dksX0_isIn_0 2 rfl rfl)
theorem dX0_isIn_3 : decode cX0_isIn 3 = .ok (.ifCond .lt 14, 3) := dk_155 0 14 (dk_at dksX0_isIn_0 3 rfl rfl)
theorem dX0_isIn_6 : decode cX0_isIn 6 = .ok (.lload_n 0, 1) := dk_30 (dk_at dksX0_isIn_0 6 rfl rfl)
theorem dX0_isIn_7 : decode cX0_isIn 7 = .ok (.lload 4, 2) := dk_22 4 (dk_at dksX0_isIn_0 7 rfl rfl)
theorem dX0_isIn_9 : decode cX0_isIn 9 = .ok (.lcmp, 1) := dk_148 (dk_at dksX0_isIn_0 9 rfl rfl)
theorem dX0_isIn_10 : decode cX0_isIn 10 = .ok (.ifCond .gt 7, 3) := dk_157 0 7 (dk_at dksX0_isIn_0 10 rfl rfl)
theorem dX0_isIn_13 : decode cX0_isIn 13 = .ok (.iconst 1, 1) := dk_4 (dk_at dksX0_isIn_0 13 rfl rfl)
theorem dX0_isIn_14 : decode cX0_isIn 14 = .ok (.goto 4, 3) := dk_167 0 4 (dk_at dksX0_isIn_0 14 rfl rfl)
theorem dX0_isIn_17 : decode cX0_isIn 17 = .ok (.iconst 0, 1) := dk_3 (dk_at dksX0_isIn_0 17 rfl rfl)
theorem dX0_isIn_18 : decode cX0_isIn 18 = .ok (.ireturn, 1) := dk_172 (dk_at dksX0_isIn_0 18 rfl rfl)
abbrev cX0_answer : ByteArray := prog_1_method_30_code
def yX0_answer : MethodName := ⟨RX0, "answer", "(I)I"⟩
def dkwX0_answer_0 : List UInt8 := [42, 27, 156, 0, 8, 16, 6, 167, 0, 4, 3, 181, 0, 114, 27, 172]
abbrev dktX0_answer_0 : List UInt8 := dkwX0_answer_0 ++ []
theorem dksX0_answer_0 : cX0_answer.data.toList.drop 0 = dktX0_answer_0 := by decide +kernel
theorem dX0_answer_0 : decode cX0_answer 0 = .ok (.aload_n 0, 1) := dk_42 (dk_at dksX0_answer_0 0 rfl rfl)
theorem dX0_answer_1 : decode cX0_answer 1 = .ok (.iload_n 1, 1) := dk_27 (dk_at dksX0_answer_0 1 rfl rfl)
theorem dX0_answer_2 : decode cX0_answer 2 = .ok (.ifCond .ge 8, 3) := dk_156 0 8 (dk_at dksX0_answer_0 2 rfl rfl)
theorem dX0_answer_5 : decode cX0_answer 5 = .ok (.bipush 6, 2) := dk_16 6 (dk_at dksX0_answer_0 5 rfl rfl)
theorem dX0_answer_7 : decode cX0_answer 7 = .ok (.goto 4, 3) := dk_167 0 4 (dk_at dksX0_answer_0 7 rfl rfl)
theorem dX0_answer_10 : decode cX0_answer 10 = .ok (.iconst 0, 1) := dk_3 (dk_at dksX0_answer_0 10 rfl rfl)
theorem dX0_answer_11 : decode cX0_answer 11 = .ok (.putfield 114, 3) := dk_181 0 114 (dk_at dksX0_answer_0 11 rfl rfl)
theorem dX0_answer_14 : decode cX0_answer 14 = .ok (.iload_n 1, 1) := dk_27 (dk_at dksX0_answer_0 14 rfl rfl)
theorem dX0_answer_15 : decode cX0_answer 15 = .ok (.ireturn, 1) := dk_172 (dk_at dksX0_answer_0 15 rfl rfl)
abbrev cX0_rule : ByteArray := prog_1_method_40_code
def yX0_rule : MethodName := ⟨RX0, "rule", "(II)I"⟩
def dkwX0_rule_3 : List UInt8 := [167, 0, 11, 42, 27, 182, 1, 26, 182, 1, 36, 172]
abbrev dktX0_rule_3 : List UInt8 := dkwX0_rule_3 ++ []
def dkwX0_rule_2 : List UInt8 := [182, 1, 26, 180, 1, 30, 190, 167, 0, 28, 28, 4, 160, 0, 15, 42, 27, 182, 1, 26, 180, 1, 35, 190]
abbrev dktX0_rule_2 : List UInt8 := dkwX0_rule_2 ++ dktX0_rule_3
def dkwX0_rule_1 : List UInt8 := [167, 0, 4, 4, 181, 0, 114, 42, 180, 0, 114, 158, 0, 7, 2, 167, 0, 44, 28, 154, 0, 15, 42, 27]
abbrev dktX0_rule_1 : List UInt8 := dkwX0_rule_1 ++ dktX0_rule_2
def dkwX0_rule_0 : List UInt8 := [42, 42, 27, 182, 1, 21, 153, 0, 19, 28, 133, 9, 20, 1, 24, 184, 0, 195, 153, 0, 7, 3]
abbrev dktX0_rule_0 : List UInt8 := dkwX0_rule_0 ++ dktX0_rule_1
theorem dksX0_rule_0 : cX0_rule.data.toList.drop 0 = dktX0_rule_0 := by decide +kernel
theorem dksX0_rule_1 : cX0_rule.data.toList.drop 22 = dktX0_rule_1 := dk_seg dksX0_rule_0 22 rfl rfl
theorem dksX0_rule_2 : cX0_rule.data.toList.drop 46 = dktX0_rule_2 := dk_seg dksX0_rule_1 24 rfl rfl
theorem dksX0_rule_3 : cX0_rule.data.toList.drop 70 = dktX0_rule_3 := dk_seg dksX0_rule_2 24 rfl rfl
theorem dX0_rule_0 : decode cX0_rule 0 = .ok (.aload_n 0, 1) := dk_42 (dk_at dksX0_rule_0 0 rfl rfl)
theorem dX0_rule_1 : decode cX0_rule 1 = .ok (.aload_n 0, 1) := dk_42 (dk_at dksX0_rule_0 1 rfl rfl)
theorem dX0_rule_2 : decode cX0_rule 2 = .ok (.iload_n 1, 1) := dk_27 (dk_at dksX0_rule_0 2 rfl rfl)
theorem dX0_rule_3 : decode cX0_rule 3 = .ok (.invokevirtual 277, 3) := dk_182 1 21 (dk_at dksX0_rule_0 3 rfl rfl)
theorem dX0_rule_6 : decode cX0_rule 6 = .ok (.ifCond .eq 19, 3) := dk_153 0 19 (dk_at dksX0_rule_0 6 rfl rfl)
theorem dX0_rule_9 : decode cX0_rule 9 = .ok (.iload_n 2, 1) := dk_28 (dk_at dksX0_rule_0 9 rfl rfl)
theorem dX0_rule_10 : decode cX0_rule 10 = .ok (.i2l, 1) := dk_133 (dk_at dksX0_rule_0 10 rfl rfl)
theorem dX0_rule_11 : decode cX0_rule 11 = .ok (.lconst 0, 1) := dk_9 (dk_at dksX0_rule_0 11 rfl rfl)
theorem dX0_rule_12 : decode cX0_rule 12 = .ok (.ldc2_w 280, 3) := dk_20 1 24 (dk_at dksX0_rule_0 12 rfl rfl)
theorem dX0_rule_15 : decode cX0_rule 15 = .ok (.invokestatic 195, 3) := dk_184 0 195 (dk_at dksX0_rule_0 15 rfl rfl)
theorem dX0_rule_18 : decode cX0_rule 18 = .ok (.ifCond .eq 7, 3) := dk_153 0 7 (dk_at dksX0_rule_0 18 rfl rfl)
theorem dX0_rule_21 : decode cX0_rule 21 = .ok (.iconst 0, 1) := dk_3 (dk_at dksX0_rule_0 21 rfl rfl)
theorem dX0_rule_22 : decode cX0_rule 22 = .ok (.goto 4, 3) := dk_167 0 4 (dk_at dksX0_rule_1 0 rfl rfl)
theorem dX0_rule_25 : decode cX0_rule 25 = .ok (.iconst 1, 1) := dk_4 (dk_at dksX0_rule_1 3 rfl rfl)
theorem dX0_rule_26 : decode cX0_rule 26 = .ok (.putfield 114, 3) := dk_181 0 114 (dk_at dksX0_rule_1 4 rfl rfl)
theorem dX0_rule_29 : decode cX0_rule 29 = .ok (.aload_n 0, 1) := dk_42 (dk_at dksX0_rule_1 7 rfl rfl)
theorem dX0_rule_30 : decode cX0_rule 30 = .ok (.getfield 114, 3) := dk_180 0 114 (dk_at dksX0_rule_1 8 rfl rfl)
theorem dX0_rule_33 : decode cX0_rule 33 = .ok (.ifCond .le 7, 3) := dk_158 0 7 (dk_at dksX0_rule_1 11 rfl rfl)
theorem dX0_rule_36 : decode cX0_rule 36 = .ok (.iconst (-1), 1) := dk_2 (dk_at dksX0_rule_1 14 rfl rfl)
theorem dX0_rule_37 : decode cX0_rule 37 = .ok (.goto 44, 3) := dk_167 0 44 (dk_at dksX0_rule_1 15 rfl rfl)
theorem dX0_rule_40 : decode cX0_rule 40 = .ok (.iload_n 2, 1) := dk_28 (dk_at dksX0_rule_1 18 rfl rfl)
theorem dX0_rule_41 : decode cX0_rule 41 = .ok (.ifCond .ne 15, 3) := dk_154 0 15 (dk_at dksX0_rule_1 19 rfl rfl)
theorem dX0_rule_44 : decode cX0_rule 44 = .ok (.aload_n 0, 1) := dk_42 (dk_at dksX0_rule_1 22 rfl rfl)
theorem dX0_rule_45 : decode cX0_rule 45 = .ok (.iload_n 1, 1) := dk_27 (dk_at dksX0_rule_1 23 rfl rfl)
theorem dX0_rule_46 : decode cX0_rule 46 = .ok (.invokevirtual 282, 3) := dk_182 1 26 (dk_at dksX0_rule_2 0 rfl rfl)
theorem dX0_rule_49 : decode cX0_rule 49 = .ok (.getfield 286, 3) := dk_180 1 30 (dk_at dksX0_rule_2 3 rfl rfl)
theorem dX0_rule_52 : decode cX0_rule 52 = .ok (.arraylength, 1) := dk_190 (dk_at dksX0_rule_2 6 rfl rfl)
theorem dX0_rule_53 : decode cX0_rule 53 = .ok (.goto 28, 3) := dk_167 0 28 (dk_at dksX0_rule_2 7 rfl rfl)
theorem dX0_rule_56 : decode cX0_rule 56 = .ok (.iload_n 2, 1) := dk_28 (dk_at dksX0_rule_2 10 rfl rfl)
theorem dX0_rule_57 : decode cX0_rule 57 = .ok (.iconst 1, 1) := dk_4 (dk_at dksX0_rule_2 11 rfl rfl)
theorem dX0_rule_58 : decode cX0_rule 58 = .ok (.if_icmp .ne 15, 3) := dk_160 0 15 (dk_at dksX0_rule_2 12 rfl rfl)
theorem dX0_rule_61 : decode cX0_rule 61 = .ok (.aload_n 0, 1) := dk_42 (dk_at dksX0_rule_2 15 rfl rfl)
theorem dX0_rule_62 : decode cX0_rule 62 = .ok (.iload_n 1, 1) := dk_27 (dk_at dksX0_rule_2 16 rfl rfl)
theorem dX0_rule_63 : decode cX0_rule 63 = .ok (.invokevirtual 282, 3) := dk_182 1 26 (dk_at dksX0_rule_2 17 rfl rfl)
theorem dX0_rule_66 : decode cX0_rule 66 = .ok (.getfield 291, 3) := dk_180 1 35 (dk_at dksX0_rule_2 20 rfl rfl)
theorem dX0_rule_69 : decode cX0_rule 69 = .ok (.arraylength, 1) := dk_190 (dk_at dksX0_rule_2 23 rfl rfl)
theorem dX0_rule_70 : decode cX0_rule 70 = .ok (.goto 11, 3) := dk_167 0 11 (dk_at dksX0_rule_3 0 rfl rfl)
theorem dX0_rule_73 : decode cX0_rule 73 = .ok (.aload_n 0, 1) := dk_42 (dk_at dksX0_rule_3 3 rfl rfl)
theorem dX0_rule_74 : decode cX0_rule 74 = .ok (.iload_n 1, 1) := dk_27 (dk_at dksX0_rule_3 4 rfl rfl)
theorem dX0_rule_75 : decode cX0_rule 75 = .ok (.invokevirtual 282, 3) := dk_182 1 26 (dk_at dksX0_rule_3 5 rfl rfl)
theorem dX0_rule_78 : decode cX0_rule 78 = .ok (.invokevirtual 292, 3) := dk_182 1 36 (dk_at dksX0_rule_3 8 rfl rfl)
theorem dX0_rule_81 : decode cX0_rule 81 = .ok (.ireturn, 1) := dk_172 (dk_at dksX0_rule_3 11 rfl rfl)
abbrev cX0_isRule : ByteArray := prog_1_method_27_code
def yX0_isRule : MethodName := ⟨RX0, "isRule", "(I)Z"⟩
def dkwX0_isRule_0 : List UInt8 := [27, 133, 9, 42, 182, 0, 187, 180, 0, 190, 4, 100, 133, 184, 0, 195, 172]
abbrev dktX0_isRule_0 : List UInt8 := dkwX0_isRule_0 ++ []
theorem dksX0_isRule_0 : cX0_isRule.data.toList.drop 0 = dktX0_isRule_0 := by decide +kernel
theorem dX0_isRule_0 : decode cX0_isRule 0 = .ok (.iload_n 1, 1) := dk_27 (dk_at dksX0_isRule_0 0 rfl rfl)
theorem dX0_isRule_1 : decode cX0_isRule 1 = .ok (.i2l, 1) := dk_133 (dk_at dksX0_isRule_0 1 rfl rfl)
theorem dX0_isRule_2 : decode cX0_isRule 2 = .ok (.lconst 0, 1) := dk_9 (dk_at dksX0_isRule_0 2 rfl rfl)
theorem dX0_isRule_3 : decode cX0_isRule 3 = .ok (.aload_n 0, 1) := dk_42 (dk_at dksX0_isRule_0 3 rfl rfl)
theorem dX0_isRule_4 : decode cX0_isRule 4 = .ok (.invokevirtual 187, 3) := dk_182 0 187 (dk_at dksX0_isRule_0 4 rfl rfl)
theorem dX0_isRule_7 : decode cX0_isRule 7 = .ok (.getfield 190, 3) := dk_180 0 190 (dk_at dksX0_isRule_0 7 rfl rfl)
theorem dX0_isRule_10 : decode cX0_isRule 10 = .ok (.iconst 1, 1) := dk_4 (dk_at dksX0_isRule_0 10 rfl rfl)
theorem dX0_isRule_11 : decode cX0_isRule 11 = .ok (.isub, 1) := dk_100 (dk_at dksX0_isRule_0 11 rfl rfl)
theorem dX0_isRule_12 : decode cX0_isRule 12 = .ok (.i2l, 1) := dk_133 (dk_at dksX0_isRule_0 12 rfl rfl)
theorem dX0_isRule_13 : decode cX0_isRule 13 = .ok (.invokestatic 195, 3) := dk_184 0 195 (dk_at dksX0_isRule_0 13 rfl rfl)
theorem dX0_isRule_16 : decode cX0_isRule 16 = .ok (.ireturn, 1) := dk_172 (dk_at dksX0_isRule_0 16 rfl rfl)
abbrev cX0_at : ByteArray := prog_1_method_29_code
def yX0_at : MethodName := ⟨RX0, "at", "(I)LRaisedPress$Rule;"⟩
def dkwX0_at_0 : List UInt8 := [42, 180, 0, 62, 180, 0, 72, 180, 0, 202, 27, 50, 176]
abbrev dktX0_at_0 : List UInt8 := dkwX0_at_0 ++ []
theorem dksX0_at_0 : cX0_at.data.toList.drop 0 = dktX0_at_0 := by decide +kernel
theorem dX0_at_0 : decode cX0_at 0 = .ok (.aload_n 0, 1) := dk_42 (dk_at dksX0_at_0 0 rfl rfl)
theorem dX0_at_1 : decode cX0_at 1 = .ok (.getfield 62, 3) := dk_180 0 62 (dk_at dksX0_at_0 1 rfl rfl)
theorem dX0_at_4 : decode cX0_at 4 = .ok (.getfield 72, 3) := dk_180 0 72 (dk_at dksX0_at_0 4 rfl rfl)
theorem dX0_at_7 : decode cX0_at 7 = .ok (.getfield 202, 3) := dk_180 0 202 (dk_at dksX0_at_0 7 rfl rfl)
theorem dX0_at_10 : decode cX0_at 10 = .ok (.iload_n 1, 1) := dk_27 (dk_at dksX0_at_0 10 rfl rfl)
theorem dX0_at_11 : decode cX0_at 11 = .ok (.aaload, 1) := dk_50 (dk_at dksX0_at_0 11 rfl rfl)
theorem dX0_at_12 : decode cX0_at 12 = .ok (.areturn, 1) := dk_176 (dk_at dksX0_at_0 12 rfl rfl)
abbrev cX0_letter : ByteArray := prog_1_method_41_code
def yX0_letter : MethodName := ⟨RX0, "letter", "(II)I"⟩
def dkwX0_letter_2 : List UInt8 := [158, 0, 7, 2, 167, 0, 16, 42, 27, 182, 1, 26, 180, 1, 30, 28, 51, 16, 96, 100, 172]
abbrev dktX0_letter_2 : List UInt8 := dkwX0_letter_2 ++ []
def dkwX0_letter_1 : List UInt8 := [190, 4, 100, 133, 184, 0, 195, 153, 0, 7, 3, 167, 0, 5, 16, 6, 181, 0, 114, 42, 180, 0, 114]
abbrev dktX0_letter_1 : List UInt8 := dkwX0_letter_1 ++ dktX0_letter_2
def dkwX0_letter_0 : List UInt8 := [42, 42, 27, 182, 1, 21, 154, 0, 7, 4, 167, 0, 30, 28, 133, 9, 42, 27, 182, 1, 26, 180, 1, 30]
abbrev dktX0_letter_0 : List UInt8 := dkwX0_letter_0 ++ dktX0_letter_1
theorem dksX0_letter_0 : cX0_letter.data.toList.drop 0 = dktX0_letter_0 := by decide +kernel
theorem dksX0_letter_1 : cX0_letter.data.toList.drop 24 = dktX0_letter_1 := dk_seg dksX0_letter_0 24 rfl rfl
theorem dksX0_letter_2 : cX0_letter.data.toList.drop 47 = dktX0_letter_2 := dk_seg dksX0_letter_1 23 rfl rfl
theorem dX0_letter_0 : decode cX0_letter 0 = .ok (.aload_n 0, 1) := dk_42 (dk_at dksX0_letter_0 0 rfl rfl)
theorem dX0_letter_1 : decode cX0_letter 1 = .ok (.aload_n 0, 1) := dk_42 (dk_at dksX0_letter_0 1 rfl rfl)
theorem dX0_letter_2 : decode cX0_letter 2 = .ok (.iload_n 1, 1) := dk_27 (dk_at dksX0_letter_0 2 rfl rfl)
theorem dX0_letter_3 : decode cX0_letter 3 = .ok (.invokevirtual 277, 3) := dk_182 1 21 (dk_at dksX0_letter_0 3 rfl rfl)
theorem dX0_letter_6 : decode cX0_letter 6 = .ok (.ifCond .ne 7, 3) := dk_154 0 7 (dk_at dksX0_letter_0 6 rfl rfl)
theorem dX0_letter_9 : decode cX0_letter 9 = .ok (.iconst 1, 1) := dk_4 (dk_at dksX0_letter_0 9 rfl rfl)
theorem dX0_letter_10 : decode cX0_letter 10 = .ok (.goto 30, 3) := dk_167 0 30 (dk_at dksX0_letter_0 10 rfl rfl)
theorem dX0_letter_13 : decode cX0_letter 13 = .ok (.iload_n 2, 1) := dk_28 (dk_at dksX0_letter_0 13 rfl rfl)
theorem dX0_letter_14 : decode cX0_letter 14 = .ok (.i2l, 1) := dk_133 (dk_at dksX0_letter_0 14 rfl rfl)
theorem dX0_letter_15 : decode cX0_letter 15 = .ok (.lconst 0, 1) := dk_9 (dk_at dksX0_letter_0 15 rfl rfl)
theorem dX0_letter_16 : decode cX0_letter 16 = .ok (.aload_n 0, 1) := dk_42 (dk_at dksX0_letter_0 16 rfl rfl)
theorem dX0_letter_17 : decode cX0_letter 17 = .ok (.iload_n 1, 1) := dk_27 (dk_at dksX0_letter_0 17 rfl rfl)
theorem dX0_letter_18 : decode cX0_letter 18 = .ok (.invokevirtual 282, 3) := dk_182 1 26 (dk_at dksX0_letter_0 18 rfl rfl)
theorem dX0_letter_21 : decode cX0_letter 21 = .ok (.getfield 286, 3) := dk_180 1 30 (dk_at dksX0_letter_0 21 rfl rfl)
theorem dX0_letter_24 : decode cX0_letter 24 = .ok (.arraylength, 1) := dk_190 (dk_at dksX0_letter_1 0 rfl rfl)
theorem dX0_letter_25 : decode cX0_letter 25 = .ok (.iconst 1, 1) := dk_4 (dk_at dksX0_letter_1 1 rfl rfl)
theorem dX0_letter_26 : decode cX0_letter 26 = .ok (.isub, 1) := dk_100 (dk_at dksX0_letter_1 2 rfl rfl)
theorem dX0_letter_27 : decode cX0_letter 27 = .ok (.i2l, 1) := dk_133 (dk_at dksX0_letter_1 3 rfl rfl)
theorem dX0_letter_28 : decode cX0_letter 28 = .ok (.invokestatic 195, 3) := dk_184 0 195 (dk_at dksX0_letter_1 4 rfl rfl)
theorem dX0_letter_31 : decode cX0_letter 31 = .ok (.ifCond .eq 7, 3) := dk_153 0 7 (dk_at dksX0_letter_1 7 rfl rfl)
theorem dX0_letter_34 : decode cX0_letter 34 = .ok (.iconst 0, 1) := dk_3 (dk_at dksX0_letter_1 10 rfl rfl)
theorem dX0_letter_35 : decode cX0_letter 35 = .ok (.goto 5, 3) := dk_167 0 5 (dk_at dksX0_letter_1 11 rfl rfl)
theorem dX0_letter_38 : decode cX0_letter 38 = .ok (.bipush 6, 2) := dk_16 6 (dk_at dksX0_letter_1 14 rfl rfl)
theorem dX0_letter_40 : decode cX0_letter 40 = .ok (.putfield 114, 3) := dk_181 0 114 (dk_at dksX0_letter_1 16 rfl rfl)
theorem dX0_letter_43 : decode cX0_letter 43 = .ok (.aload_n 0, 1) := dk_42 (dk_at dksX0_letter_1 19 rfl rfl)
theorem dX0_letter_44 : decode cX0_letter 44 = .ok (.getfield 114, 3) := dk_180 0 114 (dk_at dksX0_letter_1 20 rfl rfl)
theorem dX0_letter_47 : decode cX0_letter 47 = .ok (.ifCond .le 7, 3) := dk_158 0 7 (dk_at dksX0_letter_2 0 rfl rfl)
theorem dX0_letter_50 : decode cX0_letter 50 = .ok (.iconst (-1), 1) := dk_2 (dk_at dksX0_letter_2 3 rfl rfl)
theorem dX0_letter_51 : decode cX0_letter 51 = .ok (.goto 16, 3) := dk_167 0 16 (dk_at dksX0_letter_2 4 rfl rfl)
theorem dX0_letter_54 : decode cX0_letter 54 = .ok (.aload_n 0, 1) := dk_42 (dk_at dksX0_letter_2 7 rfl rfl)
theorem dX0_letter_55 : decode cX0_letter 55 = .ok (.iload_n 1, 1) := dk_27 (dk_at dksX0_letter_2 8 rfl rfl)
theorem dX0_letter_56 : decode cX0_letter 56 = .ok (.invokevirtual 282, 3) := dk_182 1 26 (dk_at dksX0_letter_2 9 rfl rfl)
theorem dX0_letter_59 : decode cX0_letter 59 = .ok (.getfield 286, 3) := dk_180 1 30 (dk_at dksX0_letter_2 12 rfl rfl)
theorem dX0_letter_62 : decode cX0_letter 62 = .ok (.iload_n 2, 1) := dk_28 (dk_at dksX0_letter_2 15 rfl rfl)
theorem dX0_letter_63 : decode cX0_letter 63 = .ok (.baload, 1) := dk_51 (dk_at dksX0_letter_2 16 rfl rfl)
theorem dX0_letter_64 : decode cX0_letter 64 = .ok (.bipush 96, 2) := dk_16 96 (dk_at dksX0_letter_2 17 rfl rfl)
theorem dX0_letter_66 : decode cX0_letter 66 = .ok (.isub, 1) := dk_100 (dk_at dksX0_letter_2 19 rfl rfl)
theorem dX0_letter_67 : decode cX0_letter 67 = .ok (.ireturn, 1) := dk_172 (dk_at dksX0_letter_2 20 rfl rfl)
abbrev cX0_cellOf : ByteArray := prog_1_method_42_code
def yX0_cellOf : MethodName := ⟨RX0, "cellOf", "(II)I"⟩
def dkwX0_cellOf_2 : List UInt8 := [158, 0, 7, 2, 167, 0, 13, 42, 27, 182, 1, 26, 180, 1, 35, 28, 46, 172]
abbrev dktX0_cellOf_2 : List UInt8 := dkwX0_cellOf_2 ++ []
def dkwX0_cellOf_1 : List UInt8 := [190, 4, 100, 133, 184, 0, 195, 153, 0, 7, 3, 167, 0, 5, 16, 6, 181, 0, 114, 42, 180, 0, 114]
abbrev dktX0_cellOf_1 : List UInt8 := dkwX0_cellOf_1 ++ dktX0_cellOf_2
def dkwX0_cellOf_0 : List UInt8 := [42, 42, 27, 182, 1, 21, 154, 0, 7, 4, 167, 0, 30, 28, 133, 9, 42, 27, 182, 1, 26, 180, 1, 35]
abbrev dktX0_cellOf_0 : List UInt8 := dkwX0_cellOf_0 ++ dktX0_cellOf_1
theorem dksX0_cellOf_0 : cX0_cellOf.data.toList.drop 0 = dktX0_cellOf_0 := by decide +kernel
theorem dksX0_cellOf_1 : cX0_cellOf.data.toList.drop 24 = dktX0_cellOf_1 := dk_seg dksX0_cellOf_0 24 rfl rfl
theorem dksX0_cellOf_2 : cX0_cellOf.data.toList.drop 47 = dktX0_cellOf_2 := dk_seg dksX0_cellOf_1 23 rfl rfl
theorem dX0_cellOf_0 : decode cX0_cellOf 0 = .ok (.aload_n 0, 1) := dk_42 (dk_at dksX0_cellOf_0 0 rfl rfl)
theorem dX0_cellOf_1 : decode cX0_cellOf 1 = .ok (.aload_n 0, 1) := dk_42 (dk_at dksX0_cellOf_0 1 rfl rfl)
theorem dX0_cellOf_2 : decode cX0_cellOf 2 = .ok (.iload_n 1, 1) := dk_27 (dk_at dksX0_cellOf_0 2 rfl rfl)
theorem dX0_cellOf_3 : decode cX0_cellOf 3 = .ok (.invokevirtual 277, 3) := dk_182 1 21 (dk_at dksX0_cellOf_0 3 rfl rfl)
theorem dX0_cellOf_6 : decode cX0_cellOf 6 = .ok (.ifCond .ne 7, 3) := dk_154 0 7 (dk_at dksX0_cellOf_0 6 rfl rfl)
theorem dX0_cellOf_9 : decode cX0_cellOf 9 = .ok (.iconst 1, 1) := dk_4 (dk_at dksX0_cellOf_0 9 rfl rfl)
theorem dX0_cellOf_10 : decode cX0_cellOf 10 = .ok (.goto 30, 3) := dk_167 0 30 (dk_at dksX0_cellOf_0 10 rfl rfl)
theorem dX0_cellOf_13 : decode cX0_cellOf 13 = .ok (.iload_n 2, 1) := dk_28 (dk_at dksX0_cellOf_0 13 rfl rfl)
theorem dX0_cellOf_14 : decode cX0_cellOf 14 = .ok (.i2l, 1) := dk_133 (dk_at dksX0_cellOf_0 14 rfl rfl)
theorem dX0_cellOf_15 : decode cX0_cellOf 15 = .ok (.lconst 0, 1) := dk_9 (dk_at dksX0_cellOf_0 15 rfl rfl)
theorem dX0_cellOf_16 : decode cX0_cellOf 16 = .ok (.aload_n 0, 1) := dk_42 (dk_at dksX0_cellOf_0 16 rfl rfl)
theorem dX0_cellOf_17 : decode cX0_cellOf 17 = .ok (.iload_n 1, 1) := dk_27 (dk_at dksX0_cellOf_0 17 rfl rfl)
theorem dX0_cellOf_18 : decode cX0_cellOf 18 = .ok (.invokevirtual 282, 3) := dk_182 1 26 (dk_at dksX0_cellOf_0 18 rfl rfl)
theorem dX0_cellOf_21 : decode cX0_cellOf 21 = .ok (.getfield 291, 3) := dk_180 1 35 (dk_at dksX0_cellOf_0 21 rfl rfl)
theorem dX0_cellOf_24 : decode cX0_cellOf 24 = .ok (.arraylength, 1) := dk_190 (dk_at dksX0_cellOf_1 0 rfl rfl)
theorem dX0_cellOf_25 : decode cX0_cellOf 25 = .ok (.iconst 1, 1) := dk_4 (dk_at dksX0_cellOf_1 1 rfl rfl)
theorem dX0_cellOf_26 : decode cX0_cellOf 26 = .ok (.isub, 1) := dk_100 (dk_at dksX0_cellOf_1 2 rfl rfl)
theorem dX0_cellOf_27 : decode cX0_cellOf 27 = .ok (.i2l, 1) := dk_133 (dk_at dksX0_cellOf_1 3 rfl rfl)
theorem dX0_cellOf_28 : decode cX0_cellOf 28 = .ok (.invokestatic 195, 3) := dk_184 0 195 (dk_at dksX0_cellOf_1 4 rfl rfl)
theorem dX0_cellOf_31 : decode cX0_cellOf 31 = .ok (.ifCond .eq 7, 3) := dk_153 0 7 (dk_at dksX0_cellOf_1 7 rfl rfl)
theorem dX0_cellOf_34 : decode cX0_cellOf 34 = .ok (.iconst 0, 1) := dk_3 (dk_at dksX0_cellOf_1 10 rfl rfl)
theorem dX0_cellOf_35 : decode cX0_cellOf 35 = .ok (.goto 5, 3) := dk_167 0 5 (dk_at dksX0_cellOf_1 11 rfl rfl)
theorem dX0_cellOf_38 : decode cX0_cellOf 38 = .ok (.bipush 6, 2) := dk_16 6 (dk_at dksX0_cellOf_1 14 rfl rfl)
theorem dX0_cellOf_40 : decode cX0_cellOf 40 = .ok (.putfield 114, 3) := dk_181 0 114 (dk_at dksX0_cellOf_1 16 rfl rfl)
theorem dX0_cellOf_43 : decode cX0_cellOf 43 = .ok (.aload_n 0, 1) := dk_42 (dk_at dksX0_cellOf_1 19 rfl rfl)
theorem dX0_cellOf_44 : decode cX0_cellOf 44 = .ok (.getfield 114, 3) := dk_180 0 114 (dk_at dksX0_cellOf_1 20 rfl rfl)
theorem dX0_cellOf_47 : decode cX0_cellOf 47 = .ok (.ifCond .le 7, 3) := dk_158 0 7 (dk_at dksX0_cellOf_2 0 rfl rfl)
theorem dX0_cellOf_50 : decode cX0_cellOf 50 = .ok (.iconst (-1), 1) := dk_2 (dk_at dksX0_cellOf_2 3 rfl rfl)
theorem dX0_cellOf_51 : decode cX0_cellOf 51 = .ok (.goto 13, 3) := dk_167 0 13 (dk_at dksX0_cellOf_2 4 rfl rfl)
theorem dX0_cellOf_54 : decode cX0_cellOf 54 = .ok (.aload_n 0, 1) := dk_42 (dk_at dksX0_cellOf_2 7 rfl rfl)
theorem dX0_cellOf_55 : decode cX0_cellOf 55 = .ok (.iload_n 1, 1) := dk_27 (dk_at dksX0_cellOf_2 8 rfl rfl)
theorem dX0_cellOf_56 : decode cX0_cellOf 56 = .ok (.invokevirtual 282, 3) := dk_182 1 26 (dk_at dksX0_cellOf_2 9 rfl rfl)
theorem dX0_cellOf_59 : decode cX0_cellOf 59 = .ok (.getfield 291, 3) := dk_180 1 35 (dk_at dksX0_cellOf_2 12 rfl rfl)
theorem dX0_cellOf_62 : decode cX0_cellOf 62 = .ok (.iload_n 2, 1) := dk_28 (dk_at dksX0_cellOf_2 15 rfl rfl)
theorem dX0_cellOf_63 : decode cX0_cellOf 63 = .ok (.iaload, 1) := dk_46 (dk_at dksX0_cellOf_2 16 rfl rfl)
theorem dX0_cellOf_64 : decode cX0_cellOf 64 = .ok (.ireturn, 1) := dk_172 (dk_at dksX0_cellOf_2 17 rfl rfl)
abbrev cX0_drop : ByteArray := prog_1_method_43_code
def yX0_drop : MethodName := ⟨RX0, "drop", "(IZ)Z"⟩
def dkwX0_drop_3 : List UInt8 := [167, 0, 4, 3, 172]
abbrev dktX0_drop_3 : List UInt8 := dkwX0_drop_3 ++ []
def dkwX0_drop_2 : List UInt8 := [180, 0, 62, 180, 0, 199, 4, 27, 120, 2, 130, 126, 181, 0, 199, 42, 180, 0, 114, 154, 0, 7, 4]
abbrev dktX0_drop_2 : List UInt8 := dkwX0_drop_2 ++ dktX0_drop_3
def dkwX0_drop_1 : List UInt8 := [42, 180, 0, 62, 28, 153, 0, 17, 42, 180, 0, 62, 180, 0, 199, 4, 27, 120, 128, 167, 0, 16, 42]
abbrev dktX0_drop_1 : List UInt8 := dkwX0_drop_1 ++ dktX0_drop_2
def dkwX0_drop_0 : List UInt8 := [42, 42, 27, 182, 1, 21, 153, 0, 7, 3, 167, 0, 4, 4, 181, 0, 114, 42, 180, 0, 114, 154, 0, 41]
abbrev dktX0_drop_0 : List UInt8 := dkwX0_drop_0 ++ dktX0_drop_1
theorem dksX0_drop_0 : cX0_drop.data.toList.drop 0 = dktX0_drop_0 := by decide +kernel
theorem dksX0_drop_1 : cX0_drop.data.toList.drop 24 = dktX0_drop_1 := dk_seg dksX0_drop_0 24 rfl rfl
theorem dksX0_drop_2 : cX0_drop.data.toList.drop 47 = dktX0_drop_2 := dk_seg dksX0_drop_1 23 rfl rfl
theorem dksX0_drop_3 : cX0_drop.data.toList.drop 70 = dktX0_drop_3 := dk_seg dksX0_drop_2 23 rfl rfl
theorem dX0_drop_0 : decode cX0_drop 0 = .ok (.aload_n 0, 1) := dk_42 (dk_at dksX0_drop_0 0 rfl rfl)
theorem dX0_drop_1 : decode cX0_drop 1 = .ok (.aload_n 0, 1) := dk_42 (dk_at dksX0_drop_0 1 rfl rfl)
theorem dX0_drop_2 : decode cX0_drop 2 = .ok (.iload_n 1, 1) := dk_27 (dk_at dksX0_drop_0 2 rfl rfl)
theorem dX0_drop_3 : decode cX0_drop 3 = .ok (.invokevirtual 277, 3) := dk_182 1 21 (dk_at dksX0_drop_0 3 rfl rfl)
theorem dX0_drop_6 : decode cX0_drop 6 = .ok (.ifCond .eq 7, 3) := dk_153 0 7 (dk_at dksX0_drop_0 6 rfl rfl)
theorem dX0_drop_9 : decode cX0_drop 9 = .ok (.iconst 0, 1) := dk_3 (dk_at dksX0_drop_0 9 rfl rfl)
theorem dX0_drop_10 : decode cX0_drop 10 = .ok (.goto 4, 3) := dk_167 0 4 (dk_at dksX0_drop_0 10 rfl rfl)
theorem dX0_drop_13 : decode cX0_drop 13 = .ok (.iconst 1, 1) := dk_4 (dk_at dksX0_drop_0 13 rfl rfl)
theorem dX0_drop_14 : decode cX0_drop 14 = .ok (.putfield 114, 3) := dk_181 0 114 (dk_at dksX0_drop_0 14 rfl rfl)
theorem dX0_drop_17 : decode cX0_drop 17 = .ok (.aload_n 0, 1) := dk_42 (dk_at dksX0_drop_0 17 rfl rfl)
theorem dX0_drop_18 : decode cX0_drop 18 = .ok (.getfield 114, 3) := dk_180 0 114 (dk_at dksX0_drop_0 18 rfl rfl)
theorem dX0_drop_21 : decode cX0_drop 21 = .ok (.ifCond .ne 41, 3) := dk_154 0 41 (dk_at dksX0_drop_0 21 rfl rfl)
theorem dX0_drop_24 : decode cX0_drop 24 = .ok (.aload_n 0, 1) := dk_42 (dk_at dksX0_drop_1 0 rfl rfl)
theorem dX0_drop_25 : decode cX0_drop 25 = .ok (.getfield 62, 3) := dk_180 0 62 (dk_at dksX0_drop_1 1 rfl rfl)
theorem dX0_drop_28 : decode cX0_drop 28 = .ok (.iload_n 2, 1) := dk_28 (dk_at dksX0_drop_1 4 rfl rfl)
theorem dX0_drop_29 : decode cX0_drop 29 = .ok (.ifCond .eq 17, 3) := dk_153 0 17 (dk_at dksX0_drop_1 5 rfl rfl)
theorem dX0_drop_32 : decode cX0_drop 32 = .ok (.aload_n 0, 1) := dk_42 (dk_at dksX0_drop_1 8 rfl rfl)
theorem dX0_drop_33 : decode cX0_drop 33 = .ok (.getfield 62, 3) := dk_180 0 62 (dk_at dksX0_drop_1 9 rfl rfl)
theorem dX0_drop_36 : decode cX0_drop 36 = .ok (.getfield 199, 3) := dk_180 0 199 (dk_at dksX0_drop_1 12 rfl rfl)
theorem dX0_drop_39 : decode cX0_drop 39 = .ok (.iconst 1, 1) := dk_4 (dk_at dksX0_drop_1 15 rfl rfl)
theorem dX0_drop_40 : decode cX0_drop 40 = .ok (.iload_n 1, 1) := dk_27 (dk_at dksX0_drop_1 16 rfl rfl)
theorem dX0_drop_41 : decode cX0_drop 41 = .ok (.ishl, 1) := dk_120 (dk_at dksX0_drop_1 17 rfl rfl)
theorem dX0_drop_42 : decode cX0_drop 42 = .ok (.ior, 1) := dk_128 (dk_at dksX0_drop_1 18 rfl rfl)
theorem dX0_drop_43 : decode cX0_drop 43 = .ok (.goto 16, 3) := dk_167 0 16 (dk_at dksX0_drop_1 19 rfl rfl)
theorem dX0_drop_46 : decode cX0_drop 46 = .ok (.aload_n 0, 1) := dk_42 (dk_at dksX0_drop_1 22 rfl rfl)
theorem dX0_drop_47 : decode cX0_drop 47 = .ok (.getfield 62, 3) := dk_180 0 62 (dk_at dksX0_drop_2 0 rfl rfl)
theorem dX0_drop_50 : decode cX0_drop 50 = .ok (.getfield 199, 3) := dk_180 0 199 (dk_at dksX0_drop_2 3 rfl rfl)
theorem dX0_drop_53 : decode cX0_drop 53 = .ok (.iconst 1, 1) := dk_4 (dk_at dksX0_drop_2 6 rfl rfl)
theorem dX0_drop_54 : decode cX0_drop 54 = .ok (.iload_n 1, 1) := dk_27 (dk_at dksX0_drop_2 7 rfl rfl)
theorem dX0_drop_55 : decode cX0_drop 55 = .ok (.ishl, 1) := dk_120 (dk_at dksX0_drop_2 8 rfl rfl)
theorem dX0_drop_56 : decode cX0_drop 56 = .ok (.iconst (-1), 1) := dk_2 (dk_at dksX0_drop_2 9 rfl rfl)
theorem dX0_drop_57 : decode cX0_drop 57 = .ok (.ixor, 1) := dk_130 (dk_at dksX0_drop_2 10 rfl rfl)
theorem dX0_drop_58 : decode cX0_drop 58 = .ok (.iand, 1) := dk_126 (dk_at dksX0_drop_2 11 rfl rfl)
theorem dX0_drop_59 : decode cX0_drop 59 = .ok (.putfield 199, 3) := dk_181 0 199 (dk_at dksX0_drop_2 12 rfl rfl)
theorem dX0_drop_62 : decode cX0_drop 62 = .ok (.aload_n 0, 1) := dk_42 (dk_at dksX0_drop_2 15 rfl rfl)
theorem dX0_drop_63 : decode cX0_drop 63 = .ok (.getfield 114, 3) := dk_180 0 114 (dk_at dksX0_drop_2 16 rfl rfl)
theorem dX0_drop_66 : decode cX0_drop 66 = .ok (.ifCond .ne 7, 3) := dk_154 0 7 (dk_at dksX0_drop_2 19 rfl rfl)
theorem dX0_drop_69 : decode cX0_drop 69 = .ok (.iconst 1, 1) := dk_4 (dk_at dksX0_drop_2 22 rfl rfl)
theorem dX0_drop_70 : decode cX0_drop 70 = .ok (.goto 4, 3) := dk_167 0 4 (dk_at dksX0_drop_3 0 rfl rfl)
theorem dX0_drop_73 : decode cX0_drop 73 = .ok (.iconst 0, 1) := dk_3 (dk_at dksX0_drop_3 3 rfl rfl)
theorem dX0_drop_74 : decode cX0_drop 74 = .ok (.ireturn, 1) := dk_172 (dk_at dksX0_drop_3 4 rfl rfl)
abbrev cX0_reset : ByteArray := prog_1_method_47_code
def yX0_reset : MethodName := ⟨RX0, "reset", "()I"⟩
def dkwX0_reset_2 : List UInt8 := [155, 0, 17, 42, 180, 0, 62, 42, 182, 0, 241, 182, 0, 248, 181, 0, 233, 27, 172]
abbrev dktX0_reset_2 : List UInt8 := dkwX0_reset_2 ++ []
def dkwX0_reset_1 : List UInt8 := [180, 0, 199, 182, 1, 51, 60, 42, 27, 156, 0, 8, 16, 7, 167, 0, 4, 3, 181, 0, 114, 27]
abbrev dktX0_reset_1 : List UInt8 := dkwX0_reset_1 ++ dktX0_reset_2
def dkwX0_reset_0 : List UInt8 := [42, 42, 182, 1, 48, 181, 0, 114, 42, 180, 0, 114, 158, 0, 5, 2, 172, 42, 42, 180, 0, 62]
abbrev dktX0_reset_0 : List UInt8 := dkwX0_reset_0 ++ dktX0_reset_1
theorem dksX0_reset_0 : cX0_reset.data.toList.drop 0 = dktX0_reset_0 := by decide +kernel
theorem dksX0_reset_1 : cX0_reset.data.toList.drop 22 = dktX0_reset_1 := dk_seg dksX0_reset_0 22 rfl rfl
theorem dksX0_reset_2 : cX0_reset.data.toList.drop 44 = dktX0_reset_2 := dk_seg dksX0_reset_1 22 rfl rfl
theorem dX0_reset_0 : decode cX0_reset 0 = .ok (.aload_n 0, 1) := dk_42 (dk_at dksX0_reset_0 0 rfl rfl)
theorem dX0_reset_1 : decode cX0_reset 1 = .ok (.aload_n 0, 1) := dk_42 (dk_at dksX0_reset_0 1 rfl rfl)
theorem dX0_reset_2 : decode cX0_reset 2 = .ok (.invokevirtual 304, 3) := dk_182 1 48 (dk_at dksX0_reset_0 2 rfl rfl)
theorem dX0_reset_5 : decode cX0_reset 5 = .ok (.putfield 114, 3) := dk_181 0 114 (dk_at dksX0_reset_0 5 rfl rfl)
theorem dX0_reset_8 : decode cX0_reset 8 = .ok (.aload_n 0, 1) := dk_42 (dk_at dksX0_reset_0 8 rfl rfl)
theorem dX0_reset_9 : decode cX0_reset 9 = .ok (.getfield 114, 3) := dk_180 0 114 (dk_at dksX0_reset_0 9 rfl rfl)
theorem dX0_reset_12 : decode cX0_reset 12 = .ok (.ifCond .le 5, 3) := dk_158 0 5 (dk_at dksX0_reset_0 12 rfl rfl)
theorem dX0_reset_15 : decode cX0_reset 15 = .ok (.iconst (-1), 1) := dk_2 (dk_at dksX0_reset_0 15 rfl rfl)
theorem dX0_reset_16 : decode cX0_reset 16 = .ok (.ireturn, 1) := dk_172 (dk_at dksX0_reset_0 16 rfl rfl)
theorem dX0_reset_17 : decode cX0_reset 17 = .ok (.aload_n 0, 1) := dk_42 (dk_at dksX0_reset_0 17 rfl rfl)
theorem dX0_reset_18 : decode cX0_reset 18 = .ok (.aload_n 0, 1) := dk_42 (dk_at dksX0_reset_0 18 rfl rfl)
theorem dX0_reset_19 : decode cX0_reset 19 = .ok (.getfield 62, 3) := dk_180 0 62 (dk_at dksX0_reset_0 19 rfl rfl)
theorem dX0_reset_22 : decode cX0_reset 22 = .ok (.getfield 199, 3) := dk_180 0 199 (dk_at dksX0_reset_1 0 rfl rfl)
theorem dX0_reset_25 : decode cX0_reset 25 = .ok (.invokevirtual 307, 3) := dk_182 1 51 (dk_at dksX0_reset_1 3 rfl rfl)
theorem dX0_reset_28 : decode cX0_reset 28 = .ok (.istore_n 1, 1) := dk_60 (dk_at dksX0_reset_1 6 rfl rfl)
theorem dX0_reset_29 : decode cX0_reset 29 = .ok (.aload_n 0, 1) := dk_42 (dk_at dksX0_reset_1 7 rfl rfl)
theorem dX0_reset_30 : decode cX0_reset 30 = .ok (.iload_n 1, 1) := dk_27 (dk_at dksX0_reset_1 8 rfl rfl)
theorem dX0_reset_31 : decode cX0_reset 31 = .ok (.ifCond .ge 8, 3) := dk_156 0 8 (dk_at dksX0_reset_1 9 rfl rfl)
theorem dX0_reset_34 : decode cX0_reset 34 = .ok (.bipush 7, 2) := dk_16 7 (dk_at dksX0_reset_1 12 rfl rfl)
theorem dX0_reset_36 : decode cX0_reset 36 = .ok (.goto 4, 3) := dk_167 0 4 (dk_at dksX0_reset_1 14 rfl rfl)
theorem dX0_reset_39 : decode cX0_reset 39 = .ok (.iconst 0, 1) := dk_3 (dk_at dksX0_reset_1 17 rfl rfl)
theorem dX0_reset_40 : decode cX0_reset 40 = .ok (.putfield 114, 3) := dk_181 0 114 (dk_at dksX0_reset_1 18 rfl rfl)
theorem dX0_reset_43 : decode cX0_reset 43 = .ok (.iload_n 1, 1) := dk_27 (dk_at dksX0_reset_1 21 rfl rfl)
theorem dX0_reset_44 : decode cX0_reset 44 = .ok (.ifCond .lt 17, 3) := dk_155 0 17 (dk_at dksX0_reset_2 0 rfl rfl)
theorem dX0_reset_47 : decode cX0_reset 47 = .ok (.aload_n 0, 1) := dk_42 (dk_at dksX0_reset_2 3 rfl rfl)
theorem dX0_reset_48 : decode cX0_reset 48 = .ok (.getfield 62, 3) := dk_180 0 62 (dk_at dksX0_reset_2 4 rfl rfl)
theorem dX0_reset_51 : decode cX0_reset 51 = .ok (.aload_n 0, 1) := dk_42 (dk_at dksX0_reset_2 7 rfl rfl)
theorem dX0_reset_52 : decode cX0_reset 52 = .ok (.invokevirtual 241, 3) := dk_182 0 241 (dk_at dksX0_reset_2 8 rfl rfl)
theorem dX0_reset_55 : decode cX0_reset 55 = .ok (.invokevirtual 248, 3) := dk_182 0 248 (dk_at dksX0_reset_2 11 rfl rfl)
theorem dX0_reset_58 : decode cX0_reset 58 = .ok (.putfield 233, 3) := dk_181 0 233 (dk_at dksX0_reset_2 14 rfl rfl)
theorem dX0_reset_61 : decode cX0_reset 61 = .ok (.iload_n 1, 1) := dk_27 (dk_at dksX0_reset_2 17 rfl rfl)
theorem dX0_reset_62 : decode cX0_reset 62 = .ok (.ireturn, 1) := dk_172 (dk_at dksX0_reset_2 18 rfl rfl)
abbrev cX0_whyNotSet : ByteArray := prog_1_method_45_code
def yX0_whyNotSet : MethodName := ⟨RX0, "whyNotSet", "()I"⟩
def dkwX0_whyNotSet_0 : List UInt8 := [42, 182, 1, 39, 153, 0, 7, 3, 167, 0, 5, 16, 6, 172]
abbrev dktX0_whyNotSet_0 : List UInt8 := dkwX0_whyNotSet_0 ++ []
theorem dksX0_whyNotSet_0 : cX0_whyNotSet.data.toList.drop 0 = dktX0_whyNotSet_0 := by decide +kernel
theorem dX0_whyNotSet_0 : decode cX0_whyNotSet 0 = .ok (.aload_n 0, 1) := dk_42 (dk_at dksX0_whyNotSet_0 0 rfl rfl)
theorem dX0_whyNotSet_1 : decode cX0_whyNotSet 1 = .ok (.invokevirtual 295, 3) := dk_182 1 39 (dk_at dksX0_whyNotSet_0 1 rfl rfl)
theorem dX0_whyNotSet_4 : decode cX0_whyNotSet 4 = .ok (.ifCond .eq 7, 3) := dk_153 0 7 (dk_at dksX0_whyNotSet_0 4 rfl rfl)
theorem dX0_whyNotSet_7 : decode cX0_whyNotSet 7 = .ok (.iconst 0, 1) := dk_3 (dk_at dksX0_whyNotSet_0 7 rfl rfl)
theorem dX0_whyNotSet_8 : decode cX0_whyNotSet 8 = .ok (.goto 5, 3) := dk_167 0 5 (dk_at dksX0_whyNotSet_0 8 rfl rfl)
theorem dX0_whyNotSet_11 : decode cX0_whyNotSet 11 = .ok (.bipush 6, 2) := dk_16 6 (dk_at dksX0_whyNotSet_0 11 rfl rfl)
theorem dX0_whyNotSet_13 : decode cX0_whyNotSet 13 = .ok (.ireturn, 1) := dk_172 (dk_at dksX0_whyNotSet_0 13 rfl rfl)
abbrev cX0_isSet : ByteArray := prog_1_method_44_code
def yX0_isSet : MethodName := ⟨RX0, "isSet", "()Z"⟩
def dkwX0_isSet_0 : List UInt8 := [42, 180, 0, 62, 180, 0, 233, 198, 0, 7, 4, 167, 0, 4, 3, 172]
abbrev dktX0_isSet_0 : List UInt8 := dkwX0_isSet_0 ++ []
theorem dksX0_isSet_0 : cX0_isSet.data.toList.drop 0 = dktX0_isSet_0 := by decide +kernel
theorem dX0_isSet_0 : decode cX0_isSet 0 = .ok (.aload_n 0, 1) := dk_42 (dk_at dksX0_isSet_0 0 rfl rfl)
theorem dX0_isSet_1 : decode cX0_isSet 1 = .ok (.getfield 62, 3) := dk_180 0 62 (dk_at dksX0_isSet_0 1 rfl rfl)
theorem dX0_isSet_4 : decode cX0_isSet 4 = .ok (.getfield 233, 3) := dk_180 0 233 (dk_at dksX0_isSet_0 4 rfl rfl)
theorem dX0_isSet_7 : decode cX0_isSet 7 = .ok (.ifnull 7, 3) := dk_198 0 7 (dk_at dksX0_isSet_0 7 rfl rfl)
theorem dX0_isSet_10 : decode cX0_isSet 10 = .ok (.iconst 1, 1) := dk_4 (dk_at dksX0_isSet_0 10 rfl rfl)
theorem dX0_isSet_11 : decode cX0_isSet 11 = .ok (.goto 4, 3) := dk_167 0 4 (dk_at dksX0_isSet_0 11 rfl rfl)
theorem dX0_isSet_14 : decode cX0_isSet 14 = .ok (.iconst 0, 1) := dk_3 (dk_at dksX0_isSet_0 14 rfl rfl)
theorem dX0_isSet_15 : decode cX0_isSet 15 = .ok (.ireturn, 1) := dk_172 (dk_at dksX0_isSet_0 15 rfl rfl)
abbrev cX0_setsWithout : ByteArray := prog_1_method_46_code
def yX0_setsWithout : MethodName := ⟨RX0, "setsWithout", "(I)I"⟩
def dkwX0_setsWithout_1 : List UInt8 := [190, 27, 182, 0, 244, 42, 182, 0, 241, 180, 1, 46, 172, 77, 2, 172]
abbrev dktX0_setsWithout_1 : List UInt8 := dkwX0_setsWithout_1 ++ []
def dkwX0_setsWithout_0 : List UInt8 := [42, 182, 0, 241, 42, 180, 0, 62, 180, 0, 233, 180, 1, 43, 42, 180, 0, 62, 180, 0, 233, 180, 1, 43]
abbrev dktX0_setsWithout_0 : List UInt8 := dkwX0_setsWithout_0 ++ dktX0_setsWithout_1
theorem dksX0_setsWithout_0 : cX0_setsWithout.data.toList.drop 0 = dktX0_setsWithout_0 := by decide +kernel
theorem dksX0_setsWithout_1 : cX0_setsWithout.data.toList.drop 24 = dktX0_setsWithout_1 := dk_seg dksX0_setsWithout_0 24 rfl rfl
theorem dX0_setsWithout_0 : decode cX0_setsWithout 0 = .ok (.aload_n 0, 1) := dk_42 (dk_at dksX0_setsWithout_0 0 rfl rfl)
theorem dX0_setsWithout_1 : decode cX0_setsWithout 1 = .ok (.invokevirtual 241, 3) := dk_182 0 241 (dk_at dksX0_setsWithout_0 1 rfl rfl)
theorem dX0_setsWithout_4 : decode cX0_setsWithout 4 = .ok (.aload_n 0, 1) := dk_42 (dk_at dksX0_setsWithout_0 4 rfl rfl)
theorem dX0_setsWithout_5 : decode cX0_setsWithout 5 = .ok (.getfield 62, 3) := dk_180 0 62 (dk_at dksX0_setsWithout_0 5 rfl rfl)
theorem dX0_setsWithout_8 : decode cX0_setsWithout 8 = .ok (.getfield 233, 3) := dk_180 0 233 (dk_at dksX0_setsWithout_0 8 rfl rfl)
theorem dX0_setsWithout_11 : decode cX0_setsWithout 11 = .ok (.getfield 299, 3) := dk_180 1 43 (dk_at dksX0_setsWithout_0 11 rfl rfl)
theorem dX0_setsWithout_14 : decode cX0_setsWithout 14 = .ok (.aload_n 0, 1) := dk_42 (dk_at dksX0_setsWithout_0 14 rfl rfl)
theorem dX0_setsWithout_15 : decode cX0_setsWithout 15 = .ok (.getfield 62, 3) := dk_180 0 62 (dk_at dksX0_setsWithout_0 15 rfl rfl)
theorem dX0_setsWithout_18 : decode cX0_setsWithout 18 = .ok (.getfield 233, 3) := dk_180 0 233 (dk_at dksX0_setsWithout_0 18 rfl rfl)
theorem dX0_setsWithout_21 : decode cX0_setsWithout 21 = .ok (.getfield 299, 3) := dk_180 1 43 (dk_at dksX0_setsWithout_0 21 rfl rfl)
theorem dX0_setsWithout_24 : decode cX0_setsWithout 24 = .ok (.arraylength, 1) := dk_190 (dk_at dksX0_setsWithout_1 0 rfl rfl)
theorem dX0_setsWithout_25 : decode cX0_setsWithout 25 = .ok (.iload_n 1, 1) := dk_27 (dk_at dksX0_setsWithout_1 1 rfl rfl)
theorem dX0_setsWithout_26 : decode cX0_setsWithout 26 = .ok (.invokevirtual 244, 3) := dk_182 0 244 (dk_at dksX0_setsWithout_1 2 rfl rfl)
theorem dX0_setsWithout_29 : decode cX0_setsWithout 29 = .ok (.aload_n 0, 1) := dk_42 (dk_at dksX0_setsWithout_1 5 rfl rfl)
theorem dX0_setsWithout_30 : decode cX0_setsWithout 30 = .ok (.invokevirtual 241, 3) := dk_182 0 241 (dk_at dksX0_setsWithout_1 6 rfl rfl)
theorem dX0_setsWithout_33 : decode cX0_setsWithout 33 = .ok (.getfield 302, 3) := dk_180 1 46 (dk_at dksX0_setsWithout_1 9 rfl rfl)
theorem dX0_setsWithout_36 : decode cX0_setsWithout 36 = .ok (.ireturn, 1) := dk_172 (dk_at dksX0_setsWithout_1 12 rfl rfl)
theorem dX0_setsWithout_37 : decode cX0_setsWithout 37 = .ok (.astore_n 2, 1) := dk_77 (dk_at dksX0_setsWithout_1 13 rfl rfl)
theorem dX0_setsWithout_38 : decode cX0_setsWithout 38 = .ok (.iconst (-1), 1) := dk_2 (dk_at dksX0_setsWithout_1 14 rfl rfl)
theorem dX0_setsWithout_39 : decode cX0_setsWithout 39 = .ok (.ireturn, 1) := dk_172 (dk_at dksX0_setsWithout_1 15 rfl rfl)
abbrev cX0_size : ByteArray := prog_1_method_49_code
def yX0_size : MethodName := ⟨RX0, "size", "(I)I"⟩
def dkwX0_size_5 : List UInt8 := [180, 1, 65, 172]
abbrev dktX0_size_5 : List UInt8 := dkwX0_size_5 ++ []
def dkwX0_size_4 : List UInt8 := [182, 1, 59, 172, 42, 180, 0, 62, 180, 0, 233, 180, 1, 62, 190, 172, 42, 180, 0, 62, 180, 0, 233]
abbrev dktX0_size_4 : List UInt8 := dkwX0_size_4 ++ dktX0_size_5
def dkwX0_size_3 : List UInt8 := [42, 180, 0, 62, 180, 0, 233, 180, 0, 252, 190, 172, 42, 180, 0, 62, 180, 0, 233, 182, 1, 54, 172, 42]
abbrev dktX0_size_3 : List UInt8 := dkwX0_size_3 ++ dktX0_size_4
def dkwX0_size_2 : List UInt8 := [170, 0, 0, 0, 0, 70, 0, 0, 0, 0, 0, 0, 0, 3, 0, 0, 0, 30, 0, 0, 0, 42, 0, 0, 0, 53, 0, 0, 0, 58]
abbrev dktX0_size_2 : List UInt8 := dkwX0_size_2 ++ dktX0_size_3
def dkwX0_size_1 : List UInt8 := [42, 180, 0, 114, 158, 0, 5, 2, 172, 27]
abbrev dktX0_size_1 : List UInt8 := dkwX0_size_1 ++ dktX0_size_2
def dkwX0_size_0 : List UInt8 := [42, 27, 133, 9, 20, 1, 57, 184, 0, 195, 154, 0, 7, 4, 167, 0, 7, 42, 182, 1, 48, 181, 0, 114]
abbrev dktX0_size_0 : List UInt8 := dkwX0_size_0 ++ dktX0_size_1
theorem dksX0_size_0 : cX0_size.data.toList.drop 0 = dktX0_size_0 := by decide +kernel
theorem dksX0_size_1 : cX0_size.data.toList.drop 24 = dktX0_size_1 := dk_seg dksX0_size_0 24 rfl rfl
theorem dksX0_size_2 : cX0_size.data.toList.drop 34 = dktX0_size_2 := dk_seg dksX0_size_1 10 rfl rfl
theorem dksX0_size_3 : cX0_size.data.toList.drop 64 = dktX0_size_3 := dk_seg dksX0_size_2 30 rfl rfl
theorem dksX0_size_4 : cX0_size.data.toList.drop 88 = dktX0_size_4 := dk_seg dksX0_size_3 24 rfl rfl
theorem dksX0_size_5 : cX0_size.data.toList.drop 111 = dktX0_size_5 := dk_seg dksX0_size_4 23 rfl rfl
theorem dX0_size_0 : decode cX0_size 0 = .ok (.aload_n 0, 1) := dk_42 (dk_at dksX0_size_0 0 rfl rfl)
theorem dX0_size_1 : decode cX0_size 1 = .ok (.iload_n 1, 1) := dk_27 (dk_at dksX0_size_0 1 rfl rfl)
theorem dX0_size_2 : decode cX0_size 2 = .ok (.i2l, 1) := dk_133 (dk_at dksX0_size_0 2 rfl rfl)
theorem dX0_size_3 : decode cX0_size 3 = .ok (.lconst 0, 1) := dk_9 (dk_at dksX0_size_0 3 rfl rfl)
theorem dX0_size_4 : decode cX0_size 4 = .ok (.ldc2_w 313, 3) := dk_20 1 57 (dk_at dksX0_size_0 4 rfl rfl)
theorem dX0_size_7 : decode cX0_size 7 = .ok (.invokestatic 195, 3) := dk_184 0 195 (dk_at dksX0_size_0 7 rfl rfl)
theorem dX0_size_10 : decode cX0_size 10 = .ok (.ifCond .ne 7, 3) := dk_154 0 7 (dk_at dksX0_size_0 10 rfl rfl)
theorem dX0_size_13 : decode cX0_size 13 = .ok (.iconst 1, 1) := dk_4 (dk_at dksX0_size_0 13 rfl rfl)
theorem dX0_size_14 : decode cX0_size 14 = .ok (.goto 7, 3) := dk_167 0 7 (dk_at dksX0_size_0 14 rfl rfl)
theorem dX0_size_17 : decode cX0_size 17 = .ok (.aload_n 0, 1) := dk_42 (dk_at dksX0_size_0 17 rfl rfl)
theorem dX0_size_18 : decode cX0_size 18 = .ok (.invokevirtual 304, 3) := dk_182 1 48 (dk_at dksX0_size_0 18 rfl rfl)
theorem dX0_size_21 : decode cX0_size 21 = .ok (.putfield 114, 3) := dk_181 0 114 (dk_at dksX0_size_0 21 rfl rfl)
theorem dX0_size_24 : decode cX0_size 24 = .ok (.aload_n 0, 1) := dk_42 (dk_at dksX0_size_1 0 rfl rfl)
theorem dX0_size_25 : decode cX0_size 25 = .ok (.getfield 114, 3) := dk_180 0 114 (dk_at dksX0_size_1 1 rfl rfl)
theorem dX0_size_28 : decode cX0_size 28 = .ok (.ifCond .le 5, 3) := dk_158 0 5 (dk_at dksX0_size_1 4 rfl rfl)
theorem dX0_size_31 : decode cX0_size 31 = .ok (.iconst (-1), 1) := dk_2 (dk_at dksX0_size_1 7 rfl rfl)
theorem dX0_size_32 : decode cX0_size 32 = .ok (.ireturn, 1) := dk_172 (dk_at dksX0_size_1 8 rfl rfl)
theorem dX0_size_33 : decode cX0_size 33 = .ok (.iload_n 1, 1) := dk_27 (dk_at dksX0_size_1 9 rfl rfl)
theorem dX0_size_34 : decode cX0_size 34 = .ok (.tableswitch 70 0 3 #[30, 42, 53, 58], 30) := by decide +kernel
theorem dX0_size_64 : decode cX0_size 64 = .ok (.aload_n 0, 1) := dk_42 (dk_at dksX0_size_3 0 rfl rfl)
theorem dX0_size_65 : decode cX0_size 65 = .ok (.getfield 62, 3) := dk_180 0 62 (dk_at dksX0_size_3 1 rfl rfl)
theorem dX0_size_68 : decode cX0_size 68 = .ok (.getfield 233, 3) := dk_180 0 233 (dk_at dksX0_size_3 4 rfl rfl)
theorem dX0_size_71 : decode cX0_size 71 = .ok (.getfield 252, 3) := dk_180 0 252 (dk_at dksX0_size_3 7 rfl rfl)
theorem dX0_size_74 : decode cX0_size 74 = .ok (.arraylength, 1) := dk_190 (dk_at dksX0_size_3 10 rfl rfl)
theorem dX0_size_75 : decode cX0_size 75 = .ok (.ireturn, 1) := dk_172 (dk_at dksX0_size_3 11 rfl rfl)
theorem dX0_size_76 : decode cX0_size 76 = .ok (.aload_n 0, 1) := dk_42 (dk_at dksX0_size_3 12 rfl rfl)
theorem dX0_size_77 : decode cX0_size 77 = .ok (.getfield 62, 3) := dk_180 0 62 (dk_at dksX0_size_3 13 rfl rfl)
theorem dX0_size_80 : decode cX0_size 80 = .ok (.getfield 233, 3) := dk_180 0 233 (dk_at dksX0_size_3 16 rfl rfl)
theorem dX0_size_83 : decode cX0_size 83 = .ok (.invokevirtual 310, 3) := dk_182 1 54 (dk_at dksX0_size_3 19 rfl rfl)
theorem dX0_size_86 : decode cX0_size 86 = .ok (.ireturn, 1) := dk_172 (dk_at dksX0_size_3 22 rfl rfl)
theorem dX0_size_87 : decode cX0_size 87 = .ok (.aload_n 0, 1) := dk_42 (dk_at dksX0_size_3 23 rfl rfl)
theorem dX0_size_88 : decode cX0_size 88 = .ok (.invokevirtual 315, 3) := dk_182 1 59 (dk_at dksX0_size_4 0 rfl rfl)
theorem dX0_size_91 : decode cX0_size 91 = .ok (.ireturn, 1) := dk_172 (dk_at dksX0_size_4 3 rfl rfl)
theorem dX0_size_92 : decode cX0_size 92 = .ok (.aload_n 0, 1) := dk_42 (dk_at dksX0_size_4 4 rfl rfl)
theorem dX0_size_93 : decode cX0_size 93 = .ok (.getfield 62, 3) := dk_180 0 62 (dk_at dksX0_size_4 5 rfl rfl)
theorem dX0_size_96 : decode cX0_size 96 = .ok (.getfield 233, 3) := dk_180 0 233 (dk_at dksX0_size_4 8 rfl rfl)
theorem dX0_size_99 : decode cX0_size 99 = .ok (.getfield 318, 3) := dk_180 1 62 (dk_at dksX0_size_4 11 rfl rfl)
theorem dX0_size_102 : decode cX0_size 102 = .ok (.arraylength, 1) := dk_190 (dk_at dksX0_size_4 14 rfl rfl)
theorem dX0_size_103 : decode cX0_size 103 = .ok (.ireturn, 1) := dk_172 (dk_at dksX0_size_4 15 rfl rfl)
theorem dX0_size_104 : decode cX0_size 104 = .ok (.aload_n 0, 1) := dk_42 (dk_at dksX0_size_4 16 rfl rfl)
theorem dX0_size_105 : decode cX0_size 105 = .ok (.getfield 62, 3) := dk_180 0 62 (dk_at dksX0_size_4 17 rfl rfl)
theorem dX0_size_108 : decode cX0_size 108 = .ok (.getfield 233, 3) := dk_180 0 233 (dk_at dksX0_size_4 20 rfl rfl)
theorem dX0_size_111 : decode cX0_size 111 = .ok (.getfield 321, 3) := dk_180 1 65 (dk_at dksX0_size_5 0 rfl rfl)
theorem dX0_size_114 : decode cX0_size 114 = .ok (.ireturn, 1) := dk_172 (dk_at dksX0_size_5 3 rfl rfl)
abbrev cX0_pages : ByteArray := prog_1_method_48_code
def yX0_pages : MethodName := ⟨RX0, "pages", "()I"⟩
def dkwX0_pages_1 : List UInt8 := [180, 1, 18, 108, 172]
abbrev dktX0_pages_1 : List UInt8 := dkwX0_pages_1 ++ []
def dkwX0_pages_0 : List UInt8 := [42, 180, 0, 62, 180, 0, 233, 182, 1, 54, 42, 182, 0, 187, 180, 1, 18, 96, 4, 100, 42, 182, 0, 187]
abbrev dktX0_pages_0 : List UInt8 := dkwX0_pages_0 ++ dktX0_pages_1
theorem dksX0_pages_0 : cX0_pages.data.toList.drop 0 = dktX0_pages_0 := by decide +kernel
theorem dksX0_pages_1 : cX0_pages.data.toList.drop 24 = dktX0_pages_1 := dk_seg dksX0_pages_0 24 rfl rfl
theorem dX0_pages_0 : decode cX0_pages 0 = .ok (.aload_n 0, 1) := dk_42 (dk_at dksX0_pages_0 0 rfl rfl)
theorem dX0_pages_1 : decode cX0_pages 1 = .ok (.getfield 62, 3) := dk_180 0 62 (dk_at dksX0_pages_0 1 rfl rfl)
theorem dX0_pages_4 : decode cX0_pages 4 = .ok (.getfield 233, 3) := dk_180 0 233 (dk_at dksX0_pages_0 4 rfl rfl)
theorem dX0_pages_7 : decode cX0_pages 7 = .ok (.invokevirtual 310, 3) := dk_182 1 54 (dk_at dksX0_pages_0 7 rfl rfl)
theorem dX0_pages_10 : decode cX0_pages 10 = .ok (.aload_n 0, 1) := dk_42 (dk_at dksX0_pages_0 10 rfl rfl)
theorem dX0_pages_11 : decode cX0_pages 11 = .ok (.invokevirtual 187, 3) := dk_182 0 187 (dk_at dksX0_pages_0 11 rfl rfl)
theorem dX0_pages_14 : decode cX0_pages 14 = .ok (.getfield 274, 3) := dk_180 1 18 (dk_at dksX0_pages_0 14 rfl rfl)
theorem dX0_pages_17 : decode cX0_pages 17 = .ok (.iadd, 1) := dk_96 (dk_at dksX0_pages_0 17 rfl rfl)
theorem dX0_pages_18 : decode cX0_pages 18 = .ok (.iconst 1, 1) := dk_4 (dk_at dksX0_pages_0 18 rfl rfl)
theorem dX0_pages_19 : decode cX0_pages 19 = .ok (.isub, 1) := dk_100 (dk_at dksX0_pages_0 19 rfl rfl)
theorem dX0_pages_20 : decode cX0_pages 20 = .ok (.aload_n 0, 1) := dk_42 (dk_at dksX0_pages_0 20 rfl rfl)
theorem dX0_pages_21 : decode cX0_pages 21 = .ok (.invokevirtual 187, 3) := dk_182 0 187 (dk_at dksX0_pages_0 21 rfl rfl)
theorem dX0_pages_24 : decode cX0_pages 24 = .ok (.getfield 274, 3) := dk_180 1 18 (dk_at dksX0_pages_1 0 rfl rfl)
theorem dX0_pages_27 : decode cX0_pages 27 = .ok (.idiv, 1) := dk_108 (dk_at dksX0_pages_1 3 rfl rfl)
theorem dX0_pages_28 : decode cX0_pages 28 = .ok (.ireturn, 1) := dk_172 (dk_at dksX0_pages_1 4 rfl rfl)
abbrev cX0_cell : ByteArray := prog_1_method_50_code
def yX0_cell : MethodName := ⟨RX0, "cell", "(I)I"⟩
def dkwX0_cell_2 : List UInt8 := [182, 1, 6, 172]
abbrev dktX0_cell_2 : List UInt8 := dkwX0_cell_2 ++ []
def dkwX0_cell_1 : List UInt8 := [133, 184, 0, 195, 153, 0, 18, 42, 180, 0, 62, 180, 0, 233, 180, 0, 252, 27, 46, 167, 0, 4, 2]
abbrev dktX0_cell_1 : List UInt8 := dkwX0_cell_1 ++ dktX0_cell_2
def dkwX0_cell_0 : List UInt8 := [42, 42, 182, 1, 39, 153, 0, 41, 27, 133, 9, 42, 180, 0, 62, 180, 0, 233, 180, 0, 252, 190, 4, 100]
abbrev dktX0_cell_0 : List UInt8 := dkwX0_cell_0 ++ dktX0_cell_1
theorem dksX0_cell_0 : cX0_cell.data.toList.drop 0 = dktX0_cell_0 := by decide +kernel
theorem dksX0_cell_1 : cX0_cell.data.toList.drop 24 = dktX0_cell_1 := dk_seg dksX0_cell_0 24 rfl rfl
theorem dksX0_cell_2 : cX0_cell.data.toList.drop 47 = dktX0_cell_2 := dk_seg dksX0_cell_1 23 rfl rfl
theorem dX0_cell_0 : decode cX0_cell 0 = .ok (.aload_n 0, 1) := dk_42 (dk_at dksX0_cell_0 0 rfl rfl)
theorem dX0_cell_1 : decode cX0_cell 1 = .ok (.aload_n 0, 1) := dk_42 (dk_at dksX0_cell_0 1 rfl rfl)
theorem dX0_cell_2 : decode cX0_cell 2 = .ok (.invokevirtual 295, 3) := dk_182 1 39 (dk_at dksX0_cell_0 2 rfl rfl)
theorem dX0_cell_5 : decode cX0_cell 5 = .ok (.ifCond .eq 41, 3) := dk_153 0 41 (dk_at dksX0_cell_0 5 rfl rfl)
theorem dX0_cell_8 : decode cX0_cell 8 = .ok (.iload_n 1, 1) := dk_27 (dk_at dksX0_cell_0 8 rfl rfl)
theorem dX0_cell_9 : decode cX0_cell 9 = .ok (.i2l, 1) := dk_133 (dk_at dksX0_cell_0 9 rfl rfl)
theorem dX0_cell_10 : decode cX0_cell 10 = .ok (.lconst 0, 1) := dk_9 (dk_at dksX0_cell_0 10 rfl rfl)
theorem dX0_cell_11 : decode cX0_cell 11 = .ok (.aload_n 0, 1) := dk_42 (dk_at dksX0_cell_0 11 rfl rfl)
theorem dX0_cell_12 : decode cX0_cell 12 = .ok (.getfield 62, 3) := dk_180 0 62 (dk_at dksX0_cell_0 12 rfl rfl)
theorem dX0_cell_15 : decode cX0_cell 15 = .ok (.getfield 233, 3) := dk_180 0 233 (dk_at dksX0_cell_0 15 rfl rfl)
theorem dX0_cell_18 : decode cX0_cell 18 = .ok (.getfield 252, 3) := dk_180 0 252 (dk_at dksX0_cell_0 18 rfl rfl)
theorem dX0_cell_21 : decode cX0_cell 21 = .ok (.arraylength, 1) := dk_190 (dk_at dksX0_cell_0 21 rfl rfl)
theorem dX0_cell_22 : decode cX0_cell 22 = .ok (.iconst 1, 1) := dk_4 (dk_at dksX0_cell_0 22 rfl rfl)
theorem dX0_cell_23 : decode cX0_cell 23 = .ok (.isub, 1) := dk_100 (dk_at dksX0_cell_0 23 rfl rfl)
theorem dX0_cell_24 : decode cX0_cell 24 = .ok (.i2l, 1) := dk_133 (dk_at dksX0_cell_1 0 rfl rfl)
theorem dX0_cell_25 : decode cX0_cell 25 = .ok (.invokestatic 195, 3) := dk_184 0 195 (dk_at dksX0_cell_1 1 rfl rfl)
theorem dX0_cell_28 : decode cX0_cell 28 = .ok (.ifCond .eq 18, 3) := dk_153 0 18 (dk_at dksX0_cell_1 4 rfl rfl)
theorem dX0_cell_31 : decode cX0_cell 31 = .ok (.aload_n 0, 1) := dk_42 (dk_at dksX0_cell_1 7 rfl rfl)
theorem dX0_cell_32 : decode cX0_cell 32 = .ok (.getfield 62, 3) := dk_180 0 62 (dk_at dksX0_cell_1 8 rfl rfl)
theorem dX0_cell_35 : decode cX0_cell 35 = .ok (.getfield 233, 3) := dk_180 0 233 (dk_at dksX0_cell_1 11 rfl rfl)
theorem dX0_cell_38 : decode cX0_cell 38 = .ok (.getfield 252, 3) := dk_180 0 252 (dk_at dksX0_cell_1 14 rfl rfl)
theorem dX0_cell_41 : decode cX0_cell 41 = .ok (.iload_n 1, 1) := dk_27 (dk_at dksX0_cell_1 17 rfl rfl)
theorem dX0_cell_42 : decode cX0_cell 42 = .ok (.iaload, 1) := dk_46 (dk_at dksX0_cell_1 18 rfl rfl)
theorem dX0_cell_43 : decode cX0_cell 43 = .ok (.goto 4, 3) := dk_167 0 4 (dk_at dksX0_cell_1 19 rfl rfl)
theorem dX0_cell_46 : decode cX0_cell 46 = .ok (.iconst (-1), 1) := dk_2 (dk_at dksX0_cell_1 22 rfl rfl)
theorem dX0_cell_47 : decode cX0_cell 47 = .ok (.invokevirtual 262, 3) := dk_182 1 6 (dk_at dksX0_cell_2 0 rfl rfl)
theorem dX0_cell_50 : decode cX0_cell 50 = .ok (.ireturn, 1) := dk_172 (dk_at dksX0_cell_2 3 rfl rfl)
abbrev cX0_line : ByteArray := prog_1_method_52_code
def yX0_line : MethodName := ⟨RX0, "line", "(I)I"⟩
def dkwX0_line_1 : List UInt8 := [182, 1, 6, 172]
abbrev dktX0_line_1 : List UInt8 := dkwX0_line_1 ++ []
def dkwX0_line_0 : List UInt8 := [42, 42, 27, 182, 1, 67, 153, 0, 17, 42, 180, 0, 62, 180, 0, 233, 27, 182, 1, 70, 167, 0, 4, 2]
abbrev dktX0_line_0 : List UInt8 := dkwX0_line_0 ++ dktX0_line_1
theorem dksX0_line_0 : cX0_line.data.toList.drop 0 = dktX0_line_0 := by decide +kernel
theorem dksX0_line_1 : cX0_line.data.toList.drop 24 = dktX0_line_1 := dk_seg dksX0_line_0 24 rfl rfl
theorem dX0_line_0 : decode cX0_line 0 = .ok (.aload_n 0, 1) := dk_42 (dk_at dksX0_line_0 0 rfl rfl)
theorem dX0_line_1 : decode cX0_line 1 = .ok (.aload_n 0, 1) := dk_42 (dk_at dksX0_line_0 1 rfl rfl)
theorem dX0_line_2 : decode cX0_line 2 = .ok (.iload_n 1, 1) := dk_27 (dk_at dksX0_line_0 2 rfl rfl)
theorem dX0_line_3 : decode cX0_line 3 = .ok (.invokevirtual 323, 3) := dk_182 1 67 (dk_at dksX0_line_0 3 rfl rfl)
theorem dX0_line_6 : decode cX0_line 6 = .ok (.ifCond .eq 17, 3) := dk_153 0 17 (dk_at dksX0_line_0 6 rfl rfl)
theorem dX0_line_9 : decode cX0_line 9 = .ok (.aload_n 0, 1) := dk_42 (dk_at dksX0_line_0 9 rfl rfl)
theorem dX0_line_10 : decode cX0_line 10 = .ok (.getfield 62, 3) := dk_180 0 62 (dk_at dksX0_line_0 10 rfl rfl)
theorem dX0_line_13 : decode cX0_line 13 = .ok (.getfield 233, 3) := dk_180 0 233 (dk_at dksX0_line_0 13 rfl rfl)
theorem dX0_line_16 : decode cX0_line 16 = .ok (.iload_n 1, 1) := dk_27 (dk_at dksX0_line_0 16 rfl rfl)
theorem dX0_line_17 : decode cX0_line 17 = .ok (.invokevirtual 326, 3) := dk_182 1 70 (dk_at dksX0_line_0 17 rfl rfl)
theorem dX0_line_20 : decode cX0_line 20 = .ok (.goto 4, 3) := dk_167 0 4 (dk_at dksX0_line_0 20 rfl rfl)
theorem dX0_line_23 : decode cX0_line 23 = .ok (.iconst (-1), 1) := dk_2 (dk_at dksX0_line_0 23 rfl rfl)
theorem dX0_line_24 : decode cX0_line 24 = .ok (.invokevirtual 262, 3) := dk_182 1 6 (dk_at dksX0_line_1 0 rfl rfl)
theorem dX0_line_27 : decode cX0_line 27 = .ok (.ireturn, 1) := dk_172 (dk_at dksX0_line_1 3 rfl rfl)
abbrev cX0_isLine : ByteArray := prog_1_method_51_code
def yX0_isLine : MethodName := ⟨RX0, "isLine", "(I)Z"⟩
def dkwX0_isLine_1 : List UInt8 := [184, 0, 195, 153, 0, 7, 4, 167, 0, 4, 3, 172]
abbrev dktX0_isLine_1 : List UInt8 := dkwX0_isLine_1 ++ []
def dkwX0_isLine_0 : List UInt8 := [42, 182, 1, 39, 153, 0, 29, 27, 133, 9, 42, 180, 0, 62, 180, 0, 233, 182, 1, 54, 4, 100, 133]
abbrev dktX0_isLine_0 : List UInt8 := dkwX0_isLine_0 ++ dktX0_isLine_1
theorem dksX0_isLine_0 : cX0_isLine.data.toList.drop 0 = dktX0_isLine_0 := by decide +kernel
theorem dksX0_isLine_1 : cX0_isLine.data.toList.drop 23 = dktX0_isLine_1 := dk_seg dksX0_isLine_0 23 rfl rfl
theorem dX0_isLine_0 : decode cX0_isLine 0 = .ok (.aload_n 0, 1) := dk_42 (dk_at dksX0_isLine_0 0 rfl rfl)
theorem dX0_isLine_1 : decode cX0_isLine 1 = .ok (.invokevirtual 295, 3) := dk_182 1 39 (dk_at dksX0_isLine_0 1 rfl rfl)
theorem dX0_isLine_4 : decode cX0_isLine 4 = .ok (.ifCond .eq 29, 3) := dk_153 0 29 (dk_at dksX0_isLine_0 4 rfl rfl)
theorem dX0_isLine_7 : decode cX0_isLine 7 = .ok (.iload_n 1, 1) := dk_27 (dk_at dksX0_isLine_0 7 rfl rfl)
theorem dX0_isLine_8 : decode cX0_isLine 8 = .ok (.i2l, 1) := dk_133 (dk_at dksX0_isLine_0 8 rfl rfl)
theorem dX0_isLine_9 : decode cX0_isLine 9 = .ok (.lconst 0, 1) := dk_9 (dk_at dksX0_isLine_0 9 rfl rfl)
theorem dX0_isLine_10 : decode cX0_isLine 10 = .ok (.aload_n 0, 1) := dk_42 (dk_at dksX0_isLine_0 10 rfl rfl)
theorem dX0_isLine_11 : decode cX0_isLine 11 = .ok (.getfield 62, 3) := dk_180 0 62 (dk_at dksX0_isLine_0 11 rfl rfl)
theorem dX0_isLine_14 : decode cX0_isLine 14 = .ok (.getfield 233, 3) := dk_180 0 233 (dk_at dksX0_isLine_0 14 rfl rfl)
theorem dX0_isLine_17 : decode cX0_isLine 17 = .ok (.invokevirtual 310, 3) := dk_182 1 54 (dk_at dksX0_isLine_0 17 rfl rfl)
theorem dX0_isLine_20 : decode cX0_isLine 20 = .ok (.iconst 1, 1) := dk_4 (dk_at dksX0_isLine_0 20 rfl rfl)
theorem dX0_isLine_21 : decode cX0_isLine 21 = .ok (.isub, 1) := dk_100 (dk_at dksX0_isLine_0 21 rfl rfl)
theorem dX0_isLine_22 : decode cX0_isLine 22 = .ok (.i2l, 1) := dk_133 (dk_at dksX0_isLine_0 22 rfl rfl)
theorem dX0_isLine_23 : decode cX0_isLine 23 = .ok (.invokestatic 195, 3) := dk_184 0 195 (dk_at dksX0_isLine_1 0 rfl rfl)
theorem dX0_isLine_26 : decode cX0_isLine 26 = .ok (.ifCond .eq 7, 3) := dk_153 0 7 (dk_at dksX0_isLine_1 3 rfl rfl)
theorem dX0_isLine_29 : decode cX0_isLine 29 = .ok (.iconst 1, 1) := dk_4 (dk_at dksX0_isLine_1 6 rfl rfl)
theorem dX0_isLine_30 : decode cX0_isLine 30 = .ok (.goto 4, 3) := dk_167 0 4 (dk_at dksX0_isLine_1 7 rfl rfl)
theorem dX0_isLine_33 : decode cX0_isLine 33 = .ok (.iconst 0, 1) := dk_3 (dk_at dksX0_isLine_1 10 rfl rfl)
theorem dX0_isLine_34 : decode cX0_isLine 34 = .ok (.ireturn, 1) := dk_172 (dk_at dksX0_isLine_1 11 rfl rfl)
abbrev cX0_lineAt : ByteArray := prog_1_method_53_code
def yX0_lineAt : MethodName := ⟨RX0, "lineAt", "(II)I"⟩
def dkwX0_lineAt_2 : List UInt8 := [180, 0, 233, 180, 1, 76, 27, 46, 28, 96, 46, 167, 0, 4, 2, 182, 1, 6, 172]
abbrev dktX0_lineAt_2 : List UInt8 := dkwX0_lineAt_2 ++ []
def dkwX0_lineAt_1 : List UInt8 := [100, 133, 184, 0, 195, 153, 0, 31, 42, 180, 0, 62, 180, 0, 233, 180, 1, 73, 42, 180, 0, 62]
abbrev dktX0_lineAt_1 : List UInt8 := dkwX0_lineAt_1 ++ dktX0_lineAt_2
def dkwX0_lineAt_0 : List UInt8 := [42, 42, 27, 182, 1, 67, 153, 0, 54, 28, 133, 9, 42, 180, 0, 62, 180, 0, 233, 27, 182, 1, 70, 4]
abbrev dktX0_lineAt_0 : List UInt8 := dkwX0_lineAt_0 ++ dktX0_lineAt_1
theorem dksX0_lineAt_0 : cX0_lineAt.data.toList.drop 0 = dktX0_lineAt_0 := by decide +kernel
theorem dksX0_lineAt_1 : cX0_lineAt.data.toList.drop 24 = dktX0_lineAt_1 := dk_seg dksX0_lineAt_0 24 rfl rfl
theorem dksX0_lineAt_2 : cX0_lineAt.data.toList.drop 46 = dktX0_lineAt_2 := dk_seg dksX0_lineAt_1 22 rfl rfl
theorem dX0_lineAt_0 : decode cX0_lineAt 0 = .ok (.aload_n 0, 1) := dk_42 (dk_at dksX0_lineAt_0 0 rfl rfl)
theorem dX0_lineAt_1 : decode cX0_lineAt 1 = .ok (.aload_n 0, 1) := dk_42 (dk_at dksX0_lineAt_0 1 rfl rfl)
theorem dX0_lineAt_2 : decode cX0_lineAt 2 = .ok (.iload_n 1, 1) := dk_27 (dk_at dksX0_lineAt_0 2 rfl rfl)
theorem dX0_lineAt_3 : decode cX0_lineAt 3 = .ok (.invokevirtual 323, 3) := dk_182 1 67 (dk_at dksX0_lineAt_0 3 rfl rfl)
theorem dX0_lineAt_6 : decode cX0_lineAt 6 = .ok (.ifCond .eq 54, 3) := dk_153 0 54 (dk_at dksX0_lineAt_0 6 rfl rfl)
theorem dX0_lineAt_9 : decode cX0_lineAt 9 = .ok (.iload_n 2, 1) := dk_28 (dk_at dksX0_lineAt_0 9 rfl rfl)
theorem dX0_lineAt_10 : decode cX0_lineAt 10 = .ok (.i2l, 1) := dk_133 (dk_at dksX0_lineAt_0 10 rfl rfl)
theorem dX0_lineAt_11 : decode cX0_lineAt 11 = .ok (.lconst 0, 1) := dk_9 (dk_at dksX0_lineAt_0 11 rfl rfl)
theorem dX0_lineAt_12 : decode cX0_lineAt 12 = .ok (.aload_n 0, 1) := dk_42 (dk_at dksX0_lineAt_0 12 rfl rfl)
theorem dX0_lineAt_13 : decode cX0_lineAt 13 = .ok (.getfield 62, 3) := dk_180 0 62 (dk_at dksX0_lineAt_0 13 rfl rfl)
theorem dX0_lineAt_16 : decode cX0_lineAt 16 = .ok (.getfield 233, 3) := dk_180 0 233 (dk_at dksX0_lineAt_0 16 rfl rfl)
theorem dX0_lineAt_19 : decode cX0_lineAt 19 = .ok (.iload_n 1, 1) := dk_27 (dk_at dksX0_lineAt_0 19 rfl rfl)
theorem dX0_lineAt_20 : decode cX0_lineAt 20 = .ok (.invokevirtual 326, 3) := dk_182 1 70 (dk_at dksX0_lineAt_0 20 rfl rfl)
theorem dX0_lineAt_23 : decode cX0_lineAt 23 = .ok (.iconst 1, 1) := dk_4 (dk_at dksX0_lineAt_0 23 rfl rfl)
theorem dX0_lineAt_24 : decode cX0_lineAt 24 = .ok (.isub, 1) := dk_100 (dk_at dksX0_lineAt_1 0 rfl rfl)
theorem dX0_lineAt_25 : decode cX0_lineAt 25 = .ok (.i2l, 1) := dk_133 (dk_at dksX0_lineAt_1 1 rfl rfl)
theorem dX0_lineAt_26 : decode cX0_lineAt 26 = .ok (.invokestatic 195, 3) := dk_184 0 195 (dk_at dksX0_lineAt_1 2 rfl rfl)
theorem dX0_lineAt_29 : decode cX0_lineAt 29 = .ok (.ifCond .eq 31, 3) := dk_153 0 31 (dk_at dksX0_lineAt_1 5 rfl rfl)
theorem dX0_lineAt_32 : decode cX0_lineAt 32 = .ok (.aload_n 0, 1) := dk_42 (dk_at dksX0_lineAt_1 8 rfl rfl)
theorem dX0_lineAt_33 : decode cX0_lineAt 33 = .ok (.getfield 62, 3) := dk_180 0 62 (dk_at dksX0_lineAt_1 9 rfl rfl)
theorem dX0_lineAt_36 : decode cX0_lineAt 36 = .ok (.getfield 233, 3) := dk_180 0 233 (dk_at dksX0_lineAt_1 12 rfl rfl)
theorem dX0_lineAt_39 : decode cX0_lineAt 39 = .ok (.getfield 329, 3) := dk_180 1 73 (dk_at dksX0_lineAt_1 15 rfl rfl)
theorem dX0_lineAt_42 : decode cX0_lineAt 42 = .ok (.aload_n 0, 1) := dk_42 (dk_at dksX0_lineAt_1 18 rfl rfl)
theorem dX0_lineAt_43 : decode cX0_lineAt 43 = .ok (.getfield 62, 3) := dk_180 0 62 (dk_at dksX0_lineAt_1 19 rfl rfl)
theorem dX0_lineAt_46 : decode cX0_lineAt 46 = .ok (.getfield 233, 3) := dk_180 0 233 (dk_at dksX0_lineAt_2 0 rfl rfl)
theorem dX0_lineAt_49 : decode cX0_lineAt 49 = .ok (.getfield 332, 3) := dk_180 1 76 (dk_at dksX0_lineAt_2 3 rfl rfl)
theorem dX0_lineAt_52 : decode cX0_lineAt 52 = .ok (.iload_n 1, 1) := dk_27 (dk_at dksX0_lineAt_2 6 rfl rfl)
theorem dX0_lineAt_53 : decode cX0_lineAt 53 = .ok (.iaload, 1) := dk_46 (dk_at dksX0_lineAt_2 7 rfl rfl)
theorem dX0_lineAt_54 : decode cX0_lineAt 54 = .ok (.iload_n 2, 1) := dk_28 (dk_at dksX0_lineAt_2 8 rfl rfl)
theorem dX0_lineAt_55 : decode cX0_lineAt 55 = .ok (.iadd, 1) := dk_96 (dk_at dksX0_lineAt_2 9 rfl rfl)
theorem dX0_lineAt_56 : decode cX0_lineAt 56 = .ok (.iaload, 1) := dk_46 (dk_at dksX0_lineAt_2 10 rfl rfl)
theorem dX0_lineAt_57 : decode cX0_lineAt 57 = .ok (.goto 4, 3) := dk_167 0 4 (dk_at dksX0_lineAt_2 11 rfl rfl)
theorem dX0_lineAt_60 : decode cX0_lineAt 60 = .ok (.iconst (-1), 1) := dk_2 (dk_at dksX0_lineAt_2 14 rfl rfl)
theorem dX0_lineAt_61 : decode cX0_lineAt 61 = .ok (.invokevirtual 262, 3) := dk_182 1 6 (dk_at dksX0_lineAt_2 15 rfl rfl)
theorem dX0_lineAt_64 : decode cX0_lineAt 64 = .ok (.ireturn, 1) := dk_172 (dk_at dksX0_lineAt_2 18 rfl rfl)
abbrev cX0_onPage : ByteArray := prog_1_method_54_code
def yX0_onPage : MethodName := ⟨RX0, "onPage", "(III)I"⟩
def dkwX0_onPage_6 : List UInt8 := [180, 1, 73, 42, 180, 0, 62, 180, 0, 233, 180, 1, 76, 21, 5, 46, 29, 96, 46, 167, 0, 4, 3, 172]
abbrev dktX0_onPage_6 : List UInt8 := dkwX0_onPage_6 ++ []
def dkwX0_onPage_5 : List UInt8 := [42, 180, 0, 62, 180, 0, 233, 21, 5, 182, 1, 70, 162, 0, 32, 42, 180, 0, 62, 180, 0, 233]
abbrev dktX0_onPage_5 : List UInt8 := dkwX0_onPage_5 ++ dktX0_onPage_6
def dkwX0_onPage_4 : List UInt8 := [153, 0, 7, 3, 167, 0, 5, 16, 6, 181, 0, 114, 42, 180, 0, 114, 158, 0, 7, 2, 167, 0, 49, 29]
abbrev dktX0_onPage_4 : List UInt8 := dkwX0_onPage_4 ++ dktX0_onPage_5
def dkwX0_onPage_3 : List UInt8 := [28, 96, 167, 0, 4, 2, 54, 5, 42, 21, 4, 154, 0, 7, 4, 167, 0, 18, 42, 21, 5, 182, 1, 67]
abbrev dktX0_onPage_3 : List UInt8 := dkwX0_onPage_3 ++ dktX0_onPage_4
def dkwX0_onPage_2 : List UInt8 := [153, 0, 29, 27, 133, 9, 20, 1, 79, 184, 0, 195, 153, 0, 17, 27, 42, 182, 0, 187, 180, 1, 18, 104]
abbrev dktX0_onPage_2 : List UInt8 := dkwX0_onPage_2 ++ dktX0_onPage_3
def dkwX0_onPage_1 : List UInt8 := [182, 0, 187, 180, 1, 15, 4, 100, 133, 184, 0, 195, 153, 0, 7, 4, 167, 0, 4, 3, 54, 4, 21, 4]
abbrev dktX0_onPage_1 : List UInt8 := dkwX0_onPage_1 ++ dktX0_onPage_2
def dkwX0_onPage_0 : List UInt8 := [28, 133, 9, 42, 182, 0, 187, 180, 1, 18, 4, 100, 133, 184, 0, 195, 153, 0, 26, 29, 133, 9, 42]
abbrev dktX0_onPage_0 : List UInt8 := dkwX0_onPage_0 ++ dktX0_onPage_1
theorem dksX0_onPage_0 : cX0_onPage.data.toList.drop 0 = dktX0_onPage_0 := by decide +kernel
theorem dksX0_onPage_1 : cX0_onPage.data.toList.drop 23 = dktX0_onPage_1 := dk_seg dksX0_onPage_0 23 rfl rfl
theorem dksX0_onPage_2 : cX0_onPage.data.toList.drop 47 = dktX0_onPage_2 := dk_seg dksX0_onPage_1 24 rfl rfl
theorem dksX0_onPage_3 : cX0_onPage.data.toList.drop 71 = dktX0_onPage_3 := dk_seg dksX0_onPage_2 24 rfl rfl
theorem dksX0_onPage_4 : cX0_onPage.data.toList.drop 95 = dktX0_onPage_4 := dk_seg dksX0_onPage_3 24 rfl rfl
theorem dksX0_onPage_5 : cX0_onPage.data.toList.drop 119 = dktX0_onPage_5 := dk_seg dksX0_onPage_4 24 rfl rfl
theorem dksX0_onPage_6 : cX0_onPage.data.toList.drop 141 = dktX0_onPage_6 := dk_seg dksX0_onPage_5 22 rfl rfl
theorem dX0_onPage_0 : decode cX0_onPage 0 = .ok (.iload_n 2, 1) := dk_28 (dk_at dksX0_onPage_0 0 rfl rfl)
theorem dX0_onPage_1 : decode cX0_onPage 1 = .ok (.i2l, 1) := dk_133 (dk_at dksX0_onPage_0 1 rfl rfl)
theorem dX0_onPage_2 : decode cX0_onPage 2 = .ok (.lconst 0, 1) := dk_9 (dk_at dksX0_onPage_0 2 rfl rfl)
theorem dX0_onPage_3 : decode cX0_onPage 3 = .ok (.aload_n 0, 1) := dk_42 (dk_at dksX0_onPage_0 3 rfl rfl)
theorem dX0_onPage_4 : decode cX0_onPage 4 = .ok (.invokevirtual 187, 3) := dk_182 0 187 (dk_at dksX0_onPage_0 4 rfl rfl)
theorem dX0_onPage_7 : decode cX0_onPage 7 = .ok (.getfield 274, 3) := dk_180 1 18 (dk_at dksX0_onPage_0 7 rfl rfl)
theorem dX0_onPage_10 : decode cX0_onPage 10 = .ok (.iconst 1, 1) := dk_4 (dk_at dksX0_onPage_0 10 rfl rfl)
theorem dX0_onPage_11 : decode cX0_onPage 11 = .ok (.isub, 1) := dk_100 (dk_at dksX0_onPage_0 11 rfl rfl)
theorem dX0_onPage_12 : decode cX0_onPage 12 = .ok (.i2l, 1) := dk_133 (dk_at dksX0_onPage_0 12 rfl rfl)
theorem dX0_onPage_13 : decode cX0_onPage 13 = .ok (.invokestatic 195, 3) := dk_184 0 195 (dk_at dksX0_onPage_0 13 rfl rfl)
theorem dX0_onPage_16 : decode cX0_onPage 16 = .ok (.ifCond .eq 26, 3) := dk_153 0 26 (dk_at dksX0_onPage_0 16 rfl rfl)
theorem dX0_onPage_19 : decode cX0_onPage 19 = .ok (.iload_n 3, 1) := dk_29 (dk_at dksX0_onPage_0 19 rfl rfl)
theorem dX0_onPage_20 : decode cX0_onPage 20 = .ok (.i2l, 1) := dk_133 (dk_at dksX0_onPage_0 20 rfl rfl)
theorem dX0_onPage_21 : decode cX0_onPage 21 = .ok (.lconst 0, 1) := dk_9 (dk_at dksX0_onPage_0 21 rfl rfl)
theorem dX0_onPage_22 : decode cX0_onPage 22 = .ok (.aload_n 0, 1) := dk_42 (dk_at dksX0_onPage_0 22 rfl rfl)
theorem dX0_onPage_23 : decode cX0_onPage 23 = .ok (.invokevirtual 187, 3) := dk_182 0 187 (dk_at dksX0_onPage_1 0 rfl rfl)
theorem dX0_onPage_26 : decode cX0_onPage 26 = .ok (.getfield 271, 3) := dk_180 1 15 (dk_at dksX0_onPage_1 3 rfl rfl)
theorem dX0_onPage_29 : decode cX0_onPage 29 = .ok (.iconst 1, 1) := dk_4 (dk_at dksX0_onPage_1 6 rfl rfl)
theorem dX0_onPage_30 : decode cX0_onPage 30 = .ok (.isub, 1) := dk_100 (dk_at dksX0_onPage_1 7 rfl rfl)
theorem dX0_onPage_31 : decode cX0_onPage 31 = .ok (.i2l, 1) := dk_133 (dk_at dksX0_onPage_1 8 rfl rfl)
theorem dX0_onPage_32 : decode cX0_onPage 32 = .ok (.invokestatic 195, 3) := dk_184 0 195 (dk_at dksX0_onPage_1 9 rfl rfl)
theorem dX0_onPage_35 : decode cX0_onPage 35 = .ok (.ifCond .eq 7, 3) := dk_153 0 7 (dk_at dksX0_onPage_1 12 rfl rfl)
theorem dX0_onPage_38 : decode cX0_onPage 38 = .ok (.iconst 1, 1) := dk_4 (dk_at dksX0_onPage_1 15 rfl rfl)
theorem dX0_onPage_39 : decode cX0_onPage 39 = .ok (.goto 4, 3) := dk_167 0 4 (dk_at dksX0_onPage_1 16 rfl rfl)
theorem dX0_onPage_42 : decode cX0_onPage 42 = .ok (.iconst 0, 1) := dk_3 (dk_at dksX0_onPage_1 19 rfl rfl)
theorem dX0_onPage_43 : decode cX0_onPage 43 = .ok (.istore 4, 2) := dk_54 4 (dk_at dksX0_onPage_1 20 rfl rfl)
theorem dX0_onPage_45 : decode cX0_onPage 45 = .ok (.iload 4, 2) := dk_21 4 (dk_at dksX0_onPage_1 22 rfl rfl)
theorem dX0_onPage_47 : decode cX0_onPage 47 = .ok (.ifCond .eq 29, 3) := dk_153 0 29 (dk_at dksX0_onPage_2 0 rfl rfl)
theorem dX0_onPage_50 : decode cX0_onPage 50 = .ok (.iload_n 1, 1) := dk_27 (dk_at dksX0_onPage_2 3 rfl rfl)
theorem dX0_onPage_51 : decode cX0_onPage 51 = .ok (.i2l, 1) := dk_133 (dk_at dksX0_onPage_2 4 rfl rfl)
theorem dX0_onPage_52 : decode cX0_onPage 52 = .ok (.lconst 0, 1) := dk_9 (dk_at dksX0_onPage_2 5 rfl rfl)
theorem dX0_onPage_53 : decode cX0_onPage 53 = .ok (.ldc2_w 335, 3) := dk_20 1 79 (dk_at dksX0_onPage_2 6 rfl rfl)
theorem dX0_onPage_56 : decode cX0_onPage 56 = .ok (.invokestatic 195, 3) := dk_184 0 195 (dk_at dksX0_onPage_2 9 rfl rfl)
theorem dX0_onPage_59 : decode cX0_onPage 59 = .ok (.ifCond .eq 17, 3) := dk_153 0 17 (dk_at dksX0_onPage_2 12 rfl rfl)
theorem dX0_onPage_62 : decode cX0_onPage 62 = .ok (.iload_n 1, 1) := dk_27 (dk_at dksX0_onPage_2 15 rfl rfl)
theorem dX0_onPage_63 : decode cX0_onPage 63 = .ok (.aload_n 0, 1) := dk_42 (dk_at dksX0_onPage_2 16 rfl rfl)
theorem dX0_onPage_64 : decode cX0_onPage 64 = .ok (.invokevirtual 187, 3) := dk_182 0 187 (dk_at dksX0_onPage_2 17 rfl rfl)
theorem dX0_onPage_67 : decode cX0_onPage 67 = .ok (.getfield 274, 3) := dk_180 1 18 (dk_at dksX0_onPage_2 20 rfl rfl)
theorem dX0_onPage_70 : decode cX0_onPage 70 = .ok (.imul, 1) := dk_104 (dk_at dksX0_onPage_2 23 rfl rfl)
theorem dX0_onPage_71 : decode cX0_onPage 71 = .ok (.iload_n 2, 1) := dk_28 (dk_at dksX0_onPage_3 0 rfl rfl)
theorem dX0_onPage_72 : decode cX0_onPage 72 = .ok (.iadd, 1) := dk_96 (dk_at dksX0_onPage_3 1 rfl rfl)
theorem dX0_onPage_73 : decode cX0_onPage 73 = .ok (.goto 4, 3) := dk_167 0 4 (dk_at dksX0_onPage_3 2 rfl rfl)
theorem dX0_onPage_76 : decode cX0_onPage 76 = .ok (.iconst (-1), 1) := dk_2 (dk_at dksX0_onPage_3 5 rfl rfl)
theorem dX0_onPage_77 : decode cX0_onPage 77 = .ok (.istore 5, 2) := dk_54 5 (dk_at dksX0_onPage_3 6 rfl rfl)
theorem dX0_onPage_79 : decode cX0_onPage 79 = .ok (.aload_n 0, 1) := dk_42 (dk_at dksX0_onPage_3 8 rfl rfl)
theorem dX0_onPage_80 : decode cX0_onPage 80 = .ok (.iload 4, 2) := dk_21 4 (dk_at dksX0_onPage_3 9 rfl rfl)
theorem dX0_onPage_82 : decode cX0_onPage 82 = .ok (.ifCond .ne 7, 3) := dk_154 0 7 (dk_at dksX0_onPage_3 11 rfl rfl)
theorem dX0_onPage_85 : decode cX0_onPage 85 = .ok (.iconst 1, 1) := dk_4 (dk_at dksX0_onPage_3 14 rfl rfl)
theorem dX0_onPage_86 : decode cX0_onPage 86 = .ok (.goto 18, 3) := dk_167 0 18 (dk_at dksX0_onPage_3 15 rfl rfl)
theorem dX0_onPage_89 : decode cX0_onPage 89 = .ok (.aload_n 0, 1) := dk_42 (dk_at dksX0_onPage_3 18 rfl rfl)
theorem dX0_onPage_90 : decode cX0_onPage 90 = .ok (.iload 5, 2) := dk_21 5 (dk_at dksX0_onPage_3 19 rfl rfl)
theorem dX0_onPage_92 : decode cX0_onPage 92 = .ok (.invokevirtual 323, 3) := dk_182 1 67 (dk_at dksX0_onPage_3 21 rfl rfl)
theorem dX0_onPage_95 : decode cX0_onPage 95 = .ok (.ifCond .eq 7, 3) := dk_153 0 7 (dk_at dksX0_onPage_4 0 rfl rfl)
theorem dX0_onPage_98 : decode cX0_onPage 98 = .ok (.iconst 0, 1) := dk_3 (dk_at dksX0_onPage_4 3 rfl rfl)
theorem dX0_onPage_99 : decode cX0_onPage 99 = .ok (.goto 5, 3) := dk_167 0 5 (dk_at dksX0_onPage_4 4 rfl rfl)
theorem dX0_onPage_102 : decode cX0_onPage 102 = .ok (.bipush 6, 2) := dk_16 6 (dk_at dksX0_onPage_4 7 rfl rfl)
theorem dX0_onPage_104 : decode cX0_onPage 104 = .ok (.putfield 114, 3) := dk_181 0 114 (dk_at dksX0_onPage_4 9 rfl rfl)
theorem dX0_onPage_107 : decode cX0_onPage 107 = .ok (.aload_n 0, 1) := dk_42 (dk_at dksX0_onPage_4 12 rfl rfl)
theorem dX0_onPage_108 : decode cX0_onPage 108 = .ok (.getfield 114, 3) := dk_180 0 114 (dk_at dksX0_onPage_4 13 rfl rfl)
theorem dX0_onPage_111 : decode cX0_onPage 111 = .ok (.ifCond .le 7, 3) := dk_158 0 7 (dk_at dksX0_onPage_4 16 rfl rfl)
theorem dX0_onPage_114 : decode cX0_onPage 114 = .ok (.iconst (-1), 1) := dk_2 (dk_at dksX0_onPage_4 19 rfl rfl)
theorem dX0_onPage_115 : decode cX0_onPage 115 = .ok (.goto 49, 3) := dk_167 0 49 (dk_at dksX0_onPage_4 20 rfl rfl)
theorem dX0_onPage_118 : decode cX0_onPage 118 = .ok (.iload_n 3, 1) := dk_29 (dk_at dksX0_onPage_4 23 rfl rfl)
theorem dX0_onPage_119 : decode cX0_onPage 119 = .ok (.aload_n 0, 1) := dk_42 (dk_at dksX0_onPage_5 0 rfl rfl)
theorem dX0_onPage_120 : decode cX0_onPage 120 = .ok (.getfield 62, 3) := dk_180 0 62 (dk_at dksX0_onPage_5 1 rfl rfl)
theorem dX0_onPage_123 : decode cX0_onPage 123 = .ok (.getfield 233, 3) := dk_180 0 233 (dk_at dksX0_onPage_5 4 rfl rfl)
theorem dX0_onPage_126 : decode cX0_onPage 126 = .ok (.iload 5, 2) := dk_21 5 (dk_at dksX0_onPage_5 7 rfl rfl)
theorem dX0_onPage_128 : decode cX0_onPage 128 = .ok (.invokevirtual 326, 3) := dk_182 1 70 (dk_at dksX0_onPage_5 9 rfl rfl)
theorem dX0_onPage_131 : decode cX0_onPage 131 = .ok (.if_icmp .ge 32, 3) := dk_162 0 32 (dk_at dksX0_onPage_5 12 rfl rfl)
theorem dX0_onPage_134 : decode cX0_onPage 134 = .ok (.aload_n 0, 1) := dk_42 (dk_at dksX0_onPage_5 15 rfl rfl)
theorem dX0_onPage_135 : decode cX0_onPage 135 = .ok (.getfield 62, 3) := dk_180 0 62 (dk_at dksX0_onPage_5 16 rfl rfl)
theorem dX0_onPage_138 : decode cX0_onPage 138 = .ok (.getfield 233, 3) := dk_180 0 233 (dk_at dksX0_onPage_5 19 rfl rfl)
theorem dX0_onPage_141 : decode cX0_onPage 141 = .ok (.getfield 329, 3) := dk_180 1 73 (dk_at dksX0_onPage_6 0 rfl rfl)
theorem dX0_onPage_144 : decode cX0_onPage 144 = .ok (.aload_n 0, 1) := dk_42 (dk_at dksX0_onPage_6 3 rfl rfl)
theorem dX0_onPage_145 : decode cX0_onPage 145 = .ok (.getfield 62, 3) := dk_180 0 62 (dk_at dksX0_onPage_6 4 rfl rfl)
theorem dX0_onPage_148 : decode cX0_onPage 148 = .ok (.getfield 233, 3) := dk_180 0 233 (dk_at dksX0_onPage_6 7 rfl rfl)
theorem dX0_onPage_151 : decode cX0_onPage 151 = .ok (.getfield 332, 3) := dk_180 1 76 (dk_at dksX0_onPage_6 10 rfl rfl)
theorem dX0_onPage_154 : decode cX0_onPage 154 = .ok (.iload 5, 2) := dk_21 5 (dk_at dksX0_onPage_6 13 rfl rfl)
theorem dX0_onPage_156 : decode cX0_onPage 156 = .ok (.iaload, 1) := dk_46 (dk_at dksX0_onPage_6 15 rfl rfl)
theorem dX0_onPage_157 : decode cX0_onPage 157 = .ok (.iload_n 3, 1) := dk_29 (dk_at dksX0_onPage_6 16 rfl rfl)
theorem dX0_onPage_158 : decode cX0_onPage 158 = .ok (.iadd, 1) := dk_96 (dk_at dksX0_onPage_6 17 rfl rfl)
theorem dX0_onPage_159 : decode cX0_onPage 159 = .ok (.iaload, 1) := dk_46 (dk_at dksX0_onPage_6 18 rfl rfl)
theorem dX0_onPage_160 : decode cX0_onPage 160 = .ok (.goto 4, 3) := dk_167 0 4 (dk_at dksX0_onPage_6 19 rfl rfl)
theorem dX0_onPage_163 : decode cX0_onPage 163 = .ok (.iconst 0, 1) := dk_3 (dk_at dksX0_onPage_6 22 rfl rfl)
theorem dX0_onPage_164 : decode cX0_onPage 164 = .ok (.ireturn, 1) := dk_172 (dk_at dksX0_onPage_6 23 rfl rfl)
abbrev cX0_hyphens : ByteArray := prog_1_method_55_code
def yX0_hyphens : MethodName := ⟨RX0, "hyphens", "()I"⟩
def dkwX0_hyphens_1 : List UInt8 := [180, 0, 233, 180, 1, 81, 172]
abbrev dktX0_hyphens_1 : List UInt8 := dkwX0_hyphens_1 ++ []
def dkwX0_hyphens_0 : List UInt8 := [42, 42, 182, 1, 48, 181, 0, 114, 42, 180, 0, 114, 158, 0, 7, 2, 167, 0, 13, 42, 180, 0, 62]
abbrev dktX0_hyphens_0 : List UInt8 := dkwX0_hyphens_0 ++ dktX0_hyphens_1
theorem dksX0_hyphens_0 : cX0_hyphens.data.toList.drop 0 = dktX0_hyphens_0 := by decide +kernel
theorem dksX0_hyphens_1 : cX0_hyphens.data.toList.drop 23 = dktX0_hyphens_1 := dk_seg dksX0_hyphens_0 23 rfl rfl
theorem dX0_hyphens_0 : decode cX0_hyphens 0 = .ok (.aload_n 0, 1) := dk_42 (dk_at dksX0_hyphens_0 0 rfl rfl)
theorem dX0_hyphens_1 : decode cX0_hyphens 1 = .ok (.aload_n 0, 1) := dk_42 (dk_at dksX0_hyphens_0 1 rfl rfl)
theorem dX0_hyphens_2 : decode cX0_hyphens 2 = .ok (.invokevirtual 304, 3) := dk_182 1 48 (dk_at dksX0_hyphens_0 2 rfl rfl)
theorem dX0_hyphens_5 : decode cX0_hyphens 5 = .ok (.putfield 114, 3) := dk_181 0 114 (dk_at dksX0_hyphens_0 5 rfl rfl)
theorem dX0_hyphens_8 : decode cX0_hyphens 8 = .ok (.aload_n 0, 1) := dk_42 (dk_at dksX0_hyphens_0 8 rfl rfl)
theorem dX0_hyphens_9 : decode cX0_hyphens 9 = .ok (.getfield 114, 3) := dk_180 0 114 (dk_at dksX0_hyphens_0 9 rfl rfl)
theorem dX0_hyphens_12 : decode cX0_hyphens 12 = .ok (.ifCond .le 7, 3) := dk_158 0 7 (dk_at dksX0_hyphens_0 12 rfl rfl)
theorem dX0_hyphens_15 : decode cX0_hyphens 15 = .ok (.iconst (-1), 1) := dk_2 (dk_at dksX0_hyphens_0 15 rfl rfl)
theorem dX0_hyphens_16 : decode cX0_hyphens 16 = .ok (.goto 13, 3) := dk_167 0 13 (dk_at dksX0_hyphens_0 16 rfl rfl)
theorem dX0_hyphens_19 : decode cX0_hyphens 19 = .ok (.aload_n 0, 1) := dk_42 (dk_at dksX0_hyphens_0 19 rfl rfl)
theorem dX0_hyphens_20 : decode cX0_hyphens 20 = .ok (.getfield 62, 3) := dk_180 0 62 (dk_at dksX0_hyphens_0 20 rfl rfl)
theorem dX0_hyphens_23 : decode cX0_hyphens 23 = .ok (.getfield 233, 3) := dk_180 0 233 (dk_at dksX0_hyphens_1 0 rfl rfl)
theorem dX0_hyphens_26 : decode cX0_hyphens 26 = .ok (.getfield 337, 3) := dk_180 1 81 (dk_at dksX0_hyphens_1 3 rfl rfl)
theorem dX0_hyphens_29 : decode cX0_hyphens 29 = .ok (.ireturn, 1) := dk_172 (dk_at dksX0_hyphens_1 6 rfl rfl)
abbrev cX0_used : ByteArray := prog_1_method_56_code
def yX0_used : MethodName := ⟨RX0, "used", "(I)I"⟩
def dkwX0_used_1 : List UInt8 := [158, 0, 7, 2, 167, 0, 15, 42, 180, 0, 62, 180, 0, 233, 180, 1, 84, 27, 46, 172]
abbrev dktX0_used_1 : List UInt8 := dkwX0_used_1 ++ []
def dkwX0_used_0 : List UInt8 := [42, 42, 27, 182, 1, 21, 154, 0, 7, 4, 167, 0, 7, 42, 182, 1, 48, 181, 0, 114, 42, 180, 0, 114]
abbrev dktX0_used_0 : List UInt8 := dkwX0_used_0 ++ dktX0_used_1
theorem dksX0_used_0 : cX0_used.data.toList.drop 0 = dktX0_used_0 := by decide +kernel
theorem dksX0_used_1 : cX0_used.data.toList.drop 24 = dktX0_used_1 := dk_seg dksX0_used_0 24 rfl rfl
theorem dX0_used_0 : decode cX0_used 0 = .ok (.aload_n 0, 1) := dk_42 (dk_at dksX0_used_0 0 rfl rfl)
theorem dX0_used_1 : decode cX0_used 1 = .ok (.aload_n 0, 1) := dk_42 (dk_at dksX0_used_0 1 rfl rfl)
theorem dX0_used_2 : decode cX0_used 2 = .ok (.iload_n 1, 1) := dk_27 (dk_at dksX0_used_0 2 rfl rfl)
theorem dX0_used_3 : decode cX0_used 3 = .ok (.invokevirtual 277, 3) := dk_182 1 21 (dk_at dksX0_used_0 3 rfl rfl)
theorem dX0_used_6 : decode cX0_used 6 = .ok (.ifCond .ne 7, 3) := dk_154 0 7 (dk_at dksX0_used_0 6 rfl rfl)
theorem dX0_used_9 : decode cX0_used 9 = .ok (.iconst 1, 1) := dk_4 (dk_at dksX0_used_0 9 rfl rfl)
theorem dX0_used_10 : decode cX0_used 10 = .ok (.goto 7, 3) := dk_167 0 7 (dk_at dksX0_used_0 10 rfl rfl)
theorem dX0_used_13 : decode cX0_used 13 = .ok (.aload_n 0, 1) := dk_42 (dk_at dksX0_used_0 13 rfl rfl)
theorem dX0_used_14 : decode cX0_used 14 = .ok (.invokevirtual 304, 3) := dk_182 1 48 (dk_at dksX0_used_0 14 rfl rfl)
theorem dX0_used_17 : decode cX0_used 17 = .ok (.putfield 114, 3) := dk_181 0 114 (dk_at dksX0_used_0 17 rfl rfl)
theorem dX0_used_20 : decode cX0_used 20 = .ok (.aload_n 0, 1) := dk_42 (dk_at dksX0_used_0 20 rfl rfl)
theorem dX0_used_21 : decode cX0_used 21 = .ok (.getfield 114, 3) := dk_180 0 114 (dk_at dksX0_used_0 21 rfl rfl)
theorem dX0_used_24 : decode cX0_used 24 = .ok (.ifCond .le 7, 3) := dk_158 0 7 (dk_at dksX0_used_1 0 rfl rfl)
theorem dX0_used_27 : decode cX0_used 27 = .ok (.iconst (-1), 1) := dk_2 (dk_at dksX0_used_1 3 rfl rfl)
theorem dX0_used_28 : decode cX0_used 28 = .ok (.goto 15, 3) := dk_167 0 15 (dk_at dksX0_used_1 4 rfl rfl)
theorem dX0_used_31 : decode cX0_used 31 = .ok (.aload_n 0, 1) := dk_42 (dk_at dksX0_used_1 7 rfl rfl)
theorem dX0_used_32 : decode cX0_used 32 = .ok (.getfield 62, 3) := dk_180 0 62 (dk_at dksX0_used_1 8 rfl rfl)
theorem dX0_used_35 : decode cX0_used 35 = .ok (.getfield 233, 3) := dk_180 0 233 (dk_at dksX0_used_1 11 rfl rfl)
theorem dX0_used_38 : decode cX0_used 38 = .ok (.getfield 340, 3) := dk_180 1 84 (dk_at dksX0_used_1 14 rfl rfl)
theorem dX0_used_41 : decode cX0_used 41 = .ok (.iload_n 1, 1) := dk_27 (dk_at dksX0_used_1 17 rfl rfl)
theorem dX0_used_42 : decode cX0_used 42 = .ok (.iaload, 1) := dk_46 (dk_at dksX0_used_1 18 rfl rfl)
theorem dX0_used_43 : decode cX0_used 43 = .ok (.ireturn, 1) := dk_172 (dk_at dksX0_used_1 19 rfl rfl)
abbrev cX0_useless : ByteArray := prog_1_method_57_code
def yX0_useless : MethodName := ⟨RX0, "useless", "()I"⟩
def dkwX0_useless_3 : List UInt8 := [167, 255, 209, 27, 172]
abbrev dktX0_useless_3 : List UInt8 := dkwX0_useless_3 ++ []
def dkwX0_useless_2 : List UInt8 := [180, 0, 233, 180, 1, 84, 28, 46, 154, 0, 9, 4, 28, 120, 167, 0, 4, 3, 128, 60, 132, 2, 1]
abbrev dktX0_useless_2 : List UInt8 := dkwX0_useless_2 ++ dktX0_useless_3
def dkwX0_useless_1 : List UInt8 := [182, 0, 187, 180, 0, 190, 162, 0, 42, 27, 42, 28, 182, 1, 87, 153, 0, 24, 42, 180, 0, 62]
abbrev dktX0_useless_1 : List UInt8 := dkwX0_useless_1 ++ dktX0_useless_2
def dkwX0_useless_0 : List UInt8 := [42, 42, 182, 1, 48, 181, 0, 114, 42, 180, 0, 114, 158, 0, 5, 2, 172, 3, 60, 3, 61, 28, 42]
abbrev dktX0_useless_0 : List UInt8 := dkwX0_useless_0 ++ dktX0_useless_1
theorem dksX0_useless_0 : cX0_useless.data.toList.drop 0 = dktX0_useless_0 := by decide +kernel
theorem dksX0_useless_1 : cX0_useless.data.toList.drop 23 = dktX0_useless_1 := dk_seg dksX0_useless_0 23 rfl rfl
theorem dksX0_useless_2 : cX0_useless.data.toList.drop 45 = dktX0_useless_2 := dk_seg dksX0_useless_1 22 rfl rfl
theorem dksX0_useless_3 : cX0_useless.data.toList.drop 68 = dktX0_useless_3 := dk_seg dksX0_useless_2 23 rfl rfl
theorem dX0_useless_0 : decode cX0_useless 0 = .ok (.aload_n 0, 1) := dk_42 (dk_at dksX0_useless_0 0 rfl rfl)
theorem dX0_useless_1 : decode cX0_useless 1 = .ok (.aload_n 0, 1) := dk_42 (dk_at dksX0_useless_0 1 rfl rfl)
theorem dX0_useless_2 : decode cX0_useless 2 = .ok (.invokevirtual 304, 3) := dk_182 1 48 (dk_at dksX0_useless_0 2 rfl rfl)
theorem dX0_useless_5 : decode cX0_useless 5 = .ok (.putfield 114, 3) := dk_181 0 114 (dk_at dksX0_useless_0 5 rfl rfl)
theorem dX0_useless_8 : decode cX0_useless 8 = .ok (.aload_n 0, 1) := dk_42 (dk_at dksX0_useless_0 8 rfl rfl)
theorem dX0_useless_9 : decode cX0_useless 9 = .ok (.getfield 114, 3) := dk_180 0 114 (dk_at dksX0_useless_0 9 rfl rfl)
theorem dX0_useless_12 : decode cX0_useless 12 = .ok (.ifCond .le 5, 3) := dk_158 0 5 (dk_at dksX0_useless_0 12 rfl rfl)
theorem dX0_useless_15 : decode cX0_useless 15 = .ok (.iconst (-1), 1) := dk_2 (dk_at dksX0_useless_0 15 rfl rfl)
theorem dX0_useless_16 : decode cX0_useless 16 = .ok (.ireturn, 1) := dk_172 (dk_at dksX0_useless_0 16 rfl rfl)
theorem dX0_useless_17 : decode cX0_useless 17 = .ok (.iconst 0, 1) := dk_3 (dk_at dksX0_useless_0 17 rfl rfl)
theorem dX0_useless_18 : decode cX0_useless 18 = .ok (.istore_n 1, 1) := dk_60 (dk_at dksX0_useless_0 18 rfl rfl)
theorem dX0_useless_19 : decode cX0_useless 19 = .ok (.iconst 0, 1) := dk_3 (dk_at dksX0_useless_0 19 rfl rfl)
theorem dX0_useless_20 : decode cX0_useless 20 = .ok (.istore_n 2, 1) := dk_61 (dk_at dksX0_useless_0 20 rfl rfl)
theorem dX0_useless_21 : decode cX0_useless 21 = .ok (.iload_n 2, 1) := dk_28 (dk_at dksX0_useless_0 21 rfl rfl)
theorem dX0_useless_22 : decode cX0_useless 22 = .ok (.aload_n 0, 1) := dk_42 (dk_at dksX0_useless_0 22 rfl rfl)
theorem dX0_useless_23 : decode cX0_useless 23 = .ok (.invokevirtual 187, 3) := dk_182 0 187 (dk_at dksX0_useless_1 0 rfl rfl)
theorem dX0_useless_26 : decode cX0_useless 26 = .ok (.getfield 190, 3) := dk_180 0 190 (dk_at dksX0_useless_1 3 rfl rfl)
theorem dX0_useless_29 : decode cX0_useless 29 = .ok (.if_icmp .ge 42, 3) := dk_162 0 42 (dk_at dksX0_useless_1 6 rfl rfl)
theorem dX0_useless_32 : decode cX0_useless 32 = .ok (.iload_n 1, 1) := dk_27 (dk_at dksX0_useless_1 9 rfl rfl)
theorem dX0_useless_33 : decode cX0_useless 33 = .ok (.aload_n 0, 1) := dk_42 (dk_at dksX0_useless_1 10 rfl rfl)
theorem dX0_useless_34 : decode cX0_useless 34 = .ok (.iload_n 2, 1) := dk_28 (dk_at dksX0_useless_1 11 rfl rfl)
theorem dX0_useless_35 : decode cX0_useless 35 = .ok (.invokevirtual 343, 3) := dk_182 1 87 (dk_at dksX0_useless_1 12 rfl rfl)
theorem dX0_useless_38 : decode cX0_useless 38 = .ok (.ifCond .eq 24, 3) := dk_153 0 24 (dk_at dksX0_useless_1 15 rfl rfl)
theorem dX0_useless_41 : decode cX0_useless 41 = .ok (.aload_n 0, 1) := dk_42 (dk_at dksX0_useless_1 18 rfl rfl)
theorem dX0_useless_42 : decode cX0_useless 42 = .ok (.getfield 62, 3) := dk_180 0 62 (dk_at dksX0_useless_1 19 rfl rfl)
theorem dX0_useless_45 : decode cX0_useless 45 = .ok (.getfield 233, 3) := dk_180 0 233 (dk_at dksX0_useless_2 0 rfl rfl)
theorem dX0_useless_48 : decode cX0_useless 48 = .ok (.getfield 340, 3) := dk_180 1 84 (dk_at dksX0_useless_2 3 rfl rfl)
theorem dX0_useless_51 : decode cX0_useless 51 = .ok (.iload_n 2, 1) := dk_28 (dk_at dksX0_useless_2 6 rfl rfl)
theorem dX0_useless_52 : decode cX0_useless 52 = .ok (.iaload, 1) := dk_46 (dk_at dksX0_useless_2 7 rfl rfl)
theorem dX0_useless_53 : decode cX0_useless 53 = .ok (.ifCond .ne 9, 3) := dk_154 0 9 (dk_at dksX0_useless_2 8 rfl rfl)
theorem dX0_useless_56 : decode cX0_useless 56 = .ok (.iconst 1, 1) := dk_4 (dk_at dksX0_useless_2 11 rfl rfl)
theorem dX0_useless_57 : decode cX0_useless 57 = .ok (.iload_n 2, 1) := dk_28 (dk_at dksX0_useless_2 12 rfl rfl)
theorem dX0_useless_58 : decode cX0_useless 58 = .ok (.ishl, 1) := dk_120 (dk_at dksX0_useless_2 13 rfl rfl)
theorem dX0_useless_59 : decode cX0_useless 59 = .ok (.goto 4, 3) := dk_167 0 4 (dk_at dksX0_useless_2 14 rfl rfl)
theorem dX0_useless_62 : decode cX0_useless 62 = .ok (.iconst 0, 1) := dk_3 (dk_at dksX0_useless_2 17 rfl rfl)
theorem dX0_useless_63 : decode cX0_useless 63 = .ok (.ior, 1) := dk_128 (dk_at dksX0_useless_2 18 rfl rfl)
theorem dX0_useless_64 : decode cX0_useless 64 = .ok (.istore_n 1, 1) := dk_60 (dk_at dksX0_useless_2 19 rfl rfl)
theorem dX0_useless_65 : decode cX0_useless 65 = .ok (.iinc 2 1, 3) := dk_132 2 1 (dk_at dksX0_useless_2 20 rfl rfl)
theorem dX0_useless_68 : decode cX0_useless 68 = .ok (.goto (-47), 3) := dk_167 255 209 (dk_at dksX0_useless_3 0 rfl rfl)
theorem dX0_useless_71 : decode cX0_useless 71 = .ok (.iload_n 1, 1) := dk_27 (dk_at dksX0_useless_3 3 rfl rfl)
theorem dX0_useless_72 : decode cX0_useless 72 = .ok (.ireturn, 1) := dk_172 (dk_at dksX0_useless_3 4 rfl rfl)
abbrev cX0_isThere : ByteArray := prog_1_method_28_code
def yX0_isThere : MethodName := ⟨RX0, "isThere", "(I)Z"⟩
def dkwX0_isThere_0 : List UInt8 := [42, 180, 0, 62, 180, 0, 199, 27, 122, 4, 126, 154, 0, 7, 4, 167, 0, 4, 3, 172]
abbrev dktX0_isThere_0 : List UInt8 := dkwX0_isThere_0 ++ []
theorem dksX0_isThere_0 : cX0_isThere.data.toList.drop 0 = dktX0_isThere_0 := by decide +kernel
theorem dX0_isThere_0 : decode cX0_isThere 0 = .ok (.aload_n 0, 1) := dk_42 (dk_at dksX0_isThere_0 0 rfl rfl)
theorem dX0_isThere_1 : decode cX0_isThere 1 = .ok (.getfield 62, 3) := dk_180 0 62 (dk_at dksX0_isThere_0 1 rfl rfl)
theorem dX0_isThere_4 : decode cX0_isThere 4 = .ok (.getfield 199, 3) := dk_180 0 199 (dk_at dksX0_isThere_0 4 rfl rfl)
theorem dX0_isThere_7 : decode cX0_isThere 7 = .ok (.iload_n 1, 1) := dk_27 (dk_at dksX0_isThere_0 7 rfl rfl)
theorem dX0_isThere_8 : decode cX0_isThere 8 = .ok (.ishr, 1) := dk_122 (dk_at dksX0_isThere_0 8 rfl rfl)
theorem dX0_isThere_9 : decode cX0_isThere 9 = .ok (.iconst 1, 1) := dk_4 (dk_at dksX0_isThere_0 9 rfl rfl)
theorem dX0_isThere_10 : decode cX0_isThere 10 = .ok (.iand, 1) := dk_126 (dk_at dksX0_isThere_0 10 rfl rfl)
theorem dX0_isThere_11 : decode cX0_isThere 11 = .ok (.ifCond .ne 7, 3) := dk_154 0 7 (dk_at dksX0_isThere_0 11 rfl rfl)
theorem dX0_isThere_14 : decode cX0_isThere 14 = .ok (.iconst 1, 1) := dk_4 (dk_at dksX0_isThere_0 14 rfl rfl)
theorem dX0_isThere_15 : decode cX0_isThere 15 = .ok (.goto 4, 3) := dk_167 0 4 (dk_at dksX0_isThere_0 15 rfl rfl)
theorem dX0_isThere_18 : decode cX0_isThere 18 = .ok (.iconst 0, 1) := dk_3 (dk_at dksX0_isThere_0 18 rfl rfl)
theorem dX0_isThere_19 : decode cX0_isThere 19 = .ok (.ireturn, 1) := dk_172 (dk_at dksX0_isThere_0 19 rfl rfl)
abbrev cX0_dots : ByteArray := prog_1_method_58_code
def yX0_dots : MethodName := ⟨RX0, "dots", "()I"⟩
def dkwX0_dots_2 : List UInt8 := [28, 46, 184, 1, 90, 96, 60, 132, 2, 1, 167, 255, 220, 27, 172]
abbrev dktX0_dots_2 : List UInt8 := dkwX0_dots_2 ++ []
def dkwX0_dots_1 : List UInt8 := [180, 0, 62, 180, 0, 233, 180, 0, 252, 190, 162, 0, 27, 27, 42, 180, 0, 62, 180, 0, 233, 180, 0, 252]
abbrev dktX0_dots_1 : List UInt8 := dkwX0_dots_1 ++ dktX0_dots_2
def dkwX0_dots_0 : List UInt8 := [42, 42, 182, 1, 48, 181, 0, 114, 42, 180, 0, 114, 158, 0, 5, 2, 172, 3, 60, 3, 61, 28, 42]
abbrev dktX0_dots_0 : List UInt8 := dkwX0_dots_0 ++ dktX0_dots_1
theorem dksX0_dots_0 : cX0_dots.data.toList.drop 0 = dktX0_dots_0 := by decide +kernel
theorem dksX0_dots_1 : cX0_dots.data.toList.drop 23 = dktX0_dots_1 := dk_seg dksX0_dots_0 23 rfl rfl
theorem dksX0_dots_2 : cX0_dots.data.toList.drop 47 = dktX0_dots_2 := dk_seg dksX0_dots_1 24 rfl rfl
theorem dX0_dots_0 : decode cX0_dots 0 = .ok (.aload_n 0, 1) := dk_42 (dk_at dksX0_dots_0 0 rfl rfl)
theorem dX0_dots_1 : decode cX0_dots 1 = .ok (.aload_n 0, 1) := dk_42 (dk_at dksX0_dots_0 1 rfl rfl)
theorem dX0_dots_2 : decode cX0_dots 2 = .ok (.invokevirtual 304, 3) := dk_182 1 48 (dk_at dksX0_dots_0 2 rfl rfl)
theorem dX0_dots_5 : decode cX0_dots 5 = .ok (.putfield 114, 3) := dk_181 0 114 (dk_at dksX0_dots_0 5 rfl rfl)
theorem dX0_dots_8 : decode cX0_dots 8 = .ok (.aload_n 0, 1) := dk_42 (dk_at dksX0_dots_0 8 rfl rfl)
theorem dX0_dots_9 : decode cX0_dots 9 = .ok (.getfield 114, 3) := dk_180 0 114 (dk_at dksX0_dots_0 9 rfl rfl)
theorem dX0_dots_12 : decode cX0_dots 12 = .ok (.ifCond .le 5, 3) := dk_158 0 5 (dk_at dksX0_dots_0 12 rfl rfl)
theorem dX0_dots_15 : decode cX0_dots 15 = .ok (.iconst (-1), 1) := dk_2 (dk_at dksX0_dots_0 15 rfl rfl)
theorem dX0_dots_16 : decode cX0_dots 16 = .ok (.ireturn, 1) := dk_172 (dk_at dksX0_dots_0 16 rfl rfl)
theorem dX0_dots_17 : decode cX0_dots 17 = .ok (.iconst 0, 1) := dk_3 (dk_at dksX0_dots_0 17 rfl rfl)
theorem dX0_dots_18 : decode cX0_dots 18 = .ok (.istore_n 1, 1) := dk_60 (dk_at dksX0_dots_0 18 rfl rfl)
theorem dX0_dots_19 : decode cX0_dots 19 = .ok (.iconst 0, 1) := dk_3 (dk_at dksX0_dots_0 19 rfl rfl)
theorem dX0_dots_20 : decode cX0_dots 20 = .ok (.istore_n 2, 1) := dk_61 (dk_at dksX0_dots_0 20 rfl rfl)
theorem dX0_dots_21 : decode cX0_dots 21 = .ok (.iload_n 2, 1) := dk_28 (dk_at dksX0_dots_0 21 rfl rfl)
theorem dX0_dots_22 : decode cX0_dots 22 = .ok (.aload_n 0, 1) := dk_42 (dk_at dksX0_dots_0 22 rfl rfl)
theorem dX0_dots_23 : decode cX0_dots 23 = .ok (.getfield 62, 3) := dk_180 0 62 (dk_at dksX0_dots_1 0 rfl rfl)
theorem dX0_dots_26 : decode cX0_dots 26 = .ok (.getfield 233, 3) := dk_180 0 233 (dk_at dksX0_dots_1 3 rfl rfl)
theorem dX0_dots_29 : decode cX0_dots 29 = .ok (.getfield 252, 3) := dk_180 0 252 (dk_at dksX0_dots_1 6 rfl rfl)
theorem dX0_dots_32 : decode cX0_dots 32 = .ok (.arraylength, 1) := dk_190 (dk_at dksX0_dots_1 9 rfl rfl)
theorem dX0_dots_33 : decode cX0_dots 33 = .ok (.if_icmp .ge 27, 3) := dk_162 0 27 (dk_at dksX0_dots_1 10 rfl rfl)
theorem dX0_dots_36 : decode cX0_dots 36 = .ok (.iload_n 1, 1) := dk_27 (dk_at dksX0_dots_1 13 rfl rfl)
theorem dX0_dots_37 : decode cX0_dots 37 = .ok (.aload_n 0, 1) := dk_42 (dk_at dksX0_dots_1 14 rfl rfl)
theorem dX0_dots_38 : decode cX0_dots 38 = .ok (.getfield 62, 3) := dk_180 0 62 (dk_at dksX0_dots_1 15 rfl rfl)
theorem dX0_dots_41 : decode cX0_dots 41 = .ok (.getfield 233, 3) := dk_180 0 233 (dk_at dksX0_dots_1 18 rfl rfl)
theorem dX0_dots_44 : decode cX0_dots 44 = .ok (.getfield 252, 3) := dk_180 0 252 (dk_at dksX0_dots_1 21 rfl rfl)
theorem dX0_dots_47 : decode cX0_dots 47 = .ok (.iload_n 2, 1) := dk_28 (dk_at dksX0_dots_2 0 rfl rfl)
theorem dX0_dots_48 : decode cX0_dots 48 = .ok (.iaload, 1) := dk_46 (dk_at dksX0_dots_2 1 rfl rfl)
theorem dX0_dots_49 : decode cX0_dots 49 = .ok (.invokestatic 346, 3) := dk_184 1 90 (dk_at dksX0_dots_2 2 rfl rfl)
theorem dX0_dots_52 : decode cX0_dots 52 = .ok (.iadd, 1) := dk_96 (dk_at dksX0_dots_2 5 rfl rfl)
theorem dX0_dots_53 : decode cX0_dots 53 = .ok (.istore_n 1, 1) := dk_60 (dk_at dksX0_dots_2 6 rfl rfl)
theorem dX0_dots_54 : decode cX0_dots 54 = .ok (.iinc 2 1, 3) := dk_132 2 1 (dk_at dksX0_dots_2 7 rfl rfl)
theorem dX0_dots_57 : decode cX0_dots 57 = .ok (.goto (-36), 3) := dk_167 255 220 (dk_at dksX0_dots_2 10 rfl rfl)
theorem dX0_dots_60 : decode cX0_dots 60 = .ok (.iload_n 1, 1) := dk_27 (dk_at dksX0_dots_2 13 rfl rfl)
theorem dX0_dots_61 : decode cX0_dots 61 = .ok (.ireturn, 1) := dk_172 (dk_at dksX0_dots_2 14 rfl rfl)
abbrev cX0_plain : ByteArray := prog_1_method_59_code
def yX0_plain : MethodName := ⟨RX0, "plain", "()I"⟩
def dkwX0_plain_5 : List UInt8 := [180, 0, 233, 180, 1, 101, 100, 172]
abbrev dktX0_plain_5 : List UInt8 := dkwX0_plain_5 ++ []
def dkwX0_plain_4 : List UInt8 := [156, 0, 7, 2, 167, 0, 27, 27, 42, 180, 0, 62, 180, 0, 233, 180, 0, 252, 190, 96, 42, 180, 0, 62]
abbrev dktX0_plain_4 : List UInt8 := dkwX0_plain_4 ++ dktX0_plain_5
def dkwX0_plain_3 : List UInt8 := [182, 0, 241, 182, 1, 98, 60, 42, 27, 156, 0, 8, 16, 7, 167, 0, 4, 3, 181, 0, 114, 27]
abbrev dktX0_plain_3 : List UInt8 := dkwX0_plain_3 ++ dktX0_plain_4
def dkwX0_plain_2 : List UInt8 := [180, 1, 43, 190, 181, 1, 96, 42, 182, 0, 241, 42, 180, 0, 62, 180, 0, 199, 181, 1, 97, 42]
abbrev dktX0_plain_2 : List UInt8 := dkwX0_plain_2 ++ dktX0_plain_3
def dkwX0_plain_1 : List UInt8 := [180, 0, 62, 180, 0, 233, 180, 1, 43, 181, 1, 95, 42, 182, 0, 241, 42, 180, 0, 62, 180, 0, 233]
abbrev dktX0_plain_1 : List UInt8 := dkwX0_plain_1 ++ dktX0_plain_2
def dkwX0_plain_0 : List UInt8 := [42, 42, 182, 1, 48, 181, 0, 114, 42, 180, 0, 114, 158, 0, 5, 2, 172, 42, 182, 0, 241, 42]
abbrev dktX0_plain_0 : List UInt8 := dkwX0_plain_0 ++ dktX0_plain_1
theorem dksX0_plain_0 : cX0_plain.data.toList.drop 0 = dktX0_plain_0 := by decide +kernel
theorem dksX0_plain_1 : cX0_plain.data.toList.drop 22 = dktX0_plain_1 := dk_seg dksX0_plain_0 22 rfl rfl
theorem dksX0_plain_2 : cX0_plain.data.toList.drop 45 = dktX0_plain_2 := dk_seg dksX0_plain_1 23 rfl rfl
theorem dksX0_plain_3 : cX0_plain.data.toList.drop 67 = dktX0_plain_3 := dk_seg dksX0_plain_2 22 rfl rfl
theorem dksX0_plain_4 : cX0_plain.data.toList.drop 89 = dktX0_plain_4 := dk_seg dksX0_plain_3 22 rfl rfl
theorem dksX0_plain_5 : cX0_plain.data.toList.drop 113 = dktX0_plain_5 := dk_seg dksX0_plain_4 24 rfl rfl
theorem dX0_plain_0 : decode cX0_plain 0 = .ok (.aload_n 0, 1) := dk_42 (dk_at dksX0_plain_0 0 rfl rfl)
theorem dX0_plain_1 : decode cX0_plain 1 = .ok (.aload_n 0, 1) := dk_42 (dk_at dksX0_plain_0 1 rfl rfl)
theorem dX0_plain_2 : decode cX0_plain 2 = .ok (.invokevirtual 304, 3) := dk_182 1 48 (dk_at dksX0_plain_0 2 rfl rfl)
theorem dX0_plain_5 : decode cX0_plain 5 = .ok (.putfield 114, 3) := dk_181 0 114 (dk_at dksX0_plain_0 5 rfl rfl)
theorem dX0_plain_8 : decode cX0_plain 8 = .ok (.aload_n 0, 1) := dk_42 (dk_at dksX0_plain_0 8 rfl rfl)
theorem dX0_plain_9 : decode cX0_plain 9 = .ok (.getfield 114, 3) := dk_180 0 114 (dk_at dksX0_plain_0 9 rfl rfl)
theorem dX0_plain_12 : decode cX0_plain 12 = .ok (.ifCond .le 5, 3) := dk_158 0 5 (dk_at dksX0_plain_0 12 rfl rfl)
theorem dX0_plain_15 : decode cX0_plain 15 = .ok (.iconst (-1), 1) := dk_2 (dk_at dksX0_plain_0 15 rfl rfl)
theorem dX0_plain_16 : decode cX0_plain 16 = .ok (.ireturn, 1) := dk_172 (dk_at dksX0_plain_0 16 rfl rfl)
theorem dX0_plain_17 : decode cX0_plain 17 = .ok (.aload_n 0, 1) := dk_42 (dk_at dksX0_plain_0 17 rfl rfl)
theorem dX0_plain_18 : decode cX0_plain 18 = .ok (.invokevirtual 241, 3) := dk_182 0 241 (dk_at dksX0_plain_0 18 rfl rfl)
theorem dX0_plain_21 : decode cX0_plain 21 = .ok (.aload_n 0, 1) := dk_42 (dk_at dksX0_plain_0 21 rfl rfl)
theorem dX0_plain_22 : decode cX0_plain 22 = .ok (.getfield 62, 3) := dk_180 0 62 (dk_at dksX0_plain_1 0 rfl rfl)
theorem dX0_plain_25 : decode cX0_plain 25 = .ok (.getfield 233, 3) := dk_180 0 233 (dk_at dksX0_plain_1 3 rfl rfl)
theorem dX0_plain_28 : decode cX0_plain 28 = .ok (.getfield 299, 3) := dk_180 1 43 (dk_at dksX0_plain_1 6 rfl rfl)
theorem dX0_plain_31 : decode cX0_plain 31 = .ok (.putfield 351, 3) := dk_181 1 95 (dk_at dksX0_plain_1 9 rfl rfl)
theorem dX0_plain_34 : decode cX0_plain 34 = .ok (.aload_n 0, 1) := dk_42 (dk_at dksX0_plain_1 12 rfl rfl)
theorem dX0_plain_35 : decode cX0_plain 35 = .ok (.invokevirtual 241, 3) := dk_182 0 241 (dk_at dksX0_plain_1 13 rfl rfl)
theorem dX0_plain_38 : decode cX0_plain 38 = .ok (.aload_n 0, 1) := dk_42 (dk_at dksX0_plain_1 16 rfl rfl)
theorem dX0_plain_39 : decode cX0_plain 39 = .ok (.getfield 62, 3) := dk_180 0 62 (dk_at dksX0_plain_1 17 rfl rfl)
theorem dX0_plain_42 : decode cX0_plain 42 = .ok (.getfield 233, 3) := dk_180 0 233 (dk_at dksX0_plain_1 20 rfl rfl)
theorem dX0_plain_45 : decode cX0_plain 45 = .ok (.getfield 299, 3) := dk_180 1 43 (dk_at dksX0_plain_2 0 rfl rfl)
theorem dX0_plain_48 : decode cX0_plain 48 = .ok (.arraylength, 1) := dk_190 (dk_at dksX0_plain_2 3 rfl rfl)
theorem dX0_plain_49 : decode cX0_plain 49 = .ok (.putfield 352, 3) := dk_181 1 96 (dk_at dksX0_plain_2 4 rfl rfl)
theorem dX0_plain_52 : decode cX0_plain 52 = .ok (.aload_n 0, 1) := dk_42 (dk_at dksX0_plain_2 7 rfl rfl)
theorem dX0_plain_53 : decode cX0_plain 53 = .ok (.invokevirtual 241, 3) := dk_182 0 241 (dk_at dksX0_plain_2 8 rfl rfl)
theorem dX0_plain_56 : decode cX0_plain 56 = .ok (.aload_n 0, 1) := dk_42 (dk_at dksX0_plain_2 11 rfl rfl)
theorem dX0_plain_57 : decode cX0_plain 57 = .ok (.getfield 62, 3) := dk_180 0 62 (dk_at dksX0_plain_2 12 rfl rfl)
theorem dX0_plain_60 : decode cX0_plain 60 = .ok (.getfield 199, 3) := dk_180 0 199 (dk_at dksX0_plain_2 15 rfl rfl)
theorem dX0_plain_63 : decode cX0_plain 63 = .ok (.putfield 353, 3) := dk_181 1 97 (dk_at dksX0_plain_2 18 rfl rfl)
theorem dX0_plain_66 : decode cX0_plain 66 = .ok (.aload_n 0, 1) := dk_42 (dk_at dksX0_plain_2 21 rfl rfl)
theorem dX0_plain_67 : decode cX0_plain 67 = .ok (.invokevirtual 241, 3) := dk_182 0 241 (dk_at dksX0_plain_3 0 rfl rfl)
theorem dX0_plain_70 : decode cX0_plain 70 = .ok (.invokevirtual 354, 3) := dk_182 1 98 (dk_at dksX0_plain_3 3 rfl rfl)
theorem dX0_plain_73 : decode cX0_plain 73 = .ok (.istore_n 1, 1) := dk_60 (dk_at dksX0_plain_3 6 rfl rfl)
theorem dX0_plain_74 : decode cX0_plain 74 = .ok (.aload_n 0, 1) := dk_42 (dk_at dksX0_plain_3 7 rfl rfl)
theorem dX0_plain_75 : decode cX0_plain 75 = .ok (.iload_n 1, 1) := dk_27 (dk_at dksX0_plain_3 8 rfl rfl)
theorem dX0_plain_76 : decode cX0_plain 76 = .ok (.ifCond .ge 8, 3) := dk_156 0 8 (dk_at dksX0_plain_3 9 rfl rfl)
theorem dX0_plain_79 : decode cX0_plain 79 = .ok (.bipush 7, 2) := dk_16 7 (dk_at dksX0_plain_3 12 rfl rfl)
theorem dX0_plain_81 : decode cX0_plain 81 = .ok (.goto 4, 3) := dk_167 0 4 (dk_at dksX0_plain_3 14 rfl rfl)
theorem dX0_plain_84 : decode cX0_plain 84 = .ok (.iconst 0, 1) := dk_3 (dk_at dksX0_plain_3 17 rfl rfl)
theorem dX0_plain_85 : decode cX0_plain 85 = .ok (.putfield 114, 3) := dk_181 0 114 (dk_at dksX0_plain_3 18 rfl rfl)
theorem dX0_plain_88 : decode cX0_plain 88 = .ok (.iload_n 1, 1) := dk_27 (dk_at dksX0_plain_3 21 rfl rfl)
theorem dX0_plain_89 : decode cX0_plain 89 = .ok (.ifCond .ge 7, 3) := dk_156 0 7 (dk_at dksX0_plain_4 0 rfl rfl)
theorem dX0_plain_92 : decode cX0_plain 92 = .ok (.iconst (-1), 1) := dk_2 (dk_at dksX0_plain_4 3 rfl rfl)
theorem dX0_plain_93 : decode cX0_plain 93 = .ok (.goto 27, 3) := dk_167 0 27 (dk_at dksX0_plain_4 4 rfl rfl)
theorem dX0_plain_96 : decode cX0_plain 96 = .ok (.iload_n 1, 1) := dk_27 (dk_at dksX0_plain_4 7 rfl rfl)
theorem dX0_plain_97 : decode cX0_plain 97 = .ok (.aload_n 0, 1) := dk_42 (dk_at dksX0_plain_4 8 rfl rfl)
theorem dX0_plain_98 : decode cX0_plain 98 = .ok (.getfield 62, 3) := dk_180 0 62 (dk_at dksX0_plain_4 9 rfl rfl)
theorem dX0_plain_101 : decode cX0_plain 101 = .ok (.getfield 233, 3) := dk_180 0 233 (dk_at dksX0_plain_4 12 rfl rfl)
theorem dX0_plain_104 : decode cX0_plain 104 = .ok (.getfield 252, 3) := dk_180 0 252 (dk_at dksX0_plain_4 15 rfl rfl)
theorem dX0_plain_107 : decode cX0_plain 107 = .ok (.arraylength, 1) := dk_190 (dk_at dksX0_plain_4 18 rfl rfl)
theorem dX0_plain_108 : decode cX0_plain 108 = .ok (.iadd, 1) := dk_96 (dk_at dksX0_plain_4 19 rfl rfl)
theorem dX0_plain_109 : decode cX0_plain 109 = .ok (.aload_n 0, 1) := dk_42 (dk_at dksX0_plain_4 20 rfl rfl)
theorem dX0_plain_110 : decode cX0_plain 110 = .ok (.getfield 62, 3) := dk_180 0 62 (dk_at dksX0_plain_4 21 rfl rfl)
theorem dX0_plain_113 : decode cX0_plain 113 = .ok (.getfield 233, 3) := dk_180 0 233 (dk_at dksX0_plain_5 0 rfl rfl)
theorem dX0_plain_116 : decode cX0_plain 116 = .ok (.getfield 357, 3) := dk_180 1 101 (dk_at dksX0_plain_5 3 rfl rfl)
theorem dX0_plain_119 : decode cX0_plain 119 = .ok (.isub, 1) := dk_100 (dk_at dksX0_plain_5 6 rfl rfl)
theorem dX0_plain_120 : decode cX0_plain 120 = .ok (.ireturn, 1) := dk_172 (dk_at dksX0_plain_5 7 rfl rfl)
abbrev cX0_fewest : ByteArray := prog_1_method_60_code
def yX0_fewest : MethodName := ⟨RX0, "fewest", "()I"⟩
def dkwX0_fewest_2 : List UInt8 := [158, 0, 7, 2, 167, 0, 10, 42, 182, 0, 241, 182, 1, 104, 172]
abbrev dktX0_fewest_2 : List UInt8 := dkwX0_fewest_2 ++ []
def dkwX0_fewest_1 : List UInt8 := [180, 0, 199, 182, 1, 51, 156, 0, 8, 16, 7, 167, 0, 4, 3, 181, 0, 114, 42, 180, 0, 114]
abbrev dktX0_fewest_1 : List UInt8 := dkwX0_fewest_1 ++ dktX0_fewest_2
def dkwX0_fewest_0 : List UInt8 := [42, 42, 182, 1, 48, 181, 0, 114, 42, 180, 0, 114, 158, 0, 5, 2, 172, 42, 42, 42, 180, 0, 62]
abbrev dktX0_fewest_0 : List UInt8 := dkwX0_fewest_0 ++ dktX0_fewest_1
theorem dksX0_fewest_0 : cX0_fewest.data.toList.drop 0 = dktX0_fewest_0 := by decide +kernel
theorem dksX0_fewest_1 : cX0_fewest.data.toList.drop 23 = dktX0_fewest_1 := dk_seg dksX0_fewest_0 23 rfl rfl
theorem dksX0_fewest_2 : cX0_fewest.data.toList.drop 45 = dktX0_fewest_2 := dk_seg dksX0_fewest_1 22 rfl rfl
theorem dX0_fewest_0 : decode cX0_fewest 0 = .ok (.aload_n 0, 1) := dk_42 (dk_at dksX0_fewest_0 0 rfl rfl)
theorem dX0_fewest_1 : decode cX0_fewest 1 = .ok (.aload_n 0, 1) := dk_42 (dk_at dksX0_fewest_0 1 rfl rfl)
theorem dX0_fewest_2 : decode cX0_fewest 2 = .ok (.invokevirtual 304, 3) := dk_182 1 48 (dk_at dksX0_fewest_0 2 rfl rfl)
theorem dX0_fewest_5 : decode cX0_fewest 5 = .ok (.putfield 114, 3) := dk_181 0 114 (dk_at dksX0_fewest_0 5 rfl rfl)
theorem dX0_fewest_8 : decode cX0_fewest 8 = .ok (.aload_n 0, 1) := dk_42 (dk_at dksX0_fewest_0 8 rfl rfl)
theorem dX0_fewest_9 : decode cX0_fewest 9 = .ok (.getfield 114, 3) := dk_180 0 114 (dk_at dksX0_fewest_0 9 rfl rfl)
theorem dX0_fewest_12 : decode cX0_fewest 12 = .ok (.ifCond .le 5, 3) := dk_158 0 5 (dk_at dksX0_fewest_0 12 rfl rfl)
theorem dX0_fewest_15 : decode cX0_fewest 15 = .ok (.iconst (-1), 1) := dk_2 (dk_at dksX0_fewest_0 15 rfl rfl)
theorem dX0_fewest_16 : decode cX0_fewest 16 = .ok (.ireturn, 1) := dk_172 (dk_at dksX0_fewest_0 16 rfl rfl)
theorem dX0_fewest_17 : decode cX0_fewest 17 = .ok (.aload_n 0, 1) := dk_42 (dk_at dksX0_fewest_0 17 rfl rfl)
theorem dX0_fewest_18 : decode cX0_fewest 18 = .ok (.aload_n 0, 1) := dk_42 (dk_at dksX0_fewest_0 18 rfl rfl)
theorem dX0_fewest_19 : decode cX0_fewest 19 = .ok (.aload_n 0, 1) := dk_42 (dk_at dksX0_fewest_0 19 rfl rfl)
theorem dX0_fewest_20 : decode cX0_fewest 20 = .ok (.getfield 62, 3) := dk_180 0 62 (dk_at dksX0_fewest_0 20 rfl rfl)
theorem dX0_fewest_23 : decode cX0_fewest 23 = .ok (.getfield 199, 3) := dk_180 0 199 (dk_at dksX0_fewest_1 0 rfl rfl)
theorem dX0_fewest_26 : decode cX0_fewest 26 = .ok (.invokevirtual 307, 3) := dk_182 1 51 (dk_at dksX0_fewest_1 3 rfl rfl)
theorem dX0_fewest_29 : decode cX0_fewest 29 = .ok (.ifCond .ge 8, 3) := dk_156 0 8 (dk_at dksX0_fewest_1 6 rfl rfl)
theorem dX0_fewest_32 : decode cX0_fewest 32 = .ok (.bipush 7, 2) := dk_16 7 (dk_at dksX0_fewest_1 9 rfl rfl)
theorem dX0_fewest_34 : decode cX0_fewest 34 = .ok (.goto 4, 3) := dk_167 0 4 (dk_at dksX0_fewest_1 11 rfl rfl)
theorem dX0_fewest_37 : decode cX0_fewest 37 = .ok (.iconst 0, 1) := dk_3 (dk_at dksX0_fewest_1 14 rfl rfl)
theorem dX0_fewest_38 : decode cX0_fewest 38 = .ok (.putfield 114, 3) := dk_181 0 114 (dk_at dksX0_fewest_1 15 rfl rfl)
theorem dX0_fewest_41 : decode cX0_fewest 41 = .ok (.aload_n 0, 1) := dk_42 (dk_at dksX0_fewest_1 18 rfl rfl)
theorem dX0_fewest_42 : decode cX0_fewest 42 = .ok (.getfield 114, 3) := dk_180 0 114 (dk_at dksX0_fewest_1 19 rfl rfl)
theorem dX0_fewest_45 : decode cX0_fewest 45 = .ok (.ifCond .le 7, 3) := dk_158 0 7 (dk_at dksX0_fewest_2 0 rfl rfl)
theorem dX0_fewest_48 : decode cX0_fewest 48 = .ok (.iconst (-1), 1) := dk_2 (dk_at dksX0_fewest_2 3 rfl rfl)
theorem dX0_fewest_49 : decode cX0_fewest 49 = .ok (.goto 10, 3) := dk_167 0 10 (dk_at dksX0_fewest_2 4 rfl rfl)
theorem dX0_fewest_52 : decode cX0_fewest 52 = .ok (.aload_n 0, 1) := dk_42 (dk_at dksX0_fewest_2 7 rfl rfl)
theorem dX0_fewest_53 : decode cX0_fewest 53 = .ok (.invokevirtual 241, 3) := dk_182 0 241 (dk_at dksX0_fewest_2 8 rfl rfl)
theorem dX0_fewest_56 : decode cX0_fewest 56 = .ok (.invokevirtual 360, 3) := dk_182 1 104 (dk_at dksX0_fewest_2 11 rfl rfl)
theorem dX0_fewest_59 : decode cX0_fewest 59 = .ok (.ireturn, 1) := dk_172 (dk_at dksX0_fewest_2 14 rfl rfl)
abbrev cX0_saving : ByteArray := prog_1_method_61_code
def yX0_saving : MethodName := ⟨RX0, "saving", "(I)I"⟩
def dkwX0_saving_3 : List UInt8 := [167, 0, 4, 3, 181, 0, 114, 42, 180, 0, 114, 158, 0, 7, 2, 167, 0, 6, 29, 28, 100, 172]
abbrev dktX0_saving_3 : List UInt8 := dkwX0_saving_3 ++ []
def dkwX0_saving_2 : List UInt8 := [180, 0, 199, 4, 27, 120, 128, 182, 1, 51, 62, 42, 28, 155, 0, 7, 29, 156, 0, 8, 16, 7]
abbrev dktX0_saving_2 : List UInt8 := dkwX0_saving_2 ++ dktX0_saving_3
def dkwX0_saving_1 : List UInt8 := [158, 0, 5, 2, 172, 42, 42, 180, 0, 62, 180, 0, 199, 182, 1, 51, 61, 42, 42, 180, 0, 62]
abbrev dktX0_saving_1 : List UInt8 := dkwX0_saving_1 ++ dktX0_saving_2
def dkwX0_saving_0 : List UInt8 := [42, 42, 27, 182, 1, 21, 154, 0, 7, 4, 167, 0, 7, 42, 182, 1, 48, 181, 0, 114, 42, 180, 0, 114]
abbrev dktX0_saving_0 : List UInt8 := dkwX0_saving_0 ++ dktX0_saving_1
theorem dksX0_saving_0 : cX0_saving.data.toList.drop 0 = dktX0_saving_0 := by decide +kernel
theorem dksX0_saving_1 : cX0_saving.data.toList.drop 24 = dktX0_saving_1 := dk_seg dksX0_saving_0 24 rfl rfl
theorem dksX0_saving_2 : cX0_saving.data.toList.drop 46 = dktX0_saving_2 := dk_seg dksX0_saving_1 22 rfl rfl
theorem dksX0_saving_3 : cX0_saving.data.toList.drop 68 = dktX0_saving_3 := dk_seg dksX0_saving_2 22 rfl rfl
theorem dX0_saving_0 : decode cX0_saving 0 = .ok (.aload_n 0, 1) := dk_42 (dk_at dksX0_saving_0 0 rfl rfl)
theorem dX0_saving_1 : decode cX0_saving 1 = .ok (.aload_n 0, 1) := dk_42 (dk_at dksX0_saving_0 1 rfl rfl)
theorem dX0_saving_2 : decode cX0_saving 2 = .ok (.iload_n 1, 1) := dk_27 (dk_at dksX0_saving_0 2 rfl rfl)
theorem dX0_saving_3 : decode cX0_saving 3 = .ok (.invokevirtual 277, 3) := dk_182 1 21 (dk_at dksX0_saving_0 3 rfl rfl)
theorem dX0_saving_6 : decode cX0_saving 6 = .ok (.ifCond .ne 7, 3) := dk_154 0 7 (dk_at dksX0_saving_0 6 rfl rfl)
theorem dX0_saving_9 : decode cX0_saving 9 = .ok (.iconst 1, 1) := dk_4 (dk_at dksX0_saving_0 9 rfl rfl)
theorem dX0_saving_10 : decode cX0_saving 10 = .ok (.goto 7, 3) := dk_167 0 7 (dk_at dksX0_saving_0 10 rfl rfl)
theorem dX0_saving_13 : decode cX0_saving 13 = .ok (.aload_n 0, 1) := dk_42 (dk_at dksX0_saving_0 13 rfl rfl)
theorem dX0_saving_14 : decode cX0_saving 14 = .ok (.invokevirtual 304, 3) := dk_182 1 48 (dk_at dksX0_saving_0 14 rfl rfl)
theorem dX0_saving_17 : decode cX0_saving 17 = .ok (.putfield 114, 3) := dk_181 0 114 (dk_at dksX0_saving_0 17 rfl rfl)
theorem dX0_saving_20 : decode cX0_saving 20 = .ok (.aload_n 0, 1) := dk_42 (dk_at dksX0_saving_0 20 rfl rfl)
theorem dX0_saving_21 : decode cX0_saving 21 = .ok (.getfield 114, 3) := dk_180 0 114 (dk_at dksX0_saving_0 21 rfl rfl)
theorem dX0_saving_24 : decode cX0_saving 24 = .ok (.ifCond .le 5, 3) := dk_158 0 5 (dk_at dksX0_saving_1 0 rfl rfl)
theorem dX0_saving_27 : decode cX0_saving 27 = .ok (.iconst (-1), 1) := dk_2 (dk_at dksX0_saving_1 3 rfl rfl)
theorem dX0_saving_28 : decode cX0_saving 28 = .ok (.ireturn, 1) := dk_172 (dk_at dksX0_saving_1 4 rfl rfl)
theorem dX0_saving_29 : decode cX0_saving 29 = .ok (.aload_n 0, 1) := dk_42 (dk_at dksX0_saving_1 5 rfl rfl)
theorem dX0_saving_30 : decode cX0_saving 30 = .ok (.aload_n 0, 1) := dk_42 (dk_at dksX0_saving_1 6 rfl rfl)
theorem dX0_saving_31 : decode cX0_saving 31 = .ok (.getfield 62, 3) := dk_180 0 62 (dk_at dksX0_saving_1 7 rfl rfl)
theorem dX0_saving_34 : decode cX0_saving 34 = .ok (.getfield 199, 3) := dk_180 0 199 (dk_at dksX0_saving_1 10 rfl rfl)
theorem dX0_saving_37 : decode cX0_saving 37 = .ok (.invokevirtual 307, 3) := dk_182 1 51 (dk_at dksX0_saving_1 13 rfl rfl)
theorem dX0_saving_40 : decode cX0_saving 40 = .ok (.istore_n 2, 1) := dk_61 (dk_at dksX0_saving_1 16 rfl rfl)
theorem dX0_saving_41 : decode cX0_saving 41 = .ok (.aload_n 0, 1) := dk_42 (dk_at dksX0_saving_1 17 rfl rfl)
theorem dX0_saving_42 : decode cX0_saving 42 = .ok (.aload_n 0, 1) := dk_42 (dk_at dksX0_saving_1 18 rfl rfl)
theorem dX0_saving_43 : decode cX0_saving 43 = .ok (.getfield 62, 3) := dk_180 0 62 (dk_at dksX0_saving_1 19 rfl rfl)
theorem dX0_saving_46 : decode cX0_saving 46 = .ok (.getfield 199, 3) := dk_180 0 199 (dk_at dksX0_saving_2 0 rfl rfl)
theorem dX0_saving_49 : decode cX0_saving 49 = .ok (.iconst 1, 1) := dk_4 (dk_at dksX0_saving_2 3 rfl rfl)
theorem dX0_saving_50 : decode cX0_saving 50 = .ok (.iload_n 1, 1) := dk_27 (dk_at dksX0_saving_2 4 rfl rfl)
theorem dX0_saving_51 : decode cX0_saving 51 = .ok (.ishl, 1) := dk_120 (dk_at dksX0_saving_2 5 rfl rfl)
theorem dX0_saving_52 : decode cX0_saving 52 = .ok (.ior, 1) := dk_128 (dk_at dksX0_saving_2 6 rfl rfl)
theorem dX0_saving_53 : decode cX0_saving 53 = .ok (.invokevirtual 307, 3) := dk_182 1 51 (dk_at dksX0_saving_2 7 rfl rfl)
theorem dX0_saving_56 : decode cX0_saving 56 = .ok (.istore_n 3, 1) := dk_62 (dk_at dksX0_saving_2 10 rfl rfl)
theorem dX0_saving_57 : decode cX0_saving 57 = .ok (.aload_n 0, 1) := dk_42 (dk_at dksX0_saving_2 11 rfl rfl)
theorem dX0_saving_58 : decode cX0_saving 58 = .ok (.iload_n 2, 1) := dk_28 (dk_at dksX0_saving_2 12 rfl rfl)
theorem dX0_saving_59 : decode cX0_saving 59 = .ok (.ifCond .lt 7, 3) := dk_155 0 7 (dk_at dksX0_saving_2 13 rfl rfl)
theorem dX0_saving_62 : decode cX0_saving 62 = .ok (.iload_n 3, 1) := dk_29 (dk_at dksX0_saving_2 16 rfl rfl)
theorem dX0_saving_63 : decode cX0_saving 63 = .ok (.ifCond .ge 8, 3) := dk_156 0 8 (dk_at dksX0_saving_2 17 rfl rfl)
theorem dX0_saving_66 : decode cX0_saving 66 = .ok (.bipush 7, 2) := dk_16 7 (dk_at dksX0_saving_2 20 rfl rfl)
theorem dX0_saving_68 : decode cX0_saving 68 = .ok (.goto 4, 3) := dk_167 0 4 (dk_at dksX0_saving_3 0 rfl rfl)
theorem dX0_saving_71 : decode cX0_saving 71 = .ok (.iconst 0, 1) := dk_3 (dk_at dksX0_saving_3 3 rfl rfl)
theorem dX0_saving_72 : decode cX0_saving 72 = .ok (.putfield 114, 3) := dk_181 0 114 (dk_at dksX0_saving_3 4 rfl rfl)
theorem dX0_saving_75 : decode cX0_saving 75 = .ok (.aload_n 0, 1) := dk_42 (dk_at dksX0_saving_3 7 rfl rfl)
theorem dX0_saving_76 : decode cX0_saving 76 = .ok (.getfield 114, 3) := dk_180 0 114 (dk_at dksX0_saving_3 8 rfl rfl)
theorem dX0_saving_79 : decode cX0_saving 79 = .ok (.ifCond .le 7, 3) := dk_158 0 7 (dk_at dksX0_saving_3 11 rfl rfl)
theorem dX0_saving_82 : decode cX0_saving 82 = .ok (.iconst (-1), 1) := dk_2 (dk_at dksX0_saving_3 14 rfl rfl)
theorem dX0_saving_83 : decode cX0_saving 83 = .ok (.goto 6, 3) := dk_167 0 6 (dk_at dksX0_saving_3 15 rfl rfl)
theorem dX0_saving_86 : decode cX0_saving 86 = .ok (.iload_n 3, 1) := dk_29 (dk_at dksX0_saving_3 18 rfl rfl)
theorem dX0_saving_87 : decode cX0_saving 87 = .ok (.iload_n 2, 1) := dk_28 (dk_at dksX0_saving_3 19 rfl rfl)
theorem dX0_saving_88 : decode cX0_saving 88 = .ok (.isub, 1) := dk_100 (dk_at dksX0_saving_3 20 rfl rfl)
theorem dX0_saving_89 : decode cX0_saving 89 = .ok (.ireturn, 1) := dk_172 (dk_at dksX0_saving_3 21 rfl rfl)
abbrev cX0_cheapest : ByteArray := prog_1_method_62_code
def yX0_cheapest : MethodName := ⟨RX0, "cheapest", "()I"⟩
def dkwX0_cheapest_5 : List UInt8 := [21, 4, 61, 132, 3, 1, 167, 255, 190, 42, 27, 182, 1, 6, 172]
abbrev dktX0_cheapest_5 : List UInt8 := dkwX0_cheapest_5 ++ []
def dkwX0_cheapest_4 : List UInt8 := [2, 54, 4, 21, 4, 155, 0, 21, 27, 155, 0, 12, 21, 4, 28, 161, 0, 6, 167, 0, 8, 29, 60]
abbrev dktX0_cheapest_4 : List UInt8 := dkwX0_cheapest_4 ++ dktX0_cheapest_5
def dkwX0_cheapest_3 : List UInt8 := [182, 1, 87, 153, 0, 21, 42, 42, 180, 0, 62, 180, 0, 199, 4, 29, 120, 128, 182, 1, 51, 167, 0, 4]
abbrev dktX0_cheapest_3 : List UInt8 := dkwX0_cheapest_3 ++ dktX0_cheapest_4
def dkwX0_cheapest_2 : List UInt8 := [158, 0, 5, 2, 172, 2, 60, 3, 61, 3, 62, 29, 42, 182, 0, 187, 180, 0, 190, 162, 0, 61, 42, 29]
abbrev dktX0_cheapest_2 : List UInt8 := dkwX0_cheapest_2 ++ dktX0_cheapest_3
def dkwX0_cheapest_1 : List UInt8 := [180, 0, 199, 182, 1, 51, 156, 0, 8, 16, 7, 167, 0, 4, 3, 181, 0, 114, 42, 180, 0, 114]
abbrev dktX0_cheapest_1 : List UInt8 := dkwX0_cheapest_1 ++ dktX0_cheapest_2
def dkwX0_cheapest_0 : List UInt8 := [42, 42, 182, 1, 48, 181, 0, 114, 42, 180, 0, 114, 158, 0, 5, 2, 172, 42, 42, 42, 180, 0, 62]
abbrev dktX0_cheapest_0 : List UInt8 := dkwX0_cheapest_0 ++ dktX0_cheapest_1
theorem dksX0_cheapest_0 : cX0_cheapest.data.toList.drop 0 = dktX0_cheapest_0 := by decide +kernel
theorem dksX0_cheapest_1 : cX0_cheapest.data.toList.drop 23 = dktX0_cheapest_1 := dk_seg dksX0_cheapest_0 23 rfl rfl
theorem dksX0_cheapest_2 : cX0_cheapest.data.toList.drop 45 = dktX0_cheapest_2 := dk_seg dksX0_cheapest_1 22 rfl rfl
theorem dksX0_cheapest_3 : cX0_cheapest.data.toList.drop 69 = dktX0_cheapest_3 := dk_seg dksX0_cheapest_2 24 rfl rfl
theorem dksX0_cheapest_4 : cX0_cheapest.data.toList.drop 93 = dktX0_cheapest_4 := dk_seg dksX0_cheapest_3 24 rfl rfl
theorem dksX0_cheapest_5 : cX0_cheapest.data.toList.drop 116 = dktX0_cheapest_5 := dk_seg dksX0_cheapest_4 23 rfl rfl
theorem dX0_cheapest_0 : decode cX0_cheapest 0 = .ok (.aload_n 0, 1) := dk_42 (dk_at dksX0_cheapest_0 0 rfl rfl)
theorem dX0_cheapest_1 : decode cX0_cheapest 1 = .ok (.aload_n 0, 1) := dk_42 (dk_at dksX0_cheapest_0 1 rfl rfl)
theorem dX0_cheapest_2 : decode cX0_cheapest 2 = .ok (.invokevirtual 304, 3) := dk_182 1 48 (dk_at dksX0_cheapest_0 2 rfl rfl)
theorem dX0_cheapest_5 : decode cX0_cheapest 5 = .ok (.putfield 114, 3) := dk_181 0 114 (dk_at dksX0_cheapest_0 5 rfl rfl)
theorem dX0_cheapest_8 : decode cX0_cheapest 8 = .ok (.aload_n 0, 1) := dk_42 (dk_at dksX0_cheapest_0 8 rfl rfl)
theorem dX0_cheapest_9 : decode cX0_cheapest 9 = .ok (.getfield 114, 3) := dk_180 0 114 (dk_at dksX0_cheapest_0 9 rfl rfl)
theorem dX0_cheapest_12 : decode cX0_cheapest 12 = .ok (.ifCond .le 5, 3) := dk_158 0 5 (dk_at dksX0_cheapest_0 12 rfl rfl)
theorem dX0_cheapest_15 : decode cX0_cheapest 15 = .ok (.iconst (-1), 1) := dk_2 (dk_at dksX0_cheapest_0 15 rfl rfl)
theorem dX0_cheapest_16 : decode cX0_cheapest 16 = .ok (.ireturn, 1) := dk_172 (dk_at dksX0_cheapest_0 16 rfl rfl)
theorem dX0_cheapest_17 : decode cX0_cheapest 17 = .ok (.aload_n 0, 1) := dk_42 (dk_at dksX0_cheapest_0 17 rfl rfl)
theorem dX0_cheapest_18 : decode cX0_cheapest 18 = .ok (.aload_n 0, 1) := dk_42 (dk_at dksX0_cheapest_0 18 rfl rfl)
theorem dX0_cheapest_19 : decode cX0_cheapest 19 = .ok (.aload_n 0, 1) := dk_42 (dk_at dksX0_cheapest_0 19 rfl rfl)
theorem dX0_cheapest_20 : decode cX0_cheapest 20 = .ok (.getfield 62, 3) := dk_180 0 62 (dk_at dksX0_cheapest_0 20 rfl rfl)
theorem dX0_cheapest_23 : decode cX0_cheapest 23 = .ok (.getfield 199, 3) := dk_180 0 199 (dk_at dksX0_cheapest_1 0 rfl rfl)
theorem dX0_cheapest_26 : decode cX0_cheapest 26 = .ok (.invokevirtual 307, 3) := dk_182 1 51 (dk_at dksX0_cheapest_1 3 rfl rfl)
theorem dX0_cheapest_29 : decode cX0_cheapest 29 = .ok (.ifCond .ge 8, 3) := dk_156 0 8 (dk_at dksX0_cheapest_1 6 rfl rfl)
theorem dX0_cheapest_32 : decode cX0_cheapest 32 = .ok (.bipush 7, 2) := dk_16 7 (dk_at dksX0_cheapest_1 9 rfl rfl)
theorem dX0_cheapest_34 : decode cX0_cheapest 34 = .ok (.goto 4, 3) := dk_167 0 4 (dk_at dksX0_cheapest_1 11 rfl rfl)
theorem dX0_cheapest_37 : decode cX0_cheapest 37 = .ok (.iconst 0, 1) := dk_3 (dk_at dksX0_cheapest_1 14 rfl rfl)
theorem dX0_cheapest_38 : decode cX0_cheapest 38 = .ok (.putfield 114, 3) := dk_181 0 114 (dk_at dksX0_cheapest_1 15 rfl rfl)
theorem dX0_cheapest_41 : decode cX0_cheapest 41 = .ok (.aload_n 0, 1) := dk_42 (dk_at dksX0_cheapest_1 18 rfl rfl)
theorem dX0_cheapest_42 : decode cX0_cheapest 42 = .ok (.getfield 114, 3) := dk_180 0 114 (dk_at dksX0_cheapest_1 19 rfl rfl)
theorem dX0_cheapest_45 : decode cX0_cheapest 45 = .ok (.ifCond .le 5, 3) := dk_158 0 5 (dk_at dksX0_cheapest_2 0 rfl rfl)
theorem dX0_cheapest_48 : decode cX0_cheapest 48 = .ok (.iconst (-1), 1) := dk_2 (dk_at dksX0_cheapest_2 3 rfl rfl)
theorem dX0_cheapest_49 : decode cX0_cheapest 49 = .ok (.ireturn, 1) := dk_172 (dk_at dksX0_cheapest_2 4 rfl rfl)
theorem dX0_cheapest_50 : decode cX0_cheapest 50 = .ok (.iconst (-1), 1) := dk_2 (dk_at dksX0_cheapest_2 5 rfl rfl)
theorem dX0_cheapest_51 : decode cX0_cheapest 51 = .ok (.istore_n 1, 1) := dk_60 (dk_at dksX0_cheapest_2 6 rfl rfl)
theorem dX0_cheapest_52 : decode cX0_cheapest 52 = .ok (.iconst 0, 1) := dk_3 (dk_at dksX0_cheapest_2 7 rfl rfl)
theorem dX0_cheapest_53 : decode cX0_cheapest 53 = .ok (.istore_n 2, 1) := dk_61 (dk_at dksX0_cheapest_2 8 rfl rfl)
theorem dX0_cheapest_54 : decode cX0_cheapest 54 = .ok (.iconst 0, 1) := dk_3 (dk_at dksX0_cheapest_2 9 rfl rfl)
theorem dX0_cheapest_55 : decode cX0_cheapest 55 = .ok (.istore_n 3, 1) := dk_62 (dk_at dksX0_cheapest_2 10 rfl rfl)
theorem dX0_cheapest_56 : decode cX0_cheapest 56 = .ok (.iload_n 3, 1) := dk_29 (dk_at dksX0_cheapest_2 11 rfl rfl)
theorem dX0_cheapest_57 : decode cX0_cheapest 57 = .ok (.aload_n 0, 1) := dk_42 (dk_at dksX0_cheapest_2 12 rfl rfl)
theorem dX0_cheapest_58 : decode cX0_cheapest 58 = .ok (.invokevirtual 187, 3) := dk_182 0 187 (dk_at dksX0_cheapest_2 13 rfl rfl)
theorem dX0_cheapest_61 : decode cX0_cheapest 61 = .ok (.getfield 190, 3) := dk_180 0 190 (dk_at dksX0_cheapest_2 16 rfl rfl)
theorem dX0_cheapest_64 : decode cX0_cheapest 64 = .ok (.if_icmp .ge 61, 3) := dk_162 0 61 (dk_at dksX0_cheapest_2 19 rfl rfl)
theorem dX0_cheapest_67 : decode cX0_cheapest 67 = .ok (.aload_n 0, 1) := dk_42 (dk_at dksX0_cheapest_2 22 rfl rfl)
theorem dX0_cheapest_68 : decode cX0_cheapest 68 = .ok (.iload_n 3, 1) := dk_29 (dk_at dksX0_cheapest_2 23 rfl rfl)
theorem dX0_cheapest_69 : decode cX0_cheapest 69 = .ok (.invokevirtual 343, 3) := dk_182 1 87 (dk_at dksX0_cheapest_3 0 rfl rfl)
theorem dX0_cheapest_72 : decode cX0_cheapest 72 = .ok (.ifCond .eq 21, 3) := dk_153 0 21 (dk_at dksX0_cheapest_3 3 rfl rfl)
theorem dX0_cheapest_75 : decode cX0_cheapest 75 = .ok (.aload_n 0, 1) := dk_42 (dk_at dksX0_cheapest_3 6 rfl rfl)
theorem dX0_cheapest_76 : decode cX0_cheapest 76 = .ok (.aload_n 0, 1) := dk_42 (dk_at dksX0_cheapest_3 7 rfl rfl)
theorem dX0_cheapest_77 : decode cX0_cheapest 77 = .ok (.getfield 62, 3) := dk_180 0 62 (dk_at dksX0_cheapest_3 8 rfl rfl)
theorem dX0_cheapest_80 : decode cX0_cheapest 80 = .ok (.getfield 199, 3) := dk_180 0 199 (dk_at dksX0_cheapest_3 11 rfl rfl)
theorem dX0_cheapest_83 : decode cX0_cheapest 83 = .ok (.iconst 1, 1) := dk_4 (dk_at dksX0_cheapest_3 14 rfl rfl)
theorem dX0_cheapest_84 : decode cX0_cheapest 84 = .ok (.iload_n 3, 1) := dk_29 (dk_at dksX0_cheapest_3 15 rfl rfl)
theorem dX0_cheapest_85 : decode cX0_cheapest 85 = .ok (.ishl, 1) := dk_120 (dk_at dksX0_cheapest_3 16 rfl rfl)
theorem dX0_cheapest_86 : decode cX0_cheapest 86 = .ok (.ior, 1) := dk_128 (dk_at dksX0_cheapest_3 17 rfl rfl)
theorem dX0_cheapest_87 : decode cX0_cheapest 87 = .ok (.invokevirtual 307, 3) := dk_182 1 51 (dk_at dksX0_cheapest_3 18 rfl rfl)
theorem dX0_cheapest_90 : decode cX0_cheapest 90 = .ok (.goto 4, 3) := dk_167 0 4 (dk_at dksX0_cheapest_3 21 rfl rfl)
theorem dX0_cheapest_93 : decode cX0_cheapest 93 = .ok (.iconst (-1), 1) := dk_2 (dk_at dksX0_cheapest_4 0 rfl rfl)
theorem dX0_cheapest_94 : decode cX0_cheapest 94 = .ok (.istore 4, 2) := dk_54 4 (dk_at dksX0_cheapest_4 1 rfl rfl)
theorem dX0_cheapest_96 : decode cX0_cheapest 96 = .ok (.iload 4, 2) := dk_21 4 (dk_at dksX0_cheapest_4 3 rfl rfl)
theorem dX0_cheapest_98 : decode cX0_cheapest 98 = .ok (.ifCond .lt 21, 3) := dk_155 0 21 (dk_at dksX0_cheapest_4 5 rfl rfl)
theorem dX0_cheapest_101 : decode cX0_cheapest 101 = .ok (.iload_n 1, 1) := dk_27 (dk_at dksX0_cheapest_4 8 rfl rfl)
theorem dX0_cheapest_102 : decode cX0_cheapest 102 = .ok (.ifCond .lt 12, 3) := dk_155 0 12 (dk_at dksX0_cheapest_4 9 rfl rfl)
theorem dX0_cheapest_105 : decode cX0_cheapest 105 = .ok (.iload 4, 2) := dk_21 4 (dk_at dksX0_cheapest_4 12 rfl rfl)
theorem dX0_cheapest_107 : decode cX0_cheapest 107 = .ok (.iload_n 2, 1) := dk_28 (dk_at dksX0_cheapest_4 14 rfl rfl)
theorem dX0_cheapest_108 : decode cX0_cheapest 108 = .ok (.if_icmp .lt 6, 3) := dk_161 0 6 (dk_at dksX0_cheapest_4 15 rfl rfl)
theorem dX0_cheapest_111 : decode cX0_cheapest 111 = .ok (.goto 8, 3) := dk_167 0 8 (dk_at dksX0_cheapest_4 18 rfl rfl)
theorem dX0_cheapest_114 : decode cX0_cheapest 114 = .ok (.iload_n 3, 1) := dk_29 (dk_at dksX0_cheapest_4 21 rfl rfl)
theorem dX0_cheapest_115 : decode cX0_cheapest 115 = .ok (.istore_n 1, 1) := dk_60 (dk_at dksX0_cheapest_4 22 rfl rfl)
theorem dX0_cheapest_116 : decode cX0_cheapest 116 = .ok (.iload 4, 2) := dk_21 4 (dk_at dksX0_cheapest_5 0 rfl rfl)
theorem dX0_cheapest_118 : decode cX0_cheapest 118 = .ok (.istore_n 2, 1) := dk_61 (dk_at dksX0_cheapest_5 2 rfl rfl)
theorem dX0_cheapest_119 : decode cX0_cheapest 119 = .ok (.iinc 3 1, 3) := dk_132 3 1 (dk_at dksX0_cheapest_5 3 rfl rfl)
theorem dX0_cheapest_122 : decode cX0_cheapest 122 = .ok (.goto (-66), 3) := dk_167 255 190 (dk_at dksX0_cheapest_5 6 rfl rfl)
theorem dX0_cheapest_125 : decode cX0_cheapest 125 = .ok (.aload_n 0, 1) := dk_42 (dk_at dksX0_cheapest_5 9 rfl rfl)
theorem dX0_cheapest_126 : decode cX0_cheapest 126 = .ok (.iload_n 1, 1) := dk_27 (dk_at dksX0_cheapest_5 10 rfl rfl)
theorem dX0_cheapest_127 : decode cX0_cheapest 127 = .ok (.invokevirtual 262, 3) := dk_182 1 6 (dk_at dksX0_cheapest_5 11 rfl rfl)
theorem dX0_cheapest_130 : decode cX0_cheapest 130 = .ok (.ireturn, 1) := dk_172 (dk_at dksX0_cheapest_5 14 rfl rfl)
abbrev cX0_piece : ByteArray := prog_1_method_63_code
def yX0_piece : MethodName := ⟨RX0, "piece", "(II)I"⟩
def dkwX0_piece_4 : List UInt8 := [27, 46, 172]
abbrev dktX0_piece_4 : List UInt8 := dkwX0_piece_4 ++ []
def dkwX0_piece_3 : List UInt8 := [180, 0, 62, 180, 0, 233, 180, 1, 107, 27, 46, 167, 0, 15, 42, 180, 0, 62, 180, 0, 233, 180, 1, 110]
abbrev dktX0_piece_3 : List UInt8 := dkwX0_piece_3 ++ dktX0_piece_4
def dkwX0_piece_2 : List UInt8 := [167, 0, 5, 16, 6, 181, 0, 114, 42, 180, 0, 114, 158, 0, 7, 2, 167, 0, 34, 28, 154, 0, 18, 42]
abbrev dktX0_piece_2 : List UInt8 := dkwX0_piece_2 ++ dktX0_piece_3
def dkwX0_piece_1 : List UInt8 := [9, 42, 180, 0, 62, 180, 0, 233, 180, 1, 62, 190, 4, 100, 133, 184, 0, 195, 153, 0, 7, 3]
abbrev dktX0_piece_1 : List UInt8 := dkwX0_piece_1 ++ dktX0_piece_2
def dkwX0_piece_0 : List UInt8 := [42, 28, 133, 9, 10, 184, 0, 195, 154, 0, 7, 4, 167, 0, 39, 42, 182, 1, 39, 153, 0, 30, 27, 133]
abbrev dktX0_piece_0 : List UInt8 := dkwX0_piece_0 ++ dktX0_piece_1
theorem dksX0_piece_0 : cX0_piece.data.toList.drop 0 = dktX0_piece_0 := by decide +kernel
theorem dksX0_piece_1 : cX0_piece.data.toList.drop 24 = dktX0_piece_1 := dk_seg dksX0_piece_0 24 rfl rfl
theorem dksX0_piece_2 : cX0_piece.data.toList.drop 46 = dktX0_piece_2 := dk_seg dksX0_piece_1 22 rfl rfl
theorem dksX0_piece_3 : cX0_piece.data.toList.drop 70 = dktX0_piece_3 := dk_seg dksX0_piece_2 24 rfl rfl
theorem dksX0_piece_4 : cX0_piece.data.toList.drop 94 = dktX0_piece_4 := dk_seg dksX0_piece_3 24 rfl rfl
theorem dX0_piece_0 : decode cX0_piece 0 = .ok (.aload_n 0, 1) := dk_42 (dk_at dksX0_piece_0 0 rfl rfl)
theorem dX0_piece_1 : decode cX0_piece 1 = .ok (.iload_n 2, 1) := dk_28 (dk_at dksX0_piece_0 1 rfl rfl)
theorem dX0_piece_2 : decode cX0_piece 2 = .ok (.i2l, 1) := dk_133 (dk_at dksX0_piece_0 2 rfl rfl)
theorem dX0_piece_3 : decode cX0_piece 3 = .ok (.lconst 0, 1) := dk_9 (dk_at dksX0_piece_0 3 rfl rfl)
theorem dX0_piece_4 : decode cX0_piece 4 = .ok (.lconst 1, 1) := dk_10 (dk_at dksX0_piece_0 4 rfl rfl)
theorem dX0_piece_5 : decode cX0_piece 5 = .ok (.invokestatic 195, 3) := dk_184 0 195 (dk_at dksX0_piece_0 5 rfl rfl)
theorem dX0_piece_8 : decode cX0_piece 8 = .ok (.ifCond .ne 7, 3) := dk_154 0 7 (dk_at dksX0_piece_0 8 rfl rfl)
theorem dX0_piece_11 : decode cX0_piece 11 = .ok (.iconst 1, 1) := dk_4 (dk_at dksX0_piece_0 11 rfl rfl)
theorem dX0_piece_12 : decode cX0_piece 12 = .ok (.goto 39, 3) := dk_167 0 39 (dk_at dksX0_piece_0 12 rfl rfl)
theorem dX0_piece_15 : decode cX0_piece 15 = .ok (.aload_n 0, 1) := dk_42 (dk_at dksX0_piece_0 15 rfl rfl)
theorem dX0_piece_16 : decode cX0_piece 16 = .ok (.invokevirtual 295, 3) := dk_182 1 39 (dk_at dksX0_piece_0 16 rfl rfl)
theorem dX0_piece_19 : decode cX0_piece 19 = .ok (.ifCond .eq 30, 3) := dk_153 0 30 (dk_at dksX0_piece_0 19 rfl rfl)
theorem dX0_piece_22 : decode cX0_piece 22 = .ok (.iload_n 1, 1) := dk_27 (dk_at dksX0_piece_0 22 rfl rfl)
theorem dX0_piece_23 : decode cX0_piece 23 = .ok (.i2l, 1) := dk_133 (dk_at dksX0_piece_0 23 rfl rfl)
theorem dX0_piece_24 : decode cX0_piece 24 = .ok (.lconst 0, 1) := dk_9 (dk_at dksX0_piece_1 0 rfl rfl)
theorem dX0_piece_25 : decode cX0_piece 25 = .ok (.aload_n 0, 1) := dk_42 (dk_at dksX0_piece_1 1 rfl rfl)
theorem dX0_piece_26 : decode cX0_piece 26 = .ok (.getfield 62, 3) := dk_180 0 62 (dk_at dksX0_piece_1 2 rfl rfl)
theorem dX0_piece_29 : decode cX0_piece 29 = .ok (.getfield 233, 3) := dk_180 0 233 (dk_at dksX0_piece_1 5 rfl rfl)
theorem dX0_piece_32 : decode cX0_piece 32 = .ok (.getfield 318, 3) := dk_180 1 62 (dk_at dksX0_piece_1 8 rfl rfl)
theorem dX0_piece_35 : decode cX0_piece 35 = .ok (.arraylength, 1) := dk_190 (dk_at dksX0_piece_1 11 rfl rfl)
theorem dX0_piece_36 : decode cX0_piece 36 = .ok (.iconst 1, 1) := dk_4 (dk_at dksX0_piece_1 12 rfl rfl)
theorem dX0_piece_37 : decode cX0_piece 37 = .ok (.isub, 1) := dk_100 (dk_at dksX0_piece_1 13 rfl rfl)
theorem dX0_piece_38 : decode cX0_piece 38 = .ok (.i2l, 1) := dk_133 (dk_at dksX0_piece_1 14 rfl rfl)
theorem dX0_piece_39 : decode cX0_piece 39 = .ok (.invokestatic 195, 3) := dk_184 0 195 (dk_at dksX0_piece_1 15 rfl rfl)
theorem dX0_piece_42 : decode cX0_piece 42 = .ok (.ifCond .eq 7, 3) := dk_153 0 7 (dk_at dksX0_piece_1 18 rfl rfl)
theorem dX0_piece_45 : decode cX0_piece 45 = .ok (.iconst 0, 1) := dk_3 (dk_at dksX0_piece_1 21 rfl rfl)
theorem dX0_piece_46 : decode cX0_piece 46 = .ok (.goto 5, 3) := dk_167 0 5 (dk_at dksX0_piece_2 0 rfl rfl)
theorem dX0_piece_49 : decode cX0_piece 49 = .ok (.bipush 6, 2) := dk_16 6 (dk_at dksX0_piece_2 3 rfl rfl)
theorem dX0_piece_51 : decode cX0_piece 51 = .ok (.putfield 114, 3) := dk_181 0 114 (dk_at dksX0_piece_2 5 rfl rfl)
theorem dX0_piece_54 : decode cX0_piece 54 = .ok (.aload_n 0, 1) := dk_42 (dk_at dksX0_piece_2 8 rfl rfl)
theorem dX0_piece_55 : decode cX0_piece 55 = .ok (.getfield 114, 3) := dk_180 0 114 (dk_at dksX0_piece_2 9 rfl rfl)
theorem dX0_piece_58 : decode cX0_piece 58 = .ok (.ifCond .le 7, 3) := dk_158 0 7 (dk_at dksX0_piece_2 12 rfl rfl)
theorem dX0_piece_61 : decode cX0_piece 61 = .ok (.iconst (-1), 1) := dk_2 (dk_at dksX0_piece_2 15 rfl rfl)
theorem dX0_piece_62 : decode cX0_piece 62 = .ok (.goto 34, 3) := dk_167 0 34 (dk_at dksX0_piece_2 16 rfl rfl)
theorem dX0_piece_65 : decode cX0_piece 65 = .ok (.iload_n 2, 1) := dk_28 (dk_at dksX0_piece_2 19 rfl rfl)
theorem dX0_piece_66 : decode cX0_piece 66 = .ok (.ifCond .ne 18, 3) := dk_154 0 18 (dk_at dksX0_piece_2 20 rfl rfl)
theorem dX0_piece_69 : decode cX0_piece 69 = .ok (.aload_n 0, 1) := dk_42 (dk_at dksX0_piece_2 23 rfl rfl)
theorem dX0_piece_70 : decode cX0_piece 70 = .ok (.getfield 62, 3) := dk_180 0 62 (dk_at dksX0_piece_3 0 rfl rfl)
theorem dX0_piece_73 : decode cX0_piece 73 = .ok (.getfield 233, 3) := dk_180 0 233 (dk_at dksX0_piece_3 3 rfl rfl)
theorem dX0_piece_76 : decode cX0_piece 76 = .ok (.getfield 363, 3) := dk_180 1 107 (dk_at dksX0_piece_3 6 rfl rfl)
theorem dX0_piece_79 : decode cX0_piece 79 = .ok (.iload_n 1, 1) := dk_27 (dk_at dksX0_piece_3 9 rfl rfl)
theorem dX0_piece_80 : decode cX0_piece 80 = .ok (.iaload, 1) := dk_46 (dk_at dksX0_piece_3 10 rfl rfl)
theorem dX0_piece_81 : decode cX0_piece 81 = .ok (.goto 15, 3) := dk_167 0 15 (dk_at dksX0_piece_3 11 rfl rfl)
theorem dX0_piece_84 : decode cX0_piece 84 = .ok (.aload_n 0, 1) := dk_42 (dk_at dksX0_piece_3 14 rfl rfl)
theorem dX0_piece_85 : decode cX0_piece 85 = .ok (.getfield 62, 3) := dk_180 0 62 (dk_at dksX0_piece_3 15 rfl rfl)
theorem dX0_piece_88 : decode cX0_piece 88 = .ok (.getfield 233, 3) := dk_180 0 233 (dk_at dksX0_piece_3 18 rfl rfl)
theorem dX0_piece_91 : decode cX0_piece 91 = .ok (.getfield 366, 3) := dk_180 1 110 (dk_at dksX0_piece_3 21 rfl rfl)
theorem dX0_piece_94 : decode cX0_piece 94 = .ok (.iload_n 1, 1) := dk_27 (dk_at dksX0_piece_4 0 rfl rfl)
theorem dX0_piece_95 : decode cX0_piece 95 = .ok (.iaload, 1) := dk_46 (dk_at dksX0_piece_4 1 rfl rfl)
theorem dX0_piece_96 : decode cX0_piece 96 = .ok (.ireturn, 1) := dk_172 (dk_at dksX0_piece_4 2 rfl rfl)
abbrev cX0_by : ByteArray := prog_1_method_64_code
def yX0_by : MethodName := ⟨RX0, "by", "(I)I"⟩
def dkwX0_by_2 : List UInt8 := [182, 1, 6, 172]
abbrev dktX0_by_2 : List UInt8 := dkwX0_by_2 ++ []
def dkwX0_by_1 : List UInt8 := [133, 184, 0, 195, 153, 0, 18, 42, 180, 0, 62, 180, 0, 233, 180, 1, 113, 27, 46, 167, 0, 4, 2]
abbrev dktX0_by_1 : List UInt8 := dkwX0_by_1 ++ dktX0_by_2
def dkwX0_by_0 : List UInt8 := [42, 42, 182, 1, 39, 153, 0, 41, 27, 133, 9, 42, 180, 0, 62, 180, 0, 233, 180, 0, 252, 190, 4, 100]
abbrev dktX0_by_0 : List UInt8 := dkwX0_by_0 ++ dktX0_by_1
theorem dksX0_by_0 : cX0_by.data.toList.drop 0 = dktX0_by_0 := by decide +kernel
theorem dksX0_by_1 : cX0_by.data.toList.drop 24 = dktX0_by_1 := dk_seg dksX0_by_0 24 rfl rfl
theorem dksX0_by_2 : cX0_by.data.toList.drop 47 = dktX0_by_2 := dk_seg dksX0_by_1 23 rfl rfl
theorem dX0_by_0 : decode cX0_by 0 = .ok (.aload_n 0, 1) := dk_42 (dk_at dksX0_by_0 0 rfl rfl)
theorem dX0_by_1 : decode cX0_by 1 = .ok (.aload_n 0, 1) := dk_42 (dk_at dksX0_by_0 1 rfl rfl)
theorem dX0_by_2 : decode cX0_by 2 = .ok (.invokevirtual 295, 3) := dk_182 1 39 (dk_at dksX0_by_0 2 rfl rfl)
theorem dX0_by_5 : decode cX0_by 5 = .ok (.ifCond .eq 41, 3) := dk_153 0 41 (dk_at dksX0_by_0 5 rfl rfl)
theorem dX0_by_8 : decode cX0_by 8 = .ok (.iload_n 1, 1) := dk_27 (dk_at dksX0_by_0 8 rfl rfl)
theorem dX0_by_9 : decode cX0_by 9 = .ok (.i2l, 1) := dk_133 (dk_at dksX0_by_0 9 rfl rfl)
theorem dX0_by_10 : decode cX0_by 10 = .ok (.lconst 0, 1) := dk_9 (dk_at dksX0_by_0 10 rfl rfl)
theorem dX0_by_11 : decode cX0_by 11 = .ok (.aload_n 0, 1) := dk_42 (dk_at dksX0_by_0 11 rfl rfl)
theorem dX0_by_12 : decode cX0_by 12 = .ok (.getfield 62, 3) := dk_180 0 62 (dk_at dksX0_by_0 12 rfl rfl)
theorem dX0_by_15 : decode cX0_by 15 = .ok (.getfield 233, 3) := dk_180 0 233 (dk_at dksX0_by_0 15 rfl rfl)
theorem dX0_by_18 : decode cX0_by 18 = .ok (.getfield 252, 3) := dk_180 0 252 (dk_at dksX0_by_0 18 rfl rfl)
theorem dX0_by_21 : decode cX0_by 21 = .ok (.arraylength, 1) := dk_190 (dk_at dksX0_by_0 21 rfl rfl)
theorem dX0_by_22 : decode cX0_by 22 = .ok (.iconst 1, 1) := dk_4 (dk_at dksX0_by_0 22 rfl rfl)
theorem dX0_by_23 : decode cX0_by 23 = .ok (.isub, 1) := dk_100 (dk_at dksX0_by_0 23 rfl rfl)
theorem dX0_by_24 : decode cX0_by 24 = .ok (.i2l, 1) := dk_133 (dk_at dksX0_by_1 0 rfl rfl)
theorem dX0_by_25 : decode cX0_by 25 = .ok (.invokestatic 195, 3) := dk_184 0 195 (dk_at dksX0_by_1 1 rfl rfl)
theorem dX0_by_28 : decode cX0_by 28 = .ok (.ifCond .eq 18, 3) := dk_153 0 18 (dk_at dksX0_by_1 4 rfl rfl)
theorem dX0_by_31 : decode cX0_by 31 = .ok (.aload_n 0, 1) := dk_42 (dk_at dksX0_by_1 7 rfl rfl)
theorem dX0_by_32 : decode cX0_by 32 = .ok (.getfield 62, 3) := dk_180 0 62 (dk_at dksX0_by_1 8 rfl rfl)
theorem dX0_by_35 : decode cX0_by 35 = .ok (.getfield 233, 3) := dk_180 0 233 (dk_at dksX0_by_1 11 rfl rfl)
theorem dX0_by_38 : decode cX0_by 38 = .ok (.getfield 369, 3) := dk_180 1 113 (dk_at dksX0_by_1 14 rfl rfl)
theorem dX0_by_41 : decode cX0_by 41 = .ok (.iload_n 1, 1) := dk_27 (dk_at dksX0_by_1 17 rfl rfl)
theorem dX0_by_42 : decode cX0_by 42 = .ok (.iaload, 1) := dk_46 (dk_at dksX0_by_1 18 rfl rfl)
theorem dX0_by_43 : decode cX0_by 43 = .ok (.goto 4, 3) := dk_167 0 4 (dk_at dksX0_by_1 19 rfl rfl)
theorem dX0_by_46 : decode cX0_by 46 = .ok (.iconst (-1), 1) := dk_2 (dk_at dksX0_by_1 22 rfl rfl)
theorem dX0_by_47 : decode cX0_by 47 = .ok (.invokevirtual 262, 3) := dk_182 1 6 (dk_at dksX0_by_2 0 rfl rfl)
theorem dX0_by_50 : decode cX0_by 50 = .ok (.ireturn, 1) := dk_172 (dk_at dksX0_by_2 3 rfl rfl)
abbrev cX0_dense : ByteArray := prog_1_method_65_code
def yX0_dense : MethodName := ⟨RX0, "dense", "(I)I"⟩
def dkwX0_dense_6 : List UInt8 := [132, 4, 1, 167, 255, 185, 28, 172]
abbrev dktX0_dense_6 : List UInt8 := dkwX0_dense_6 ++ []
def dkwX0_dense_5 : List UInt8 := [180, 0, 233, 180, 0, 252, 21, 4, 27, 100, 46, 184, 1, 90, 100, 62, 28, 29, 184, 1, 118, 61]
abbrev dktX0_dense_5 : List UInt8 := dkwX0_dense_5 ++ dktX0_dense_6
def dkwX0_dense_4 : List UInt8 := [180, 0, 252, 21, 4, 46, 184, 1, 90, 96, 62, 21, 4, 27, 161, 0, 24, 29, 42, 180, 0, 62]
abbrev dktX0_dense_4 : List UInt8 := dkwX0_dense_4 ++ dktX0_dense_5
def dkwX0_dense_3 : List UInt8 := [21, 4, 42, 180, 0, 62, 180, 0, 233, 180, 0, 252, 190, 162, 0, 61, 29, 42, 180, 0, 62, 180, 0, 233]
abbrev dktX0_dense_3 : List UInt8 := dkwX0_dense_3 ++ dktX0_dense_4
def dkwX0_dense_2 : List UInt8 := [167, 0, 4, 3, 181, 0, 114, 42, 180, 0, 114, 158, 0, 5, 2, 172, 3, 61, 3, 62, 3, 54, 4]
abbrev dktX0_dense_2 : List UInt8 := dkwX0_dense_2 ++ dktX0_dense_3
def dkwX0_dense_1 : List UInt8 := [16, 6, 167, 0, 24, 42, 180, 0, 62, 180, 0, 233, 180, 0, 252, 190, 27, 162, 0, 8, 16, 7]
abbrev dktX0_dense_1 : List UInt8 := dkwX0_dense_1 ++ dktX0_dense_2
def dkwX0_dense_0 : List UInt8 := [42, 27, 133, 10, 20, 1, 116, 184, 0, 195, 154, 0, 7, 4, 167, 0, 36, 42, 182, 1, 39, 154, 0, 8]
abbrev dktX0_dense_0 : List UInt8 := dkwX0_dense_0 ++ dktX0_dense_1
theorem dksX0_dense_0 : cX0_dense.data.toList.drop 0 = dktX0_dense_0 := by decide +kernel
theorem dksX0_dense_1 : cX0_dense.data.toList.drop 24 = dktX0_dense_1 := dk_seg dksX0_dense_0 24 rfl rfl
theorem dksX0_dense_2 : cX0_dense.data.toList.drop 46 = dktX0_dense_2 := dk_seg dksX0_dense_1 22 rfl rfl
theorem dksX0_dense_3 : cX0_dense.data.toList.drop 69 = dktX0_dense_3 := dk_seg dksX0_dense_2 23 rfl rfl
theorem dksX0_dense_4 : cX0_dense.data.toList.drop 93 = dktX0_dense_4 := dk_seg dksX0_dense_3 24 rfl rfl
theorem dksX0_dense_5 : cX0_dense.data.toList.drop 115 = dktX0_dense_5 := dk_seg dksX0_dense_4 22 rfl rfl
theorem dksX0_dense_6 : cX0_dense.data.toList.drop 137 = dktX0_dense_6 := dk_seg dksX0_dense_5 22 rfl rfl
theorem dX0_dense_0 : decode cX0_dense 0 = .ok (.aload_n 0, 1) := dk_42 (dk_at dksX0_dense_0 0 rfl rfl)
theorem dX0_dense_1 : decode cX0_dense 1 = .ok (.iload_n 1, 1) := dk_27 (dk_at dksX0_dense_0 1 rfl rfl)
theorem dX0_dense_2 : decode cX0_dense 2 = .ok (.i2l, 1) := dk_133 (dk_at dksX0_dense_0 2 rfl rfl)
theorem dX0_dense_3 : decode cX0_dense 3 = .ok (.lconst 1, 1) := dk_10 (dk_at dksX0_dense_0 3 rfl rfl)
theorem dX0_dense_4 : decode cX0_dense 4 = .ok (.ldc2_w 372, 3) := dk_20 1 116 (dk_at dksX0_dense_0 4 rfl rfl)
theorem dX0_dense_7 : decode cX0_dense 7 = .ok (.invokestatic 195, 3) := dk_184 0 195 (dk_at dksX0_dense_0 7 rfl rfl)
theorem dX0_dense_10 : decode cX0_dense 10 = .ok (.ifCond .ne 7, 3) := dk_154 0 7 (dk_at dksX0_dense_0 10 rfl rfl)
theorem dX0_dense_13 : decode cX0_dense 13 = .ok (.iconst 1, 1) := dk_4 (dk_at dksX0_dense_0 13 rfl rfl)
theorem dX0_dense_14 : decode cX0_dense 14 = .ok (.goto 36, 3) := dk_167 0 36 (dk_at dksX0_dense_0 14 rfl rfl)
theorem dX0_dense_17 : decode cX0_dense 17 = .ok (.aload_n 0, 1) := dk_42 (dk_at dksX0_dense_0 17 rfl rfl)
theorem dX0_dense_18 : decode cX0_dense 18 = .ok (.invokevirtual 295, 3) := dk_182 1 39 (dk_at dksX0_dense_0 18 rfl rfl)
theorem dX0_dense_21 : decode cX0_dense 21 = .ok (.ifCond .ne 8, 3) := dk_154 0 8 (dk_at dksX0_dense_0 21 rfl rfl)
theorem dX0_dense_24 : decode cX0_dense 24 = .ok (.bipush 6, 2) := dk_16 6 (dk_at dksX0_dense_1 0 rfl rfl)
theorem dX0_dense_26 : decode cX0_dense 26 = .ok (.goto 24, 3) := dk_167 0 24 (dk_at dksX0_dense_1 2 rfl rfl)
theorem dX0_dense_29 : decode cX0_dense 29 = .ok (.aload_n 0, 1) := dk_42 (dk_at dksX0_dense_1 5 rfl rfl)
theorem dX0_dense_30 : decode cX0_dense 30 = .ok (.getfield 62, 3) := dk_180 0 62 (dk_at dksX0_dense_1 6 rfl rfl)
theorem dX0_dense_33 : decode cX0_dense 33 = .ok (.getfield 233, 3) := dk_180 0 233 (dk_at dksX0_dense_1 9 rfl rfl)
theorem dX0_dense_36 : decode cX0_dense 36 = .ok (.getfield 252, 3) := dk_180 0 252 (dk_at dksX0_dense_1 12 rfl rfl)
theorem dX0_dense_39 : decode cX0_dense 39 = .ok (.arraylength, 1) := dk_190 (dk_at dksX0_dense_1 15 rfl rfl)
theorem dX0_dense_40 : decode cX0_dense 40 = .ok (.iload_n 1, 1) := dk_27 (dk_at dksX0_dense_1 16 rfl rfl)
theorem dX0_dense_41 : decode cX0_dense 41 = .ok (.if_icmp .ge 8, 3) := dk_162 0 8 (dk_at dksX0_dense_1 17 rfl rfl)
theorem dX0_dense_44 : decode cX0_dense 44 = .ok (.bipush 7, 2) := dk_16 7 (dk_at dksX0_dense_1 20 rfl rfl)
theorem dX0_dense_46 : decode cX0_dense 46 = .ok (.goto 4, 3) := dk_167 0 4 (dk_at dksX0_dense_2 0 rfl rfl)
theorem dX0_dense_49 : decode cX0_dense 49 = .ok (.iconst 0, 1) := dk_3 (dk_at dksX0_dense_2 3 rfl rfl)
theorem dX0_dense_50 : decode cX0_dense 50 = .ok (.putfield 114, 3) := dk_181 0 114 (dk_at dksX0_dense_2 4 rfl rfl)
theorem dX0_dense_53 : decode cX0_dense 53 = .ok (.aload_n 0, 1) := dk_42 (dk_at dksX0_dense_2 7 rfl rfl)
theorem dX0_dense_54 : decode cX0_dense 54 = .ok (.getfield 114, 3) := dk_180 0 114 (dk_at dksX0_dense_2 8 rfl rfl)
theorem dX0_dense_57 : decode cX0_dense 57 = .ok (.ifCond .le 5, 3) := dk_158 0 5 (dk_at dksX0_dense_2 11 rfl rfl)
theorem dX0_dense_60 : decode cX0_dense 60 = .ok (.iconst (-1), 1) := dk_2 (dk_at dksX0_dense_2 14 rfl rfl)
theorem dX0_dense_61 : decode cX0_dense 61 = .ok (.ireturn, 1) := dk_172 (dk_at dksX0_dense_2 15 rfl rfl)
theorem dX0_dense_62 : decode cX0_dense 62 = .ok (.iconst 0, 1) := dk_3 (dk_at dksX0_dense_2 16 rfl rfl)
theorem dX0_dense_63 : decode cX0_dense 63 = .ok (.istore_n 2, 1) := dk_61 (dk_at dksX0_dense_2 17 rfl rfl)
theorem dX0_dense_64 : decode cX0_dense 64 = .ok (.iconst 0, 1) := dk_3 (dk_at dksX0_dense_2 18 rfl rfl)
theorem dX0_dense_65 : decode cX0_dense 65 = .ok (.istore_n 3, 1) := dk_62 (dk_at dksX0_dense_2 19 rfl rfl)
theorem dX0_dense_66 : decode cX0_dense 66 = .ok (.iconst 0, 1) := dk_3 (dk_at dksX0_dense_2 20 rfl rfl)
theorem dX0_dense_67 : decode cX0_dense 67 = .ok (.istore 4, 2) := dk_54 4 (dk_at dksX0_dense_2 21 rfl rfl)
theorem dX0_dense_69 : decode cX0_dense 69 = .ok (.iload 4, 2) := dk_21 4 (dk_at dksX0_dense_3 0 rfl rfl)
theorem dX0_dense_71 : decode cX0_dense 71 = .ok (.aload_n 0, 1) := dk_42 (dk_at dksX0_dense_3 2 rfl rfl)
theorem dX0_dense_72 : decode cX0_dense 72 = .ok (.getfield 62, 3) := dk_180 0 62 (dk_at dksX0_dense_3 3 rfl rfl)
theorem dX0_dense_75 : decode cX0_dense 75 = .ok (.getfield 233, 3) := dk_180 0 233 (dk_at dksX0_dense_3 6 rfl rfl)
theorem dX0_dense_78 : decode cX0_dense 78 = .ok (.getfield 252, 3) := dk_180 0 252 (dk_at dksX0_dense_3 9 rfl rfl)
theorem dX0_dense_81 : decode cX0_dense 81 = .ok (.arraylength, 1) := dk_190 (dk_at dksX0_dense_3 12 rfl rfl)
theorem dX0_dense_82 : decode cX0_dense 82 = .ok (.if_icmp .ge 61, 3) := dk_162 0 61 (dk_at dksX0_dense_3 13 rfl rfl)
theorem dX0_dense_85 : decode cX0_dense 85 = .ok (.iload_n 3, 1) := dk_29 (dk_at dksX0_dense_3 16 rfl rfl)
theorem dX0_dense_86 : decode cX0_dense 86 = .ok (.aload_n 0, 1) := dk_42 (dk_at dksX0_dense_3 17 rfl rfl)
theorem dX0_dense_87 : decode cX0_dense 87 = .ok (.getfield 62, 3) := dk_180 0 62 (dk_at dksX0_dense_3 18 rfl rfl)
theorem dX0_dense_90 : decode cX0_dense 90 = .ok (.getfield 233, 3) := dk_180 0 233 (dk_at dksX0_dense_3 21 rfl rfl)
theorem dX0_dense_93 : decode cX0_dense 93 = .ok (.getfield 252, 3) := dk_180 0 252 (dk_at dksX0_dense_4 0 rfl rfl)
theorem dX0_dense_96 : decode cX0_dense 96 = .ok (.iload 4, 2) := dk_21 4 (dk_at dksX0_dense_4 3 rfl rfl)
theorem dX0_dense_98 : decode cX0_dense 98 = .ok (.iaload, 1) := dk_46 (dk_at dksX0_dense_4 5 rfl rfl)
theorem dX0_dense_99 : decode cX0_dense 99 = .ok (.invokestatic 346, 3) := dk_184 1 90 (dk_at dksX0_dense_4 6 rfl rfl)
theorem dX0_dense_102 : decode cX0_dense 102 = .ok (.iadd, 1) := dk_96 (dk_at dksX0_dense_4 9 rfl rfl)
theorem dX0_dense_103 : decode cX0_dense 103 = .ok (.istore_n 3, 1) := dk_62 (dk_at dksX0_dense_4 10 rfl rfl)
theorem dX0_dense_104 : decode cX0_dense 104 = .ok (.iload 4, 2) := dk_21 4 (dk_at dksX0_dense_4 11 rfl rfl)
theorem dX0_dense_106 : decode cX0_dense 106 = .ok (.iload_n 1, 1) := dk_27 (dk_at dksX0_dense_4 13 rfl rfl)
theorem dX0_dense_107 : decode cX0_dense 107 = .ok (.if_icmp .lt 24, 3) := dk_161 0 24 (dk_at dksX0_dense_4 14 rfl rfl)
theorem dX0_dense_110 : decode cX0_dense 110 = .ok (.iload_n 3, 1) := dk_29 (dk_at dksX0_dense_4 17 rfl rfl)
theorem dX0_dense_111 : decode cX0_dense 111 = .ok (.aload_n 0, 1) := dk_42 (dk_at dksX0_dense_4 18 rfl rfl)
theorem dX0_dense_112 : decode cX0_dense 112 = .ok (.getfield 62, 3) := dk_180 0 62 (dk_at dksX0_dense_4 19 rfl rfl)
theorem dX0_dense_115 : decode cX0_dense 115 = .ok (.getfield 233, 3) := dk_180 0 233 (dk_at dksX0_dense_5 0 rfl rfl)
theorem dX0_dense_118 : decode cX0_dense 118 = .ok (.getfield 252, 3) := dk_180 0 252 (dk_at dksX0_dense_5 3 rfl rfl)
theorem dX0_dense_121 : decode cX0_dense 121 = .ok (.iload 4, 2) := dk_21 4 (dk_at dksX0_dense_5 6 rfl rfl)
theorem dX0_dense_123 : decode cX0_dense 123 = .ok (.iload_n 1, 1) := dk_27 (dk_at dksX0_dense_5 8 rfl rfl)
theorem dX0_dense_124 : decode cX0_dense 124 = .ok (.isub, 1) := dk_100 (dk_at dksX0_dense_5 9 rfl rfl)
theorem dX0_dense_125 : decode cX0_dense 125 = .ok (.iaload, 1) := dk_46 (dk_at dksX0_dense_5 10 rfl rfl)
theorem dX0_dense_126 : decode cX0_dense 126 = .ok (.invokestatic 346, 3) := dk_184 1 90 (dk_at dksX0_dense_5 11 rfl rfl)
theorem dX0_dense_129 : decode cX0_dense 129 = .ok (.isub, 1) := dk_100 (dk_at dksX0_dense_5 14 rfl rfl)
theorem dX0_dense_130 : decode cX0_dense 130 = .ok (.istore_n 3, 1) := dk_62 (dk_at dksX0_dense_5 15 rfl rfl)
theorem dX0_dense_131 : decode cX0_dense 131 = .ok (.iload_n 2, 1) := dk_28 (dk_at dksX0_dense_5 16 rfl rfl)
theorem dX0_dense_132 : decode cX0_dense 132 = .ok (.iload_n 3, 1) := dk_29 (dk_at dksX0_dense_5 17 rfl rfl)
theorem dX0_dense_133 : decode cX0_dense 133 = .ok (.invokestatic 374, 3) := dk_184 1 118 (dk_at dksX0_dense_5 18 rfl rfl)
theorem dX0_dense_136 : decode cX0_dense 136 = .ok (.istore_n 2, 1) := dk_61 (dk_at dksX0_dense_5 21 rfl rfl)
theorem dX0_dense_137 : decode cX0_dense 137 = .ok (.iinc 4 1, 3) := dk_132 4 1 (dk_at dksX0_dense_6 0 rfl rfl)
theorem dX0_dense_140 : decode cX0_dense 140 = .ok (.goto (-71), 3) := dk_167 255 185 (dk_at dksX0_dense_6 3 rfl rfl)
theorem dX0_dense_143 : decode cX0_dense 143 = .ok (.iload_n 2, 1) := dk_28 (dk_at dksX0_dense_6 6 rfl rfl)
theorem dX0_dense_144 : decode cX0_dense 144 = .ok (.ireturn, 1) := dk_172 (dk_at dksX0_dense_6 7 rfl rfl)
abbrev cX0_alike : ByteArray := prog_1_method_66_code
def yX0_alike : MethodName := ⟨RX0, "alike", "(II)I"⟩
def dkwX0_alike_5 : List UInt8 := [28, 46, 21, 4, 96, 46, 160, 0, 7, 4, 167, 0, 4, 3, 96, 62, 132, 4, 1, 167, 255, 160, 29, 172]
abbrev dktX0_alike_5 : List UInt8 := dkwX0_alike_5 ++ []
def dkwX0_alike_4 : List UInt8 := [21, 4, 96, 46, 42, 180, 0, 62, 180, 0, 233, 180, 1, 73, 42, 180, 0, 62, 180, 0, 233, 180, 1, 76]
abbrev dktX0_alike_4 : List UInt8 := dkwX0_alike_4 ++ dktX0_alike_5
def dkwX0_alike_3 : List UInt8 := [29, 42, 180, 0, 62, 180, 0, 233, 180, 1, 73, 42, 180, 0, 62, 180, 0, 233, 180, 1, 76, 27, 46]
abbrev dktX0_alike_3 : List UInt8 := dkwX0_alike_3 ++ dktX0_alike_4
def dkwX0_alike_2 : List UInt8 := [180, 0, 233, 27, 182, 1, 70, 42, 180, 0, 62, 180, 0, 233, 28, 182, 1, 70, 184, 1, 122, 162, 0, 72]
abbrev dktX0_alike_2 : List UInt8 := dkwX0_alike_2 ++ dktX0_alike_3
def dkwX0_alike_1 : List UInt8 := [181, 0, 114, 42, 180, 0, 114, 158, 0, 5, 2, 172, 3, 62, 3, 54, 4, 21, 4, 42, 180, 0, 62]
abbrev dktX0_alike_1 : List UInt8 := dkwX0_alike_1 ++ dktX0_alike_2
def dkwX0_alike_0 : List UInt8 := [42, 42, 27, 182, 1, 67, 153, 0, 15, 42, 28, 182, 1, 67, 153, 0, 7, 3, 167, 0, 5, 16, 6]
abbrev dktX0_alike_0 : List UInt8 := dkwX0_alike_0 ++ dktX0_alike_1
theorem dksX0_alike_0 : cX0_alike.data.toList.drop 0 = dktX0_alike_0 := by decide +kernel
theorem dksX0_alike_1 : cX0_alike.data.toList.drop 23 = dktX0_alike_1 := dk_seg dksX0_alike_0 23 rfl rfl
theorem dksX0_alike_2 : cX0_alike.data.toList.drop 46 = dktX0_alike_2 := dk_seg dksX0_alike_1 23 rfl rfl
theorem dksX0_alike_3 : cX0_alike.data.toList.drop 70 = dktX0_alike_3 := dk_seg dksX0_alike_2 24 rfl rfl
theorem dksX0_alike_4 : cX0_alike.data.toList.drop 93 = dktX0_alike_4 := dk_seg dksX0_alike_3 23 rfl rfl
theorem dksX0_alike_5 : cX0_alike.data.toList.drop 117 = dktX0_alike_5 := dk_seg dksX0_alike_4 24 rfl rfl
theorem dX0_alike_0 : decode cX0_alike 0 = .ok (.aload_n 0, 1) := dk_42 (dk_at dksX0_alike_0 0 rfl rfl)
theorem dX0_alike_1 : decode cX0_alike 1 = .ok (.aload_n 0, 1) := dk_42 (dk_at dksX0_alike_0 1 rfl rfl)
theorem dX0_alike_2 : decode cX0_alike 2 = .ok (.iload_n 1, 1) := dk_27 (dk_at dksX0_alike_0 2 rfl rfl)
theorem dX0_alike_3 : decode cX0_alike 3 = .ok (.invokevirtual 323, 3) := dk_182 1 67 (dk_at dksX0_alike_0 3 rfl rfl)
theorem dX0_alike_6 : decode cX0_alike 6 = .ok (.ifCond .eq 15, 3) := dk_153 0 15 (dk_at dksX0_alike_0 6 rfl rfl)
theorem dX0_alike_9 : decode cX0_alike 9 = .ok (.aload_n 0, 1) := dk_42 (dk_at dksX0_alike_0 9 rfl rfl)
theorem dX0_alike_10 : decode cX0_alike 10 = .ok (.iload_n 2, 1) := dk_28 (dk_at dksX0_alike_0 10 rfl rfl)
theorem dX0_alike_11 : decode cX0_alike 11 = .ok (.invokevirtual 323, 3) := dk_182 1 67 (dk_at dksX0_alike_0 11 rfl rfl)
theorem dX0_alike_14 : decode cX0_alike 14 = .ok (.ifCond .eq 7, 3) := dk_153 0 7 (dk_at dksX0_alike_0 14 rfl rfl)
theorem dX0_alike_17 : decode cX0_alike 17 = .ok (.iconst 0, 1) := dk_3 (dk_at dksX0_alike_0 17 rfl rfl)
theorem dX0_alike_18 : decode cX0_alike 18 = .ok (.goto 5, 3) := dk_167 0 5 (dk_at dksX0_alike_0 18 rfl rfl)
theorem dX0_alike_21 : decode cX0_alike 21 = .ok (.bipush 6, 2) := dk_16 6 (dk_at dksX0_alike_0 21 rfl rfl)
theorem dX0_alike_23 : decode cX0_alike 23 = .ok (.putfield 114, 3) := dk_181 0 114 (dk_at dksX0_alike_1 0 rfl rfl)
theorem dX0_alike_26 : decode cX0_alike 26 = .ok (.aload_n 0, 1) := dk_42 (dk_at dksX0_alike_1 3 rfl rfl)
theorem dX0_alike_27 : decode cX0_alike 27 = .ok (.getfield 114, 3) := dk_180 0 114 (dk_at dksX0_alike_1 4 rfl rfl)
theorem dX0_alike_30 : decode cX0_alike 30 = .ok (.ifCond .le 5, 3) := dk_158 0 5 (dk_at dksX0_alike_1 7 rfl rfl)
theorem dX0_alike_33 : decode cX0_alike 33 = .ok (.iconst (-1), 1) := dk_2 (dk_at dksX0_alike_1 10 rfl rfl)
theorem dX0_alike_34 : decode cX0_alike 34 = .ok (.ireturn, 1) := dk_172 (dk_at dksX0_alike_1 11 rfl rfl)
theorem dX0_alike_35 : decode cX0_alike 35 = .ok (.iconst 0, 1) := dk_3 (dk_at dksX0_alike_1 12 rfl rfl)
theorem dX0_alike_36 : decode cX0_alike 36 = .ok (.istore_n 3, 1) := dk_62 (dk_at dksX0_alike_1 13 rfl rfl)
theorem dX0_alike_37 : decode cX0_alike 37 = .ok (.iconst 0, 1) := dk_3 (dk_at dksX0_alike_1 14 rfl rfl)
theorem dX0_alike_38 : decode cX0_alike 38 = .ok (.istore 4, 2) := dk_54 4 (dk_at dksX0_alike_1 15 rfl rfl)
theorem dX0_alike_40 : decode cX0_alike 40 = .ok (.iload 4, 2) := dk_21 4 (dk_at dksX0_alike_1 17 rfl rfl)
theorem dX0_alike_42 : decode cX0_alike 42 = .ok (.aload_n 0, 1) := dk_42 (dk_at dksX0_alike_1 19 rfl rfl)
theorem dX0_alike_43 : decode cX0_alike 43 = .ok (.getfield 62, 3) := dk_180 0 62 (dk_at dksX0_alike_1 20 rfl rfl)
theorem dX0_alike_46 : decode cX0_alike 46 = .ok (.getfield 233, 3) := dk_180 0 233 (dk_at dksX0_alike_2 0 rfl rfl)
theorem dX0_alike_49 : decode cX0_alike 49 = .ok (.iload_n 1, 1) := dk_27 (dk_at dksX0_alike_2 3 rfl rfl)
theorem dX0_alike_50 : decode cX0_alike 50 = .ok (.invokevirtual 326, 3) := dk_182 1 70 (dk_at dksX0_alike_2 4 rfl rfl)
theorem dX0_alike_53 : decode cX0_alike 53 = .ok (.aload_n 0, 1) := dk_42 (dk_at dksX0_alike_2 7 rfl rfl)
theorem dX0_alike_54 : decode cX0_alike 54 = .ok (.getfield 62, 3) := dk_180 0 62 (dk_at dksX0_alike_2 8 rfl rfl)
theorem dX0_alike_57 : decode cX0_alike 57 = .ok (.getfield 233, 3) := dk_180 0 233 (dk_at dksX0_alike_2 11 rfl rfl)
theorem dX0_alike_60 : decode cX0_alike 60 = .ok (.iload_n 2, 1) := dk_28 (dk_at dksX0_alike_2 14 rfl rfl)
theorem dX0_alike_61 : decode cX0_alike 61 = .ok (.invokevirtual 326, 3) := dk_182 1 70 (dk_at dksX0_alike_2 15 rfl rfl)
theorem dX0_alike_64 : decode cX0_alike 64 = .ok (.invokestatic 378, 3) := dk_184 1 122 (dk_at dksX0_alike_2 18 rfl rfl)
theorem dX0_alike_67 : decode cX0_alike 67 = .ok (.if_icmp .ge 72, 3) := dk_162 0 72 (dk_at dksX0_alike_2 21 rfl rfl)
theorem dX0_alike_70 : decode cX0_alike 70 = .ok (.iload_n 3, 1) := dk_29 (dk_at dksX0_alike_3 0 rfl rfl)
theorem dX0_alike_71 : decode cX0_alike 71 = .ok (.aload_n 0, 1) := dk_42 (dk_at dksX0_alike_3 1 rfl rfl)
theorem dX0_alike_72 : decode cX0_alike 72 = .ok (.getfield 62, 3) := dk_180 0 62 (dk_at dksX0_alike_3 2 rfl rfl)
theorem dX0_alike_75 : decode cX0_alike 75 = .ok (.getfield 233, 3) := dk_180 0 233 (dk_at dksX0_alike_3 5 rfl rfl)
theorem dX0_alike_78 : decode cX0_alike 78 = .ok (.getfield 329, 3) := dk_180 1 73 (dk_at dksX0_alike_3 8 rfl rfl)
theorem dX0_alike_81 : decode cX0_alike 81 = .ok (.aload_n 0, 1) := dk_42 (dk_at dksX0_alike_3 11 rfl rfl)
theorem dX0_alike_82 : decode cX0_alike 82 = .ok (.getfield 62, 3) := dk_180 0 62 (dk_at dksX0_alike_3 12 rfl rfl)
theorem dX0_alike_85 : decode cX0_alike 85 = .ok (.getfield 233, 3) := dk_180 0 233 (dk_at dksX0_alike_3 15 rfl rfl)
theorem dX0_alike_88 : decode cX0_alike 88 = .ok (.getfield 332, 3) := dk_180 1 76 (dk_at dksX0_alike_3 18 rfl rfl)
theorem dX0_alike_91 : decode cX0_alike 91 = .ok (.iload_n 1, 1) := dk_27 (dk_at dksX0_alike_3 21 rfl rfl)
theorem dX0_alike_92 : decode cX0_alike 92 = .ok (.iaload, 1) := dk_46 (dk_at dksX0_alike_3 22 rfl rfl)
theorem dX0_alike_93 : decode cX0_alike 93 = .ok (.iload 4, 2) := dk_21 4 (dk_at dksX0_alike_4 0 rfl rfl)
theorem dX0_alike_95 : decode cX0_alike 95 = .ok (.iadd, 1) := dk_96 (dk_at dksX0_alike_4 2 rfl rfl)
theorem dX0_alike_96 : decode cX0_alike 96 = .ok (.iaload, 1) := dk_46 (dk_at dksX0_alike_4 3 rfl rfl)
theorem dX0_alike_97 : decode cX0_alike 97 = .ok (.aload_n 0, 1) := dk_42 (dk_at dksX0_alike_4 4 rfl rfl)
theorem dX0_alike_98 : decode cX0_alike 98 = .ok (.getfield 62, 3) := dk_180 0 62 (dk_at dksX0_alike_4 5 rfl rfl)
theorem dX0_alike_101 : decode cX0_alike 101 = .ok (.getfield 233, 3) := dk_180 0 233 (dk_at dksX0_alike_4 8 rfl rfl)
theorem dX0_alike_104 : decode cX0_alike 104 = .ok (.getfield 329, 3) := dk_180 1 73 (dk_at dksX0_alike_4 11 rfl rfl)
theorem dX0_alike_107 : decode cX0_alike 107 = .ok (.aload_n 0, 1) := dk_42 (dk_at dksX0_alike_4 14 rfl rfl)
theorem dX0_alike_108 : decode cX0_alike 108 = .ok (.getfield 62, 3) := dk_180 0 62 (dk_at dksX0_alike_4 15 rfl rfl)
theorem dX0_alike_111 : decode cX0_alike 111 = .ok (.getfield 233, 3) := dk_180 0 233 (dk_at dksX0_alike_4 18 rfl rfl)
theorem dX0_alike_114 : decode cX0_alike 114 = .ok (.getfield 332, 3) := dk_180 1 76 (dk_at dksX0_alike_4 21 rfl rfl)
theorem dX0_alike_117 : decode cX0_alike 117 = .ok (.iload_n 2, 1) := dk_28 (dk_at dksX0_alike_5 0 rfl rfl)
theorem dX0_alike_118 : decode cX0_alike 118 = .ok (.iaload, 1) := dk_46 (dk_at dksX0_alike_5 1 rfl rfl)
theorem dX0_alike_119 : decode cX0_alike 119 = .ok (.iload 4, 2) := dk_21 4 (dk_at dksX0_alike_5 2 rfl rfl)
theorem dX0_alike_121 : decode cX0_alike 121 = .ok (.iadd, 1) := dk_96 (dk_at dksX0_alike_5 4 rfl rfl)
theorem dX0_alike_122 : decode cX0_alike 122 = .ok (.iaload, 1) := dk_46 (dk_at dksX0_alike_5 5 rfl rfl)
theorem dX0_alike_123 : decode cX0_alike 123 = .ok (.if_icmp .ne 7, 3) := dk_160 0 7 (dk_at dksX0_alike_5 6 rfl rfl)
theorem dX0_alike_126 : decode cX0_alike 126 = .ok (.iconst 1, 1) := dk_4 (dk_at dksX0_alike_5 9 rfl rfl)
theorem dX0_alike_127 : decode cX0_alike 127 = .ok (.goto 4, 3) := dk_167 0 4 (dk_at dksX0_alike_5 10 rfl rfl)
theorem dX0_alike_130 : decode cX0_alike 130 = .ok (.iconst 0, 1) := dk_3 (dk_at dksX0_alike_5 13 rfl rfl)
theorem dX0_alike_131 : decode cX0_alike 131 = .ok (.iadd, 1) := dk_96 (dk_at dksX0_alike_5 14 rfl rfl)
theorem dX0_alike_132 : decode cX0_alike 132 = .ok (.istore_n 3, 1) := dk_62 (dk_at dksX0_alike_5 15 rfl rfl)
theorem dX0_alike_133 : decode cX0_alike 133 = .ok (.iinc 4 1, 3) := dk_132 4 1 (dk_at dksX0_alike_5 16 rfl rfl)
theorem dX0_alike_136 : decode cX0_alike 136 = .ok (.goto (-96), 3) := dk_167 255 160 (dk_at dksX0_alike_5 19 rfl rfl)
theorem dX0_alike_139 : decode cX0_alike 139 = .ok (.iload_n 3, 1) := dk_29 (dk_at dksX0_alike_5 22 rfl rfl)
theorem dX0_alike_140 : decode cX0_alike 140 = .ok (.ireturn, 1) := dk_172 (dk_at dksX0_alike_5 23 rfl rfl)
abbrev cX0_longest : ByteArray := prog_1_method_67_code
def yX0_longest : MethodName := ⟨RX0, "longest", "()I"⟩
def dkwX0_longest_3 : List UInt8 := [172]
abbrev dktX0_longest_3 : List UInt8 := dkwX0_longest_3 ++ []
def dkwX0_longest_2 : List UInt8 := [180, 0, 233, 180, 1, 107, 27, 46, 164, 0, 5, 28, 60, 132, 2, 1, 167, 255, 198, 42, 27, 182, 1, 6]
abbrev dktX0_longest_2 : List UInt8 := dkwX0_longest_2 ++ dktX0_longest_3
def dkwX0_longest_1 : List UInt8 := [162, 0, 42, 27, 155, 0, 30, 42, 180, 0, 62, 180, 0, 233, 180, 1, 107, 28, 46, 42, 180, 0, 62]
abbrev dktX0_longest_1 : List UInt8 := dkwX0_longest_1 ++ dktX0_longest_2
def dkwX0_longest_0 : List UInt8 := [2, 60, 3, 61, 42, 182, 1, 39, 153, 0, 57, 28, 42, 180, 0, 62, 180, 0, 233, 180, 1, 107, 190]
abbrev dktX0_longest_0 : List UInt8 := dkwX0_longest_0 ++ dktX0_longest_1
theorem dksX0_longest_0 : cX0_longest.data.toList.drop 0 = dktX0_longest_0 := by decide +kernel
theorem dksX0_longest_1 : cX0_longest.data.toList.drop 23 = dktX0_longest_1 := dk_seg dksX0_longest_0 23 rfl rfl
theorem dksX0_longest_2 : cX0_longest.data.toList.drop 46 = dktX0_longest_2 := dk_seg dksX0_longest_1 23 rfl rfl
theorem dksX0_longest_3 : cX0_longest.data.toList.drop 70 = dktX0_longest_3 := dk_seg dksX0_longest_2 24 rfl rfl
theorem dX0_longest_0 : decode cX0_longest 0 = .ok (.iconst (-1), 1) := dk_2 (dk_at dksX0_longest_0 0 rfl rfl)
theorem dX0_longest_1 : decode cX0_longest 1 = .ok (.istore_n 1, 1) := dk_60 (dk_at dksX0_longest_0 1 rfl rfl)
theorem dX0_longest_2 : decode cX0_longest 2 = .ok (.iconst 0, 1) := dk_3 (dk_at dksX0_longest_0 2 rfl rfl)
theorem dX0_longest_3 : decode cX0_longest 3 = .ok (.istore_n 2, 1) := dk_61 (dk_at dksX0_longest_0 3 rfl rfl)
theorem dX0_longest_4 : decode cX0_longest 4 = .ok (.aload_n 0, 1) := dk_42 (dk_at dksX0_longest_0 4 rfl rfl)
theorem dX0_longest_5 : decode cX0_longest 5 = .ok (.invokevirtual 295, 3) := dk_182 1 39 (dk_at dksX0_longest_0 5 rfl rfl)
theorem dX0_longest_8 : decode cX0_longest 8 = .ok (.ifCond .eq 57, 3) := dk_153 0 57 (dk_at dksX0_longest_0 8 rfl rfl)
theorem dX0_longest_11 : decode cX0_longest 11 = .ok (.iload_n 2, 1) := dk_28 (dk_at dksX0_longest_0 11 rfl rfl)
theorem dX0_longest_12 : decode cX0_longest 12 = .ok (.aload_n 0, 1) := dk_42 (dk_at dksX0_longest_0 12 rfl rfl)
theorem dX0_longest_13 : decode cX0_longest 13 = .ok (.getfield 62, 3) := dk_180 0 62 (dk_at dksX0_longest_0 13 rfl rfl)
theorem dX0_longest_16 : decode cX0_longest 16 = .ok (.getfield 233, 3) := dk_180 0 233 (dk_at dksX0_longest_0 16 rfl rfl)
theorem dX0_longest_19 : decode cX0_longest 19 = .ok (.getfield 363, 3) := dk_180 1 107 (dk_at dksX0_longest_0 19 rfl rfl)
theorem dX0_longest_22 : decode cX0_longest 22 = .ok (.arraylength, 1) := dk_190 (dk_at dksX0_longest_0 22 rfl rfl)
theorem dX0_longest_23 : decode cX0_longest 23 = .ok (.if_icmp .ge 42, 3) := dk_162 0 42 (dk_at dksX0_longest_1 0 rfl rfl)
theorem dX0_longest_26 : decode cX0_longest 26 = .ok (.iload_n 1, 1) := dk_27 (dk_at dksX0_longest_1 3 rfl rfl)
theorem dX0_longest_27 : decode cX0_longest 27 = .ok (.ifCond .lt 30, 3) := dk_155 0 30 (dk_at dksX0_longest_1 4 rfl rfl)
theorem dX0_longest_30 : decode cX0_longest 30 = .ok (.aload_n 0, 1) := dk_42 (dk_at dksX0_longest_1 7 rfl rfl)
theorem dX0_longest_31 : decode cX0_longest 31 = .ok (.getfield 62, 3) := dk_180 0 62 (dk_at dksX0_longest_1 8 rfl rfl)
theorem dX0_longest_34 : decode cX0_longest 34 = .ok (.getfield 233, 3) := dk_180 0 233 (dk_at dksX0_longest_1 11 rfl rfl)
theorem dX0_longest_37 : decode cX0_longest 37 = .ok (.getfield 363, 3) := dk_180 1 107 (dk_at dksX0_longest_1 14 rfl rfl)
theorem dX0_longest_40 : decode cX0_longest 40 = .ok (.iload_n 2, 1) := dk_28 (dk_at dksX0_longest_1 17 rfl rfl)
theorem dX0_longest_41 : decode cX0_longest 41 = .ok (.iaload, 1) := dk_46 (dk_at dksX0_longest_1 18 rfl rfl)
theorem dX0_longest_42 : decode cX0_longest 42 = .ok (.aload_n 0, 1) := dk_42 (dk_at dksX0_longest_1 19 rfl rfl)
theorem dX0_longest_43 : decode cX0_longest 43 = .ok (.getfield 62, 3) := dk_180 0 62 (dk_at dksX0_longest_1 20 rfl rfl)
theorem dX0_longest_46 : decode cX0_longest 46 = .ok (.getfield 233, 3) := dk_180 0 233 (dk_at dksX0_longest_2 0 rfl rfl)
theorem dX0_longest_49 : decode cX0_longest 49 = .ok (.getfield 363, 3) := dk_180 1 107 (dk_at dksX0_longest_2 3 rfl rfl)
theorem dX0_longest_52 : decode cX0_longest 52 = .ok (.iload_n 1, 1) := dk_27 (dk_at dksX0_longest_2 6 rfl rfl)
theorem dX0_longest_53 : decode cX0_longest 53 = .ok (.iaload, 1) := dk_46 (dk_at dksX0_longest_2 7 rfl rfl)
theorem dX0_longest_54 : decode cX0_longest 54 = .ok (.if_icmp .le 5, 3) := dk_164 0 5 (dk_at dksX0_longest_2 8 rfl rfl)
theorem dX0_longest_57 : decode cX0_longest 57 = .ok (.iload_n 2, 1) := dk_28 (dk_at dksX0_longest_2 11 rfl rfl)
theorem dX0_longest_58 : decode cX0_longest 58 = .ok (.istore_n 1, 1) := dk_60 (dk_at dksX0_longest_2 12 rfl rfl)
theorem dX0_longest_59 : decode cX0_longest 59 = .ok (.iinc 2 1, 3) := dk_132 2 1 (dk_at dksX0_longest_2 13 rfl rfl)
theorem dX0_longest_62 : decode cX0_longest 62 = .ok (.goto (-58), 3) := dk_167 255 198 (dk_at dksX0_longest_2 16 rfl rfl)
theorem dX0_longest_65 : decode cX0_longest 65 = .ok (.aload_n 0, 1) := dk_42 (dk_at dksX0_longest_2 19 rfl rfl)
theorem dX0_longest_66 : decode cX0_longest 66 = .ok (.iload_n 1, 1) := dk_27 (dk_at dksX0_longest_2 20 rfl rfl)
theorem dX0_longest_67 : decode cX0_longest 67 = .ok (.invokevirtual 262, 3) := dk_182 1 6 (dk_at dksX0_longest_2 21 rfl rfl)
theorem dX0_longest_70 : decode cX0_longest 70 = .ok (.ireturn, 1) := dk_172 (dk_at dksX0_longest_3 0 rfl rfl)
abbrev cX0_inLine : ByteArray := prog_1_method_68_code
def yX0_inLine : MethodName := ⟨RX0, "inLine", "(I)I"⟩
def dkwX0_inLine_3 : List UInt8 := [180, 1, 125, 29, 46, 27, 161, 0, 7, 4, 167, 0, 4, 3, 96, 61, 132, 3, 1, 167, 255, 198, 28, 172]
abbrev dktX0_inLine_3 : List UInt8 := dkwX0_inLine_3 ++ []
def dkwX0_inLine_2 : List UInt8 := [28, 42, 180, 0, 62, 180, 0, 233, 180, 1, 110, 29, 46, 27, 163, 0, 23, 42, 180, 0, 62, 180, 0, 233]
abbrev dktX0_inLine_2 : List UInt8 := dkwX0_inLine_2 ++ dktX0_inLine_3
def dkwX0_inLine_1 : List UInt8 := [158, 0, 5, 2, 172, 3, 61, 3, 62, 29, 42, 180, 0, 62, 180, 0, 233, 180, 1, 110, 190, 162, 0, 49]
abbrev dktX0_inLine_1 : List UInt8 := dkwX0_inLine_1 ++ dktX0_inLine_2
def dkwX0_inLine_0 : List UInt8 := [42, 42, 27, 182, 1, 67, 153, 0, 7, 3, 167, 0, 5, 16, 6, 181, 0, 114, 42, 180, 0, 114]
abbrev dktX0_inLine_0 : List UInt8 := dkwX0_inLine_0 ++ dktX0_inLine_1
theorem dksX0_inLine_0 : cX0_inLine.data.toList.drop 0 = dktX0_inLine_0 := by decide +kernel
theorem dksX0_inLine_1 : cX0_inLine.data.toList.drop 22 = dktX0_inLine_1 := dk_seg dksX0_inLine_0 22 rfl rfl
theorem dksX0_inLine_2 : cX0_inLine.data.toList.drop 46 = dktX0_inLine_2 := dk_seg dksX0_inLine_1 24 rfl rfl
theorem dksX0_inLine_3 : cX0_inLine.data.toList.drop 70 = dktX0_inLine_3 := dk_seg dksX0_inLine_2 24 rfl rfl
theorem dX0_inLine_0 : decode cX0_inLine 0 = .ok (.aload_n 0, 1) := dk_42 (dk_at dksX0_inLine_0 0 rfl rfl)
theorem dX0_inLine_1 : decode cX0_inLine 1 = .ok (.aload_n 0, 1) := dk_42 (dk_at dksX0_inLine_0 1 rfl rfl)
theorem dX0_inLine_2 : decode cX0_inLine 2 = .ok (.iload_n 1, 1) := dk_27 (dk_at dksX0_inLine_0 2 rfl rfl)
theorem dX0_inLine_3 : decode cX0_inLine 3 = .ok (.invokevirtual 323, 3) := dk_182 1 67 (dk_at dksX0_inLine_0 3 rfl rfl)
theorem dX0_inLine_6 : decode cX0_inLine 6 = .ok (.ifCond .eq 7, 3) := dk_153 0 7 (dk_at dksX0_inLine_0 6 rfl rfl)
theorem dX0_inLine_9 : decode cX0_inLine 9 = .ok (.iconst 0, 1) := dk_3 (dk_at dksX0_inLine_0 9 rfl rfl)
theorem dX0_inLine_10 : decode cX0_inLine 10 = .ok (.goto 5, 3) := dk_167 0 5 (dk_at dksX0_inLine_0 10 rfl rfl)
theorem dX0_inLine_13 : decode cX0_inLine 13 = .ok (.bipush 6, 2) := dk_16 6 (dk_at dksX0_inLine_0 13 rfl rfl)
theorem dX0_inLine_15 : decode cX0_inLine 15 = .ok (.putfield 114, 3) := dk_181 0 114 (dk_at dksX0_inLine_0 15 rfl rfl)
theorem dX0_inLine_18 : decode cX0_inLine 18 = .ok (.aload_n 0, 1) := dk_42 (dk_at dksX0_inLine_0 18 rfl rfl)
theorem dX0_inLine_19 : decode cX0_inLine 19 = .ok (.getfield 114, 3) := dk_180 0 114 (dk_at dksX0_inLine_0 19 rfl rfl)
theorem dX0_inLine_22 : decode cX0_inLine 22 = .ok (.ifCond .le 5, 3) := dk_158 0 5 (dk_at dksX0_inLine_1 0 rfl rfl)
theorem dX0_inLine_25 : decode cX0_inLine 25 = .ok (.iconst (-1), 1) := dk_2 (dk_at dksX0_inLine_1 3 rfl rfl)
theorem dX0_inLine_26 : decode cX0_inLine 26 = .ok (.ireturn, 1) := dk_172 (dk_at dksX0_inLine_1 4 rfl rfl)
theorem dX0_inLine_27 : decode cX0_inLine 27 = .ok (.iconst 0, 1) := dk_3 (dk_at dksX0_inLine_1 5 rfl rfl)
theorem dX0_inLine_28 : decode cX0_inLine 28 = .ok (.istore_n 2, 1) := dk_61 (dk_at dksX0_inLine_1 6 rfl rfl)
theorem dX0_inLine_29 : decode cX0_inLine 29 = .ok (.iconst 0, 1) := dk_3 (dk_at dksX0_inLine_1 7 rfl rfl)
theorem dX0_inLine_30 : decode cX0_inLine 30 = .ok (.istore_n 3, 1) := dk_62 (dk_at dksX0_inLine_1 8 rfl rfl)
theorem dX0_inLine_31 : decode cX0_inLine 31 = .ok (.iload_n 3, 1) := dk_29 (dk_at dksX0_inLine_1 9 rfl rfl)
theorem dX0_inLine_32 : decode cX0_inLine 32 = .ok (.aload_n 0, 1) := dk_42 (dk_at dksX0_inLine_1 10 rfl rfl)
theorem dX0_inLine_33 : decode cX0_inLine 33 = .ok (.getfield 62, 3) := dk_180 0 62 (dk_at dksX0_inLine_1 11 rfl rfl)
theorem dX0_inLine_36 : decode cX0_inLine 36 = .ok (.getfield 233, 3) := dk_180 0 233 (dk_at dksX0_inLine_1 14 rfl rfl)
theorem dX0_inLine_39 : decode cX0_inLine 39 = .ok (.getfield 366, 3) := dk_180 1 110 (dk_at dksX0_inLine_1 17 rfl rfl)
theorem dX0_inLine_42 : decode cX0_inLine 42 = .ok (.arraylength, 1) := dk_190 (dk_at dksX0_inLine_1 20 rfl rfl)
theorem dX0_inLine_43 : decode cX0_inLine 43 = .ok (.if_icmp .ge 49, 3) := dk_162 0 49 (dk_at dksX0_inLine_1 21 rfl rfl)
theorem dX0_inLine_46 : decode cX0_inLine 46 = .ok (.iload_n 2, 1) := dk_28 (dk_at dksX0_inLine_2 0 rfl rfl)
theorem dX0_inLine_47 : decode cX0_inLine 47 = .ok (.aload_n 0, 1) := dk_42 (dk_at dksX0_inLine_2 1 rfl rfl)
theorem dX0_inLine_48 : decode cX0_inLine 48 = .ok (.getfield 62, 3) := dk_180 0 62 (dk_at dksX0_inLine_2 2 rfl rfl)
theorem dX0_inLine_51 : decode cX0_inLine 51 = .ok (.getfield 233, 3) := dk_180 0 233 (dk_at dksX0_inLine_2 5 rfl rfl)
theorem dX0_inLine_54 : decode cX0_inLine 54 = .ok (.getfield 366, 3) := dk_180 1 110 (dk_at dksX0_inLine_2 8 rfl rfl)
theorem dX0_inLine_57 : decode cX0_inLine 57 = .ok (.iload_n 3, 1) := dk_29 (dk_at dksX0_inLine_2 11 rfl rfl)
theorem dX0_inLine_58 : decode cX0_inLine 58 = .ok (.iaload, 1) := dk_46 (dk_at dksX0_inLine_2 12 rfl rfl)
theorem dX0_inLine_59 : decode cX0_inLine 59 = .ok (.iload_n 1, 1) := dk_27 (dk_at dksX0_inLine_2 13 rfl rfl)
theorem dX0_inLine_60 : decode cX0_inLine 60 = .ok (.if_icmp .gt 23, 3) := dk_163 0 23 (dk_at dksX0_inLine_2 14 rfl rfl)
theorem dX0_inLine_63 : decode cX0_inLine 63 = .ok (.aload_n 0, 1) := dk_42 (dk_at dksX0_inLine_2 17 rfl rfl)
theorem dX0_inLine_64 : decode cX0_inLine 64 = .ok (.getfield 62, 3) := dk_180 0 62 (dk_at dksX0_inLine_2 18 rfl rfl)
theorem dX0_inLine_67 : decode cX0_inLine 67 = .ok (.getfield 233, 3) := dk_180 0 233 (dk_at dksX0_inLine_2 21 rfl rfl)
theorem dX0_inLine_70 : decode cX0_inLine 70 = .ok (.getfield 381, 3) := dk_180 1 125 (dk_at dksX0_inLine_3 0 rfl rfl)
theorem dX0_inLine_73 : decode cX0_inLine 73 = .ok (.iload_n 3, 1) := dk_29 (dk_at dksX0_inLine_3 3 rfl rfl)
theorem dX0_inLine_74 : decode cX0_inLine 74 = .ok (.iaload, 1) := dk_46 (dk_at dksX0_inLine_3 4 rfl rfl)
theorem dX0_inLine_75 : decode cX0_inLine 75 = .ok (.iload_n 1, 1) := dk_27 (dk_at dksX0_inLine_3 5 rfl rfl)
theorem dX0_inLine_76 : decode cX0_inLine 76 = .ok (.if_icmp .lt 7, 3) := dk_161 0 7 (dk_at dksX0_inLine_3 6 rfl rfl)
theorem dX0_inLine_79 : decode cX0_inLine 79 = .ok (.iconst 1, 1) := dk_4 (dk_at dksX0_inLine_3 9 rfl rfl)
theorem dX0_inLine_80 : decode cX0_inLine 80 = .ok (.goto 4, 3) := dk_167 0 4 (dk_at dksX0_inLine_3 10 rfl rfl)
theorem dX0_inLine_83 : decode cX0_inLine 83 = .ok (.iconst 0, 1) := dk_3 (dk_at dksX0_inLine_3 13 rfl rfl)
theorem dX0_inLine_84 : decode cX0_inLine 84 = .ok (.iadd, 1) := dk_96 (dk_at dksX0_inLine_3 14 rfl rfl)
theorem dX0_inLine_85 : decode cX0_inLine 85 = .ok (.istore_n 2, 1) := dk_61 (dk_at dksX0_inLine_3 15 rfl rfl)
theorem dX0_inLine_86 : decode cX0_inLine 86 = .ok (.iinc 3 1, 3) := dk_132 3 1 (dk_at dksX0_inLine_3 16 rfl rfl)
theorem dX0_inLine_89 : decode cX0_inLine 89 = .ok (.goto (-58), 3) := dk_167 255 198 (dk_at dksX0_inLine_3 19 rfl rfl)
theorem dX0_inLine_92 : decode cX0_inLine 92 = .ok (.iload_n 2, 1) := dk_28 (dk_at dksX0_inLine_3 22 rfl rfl)
theorem dX0_inLine_93 : decode cX0_inLine 93 = .ok (.ireturn, 1) := dk_172 (dk_at dksX0_inLine_3 23 rfl rfl)
abbrev cX0_wasted : ByteArray := prog_1_method_69_code
def yX0_wasted : MethodName := ⟨RX0, "wasted", "(I)I"⟩
def dkwX0_wasted_2 : List UInt8 := [182, 1, 70, 100, 172]
abbrev dktX0_wasted_2 : List UInt8 := dkwX0_wasted_2 ++ []
def dkwX0_wasted_1 : List UInt8 := [158, 0, 7, 2, 167, 0, 22, 42, 182, 0, 187, 180, 1, 15, 42, 180, 0, 62, 180, 0, 233, 27]
abbrev dktX0_wasted_1 : List UInt8 := dkwX0_wasted_1 ++ dktX0_wasted_2
def dkwX0_wasted_0 : List UInt8 := [42, 42, 27, 182, 1, 67, 153, 0, 7, 3, 167, 0, 5, 16, 6, 181, 0, 114, 42, 180, 0, 114]
abbrev dktX0_wasted_0 : List UInt8 := dkwX0_wasted_0 ++ dktX0_wasted_1
theorem dksX0_wasted_0 : cX0_wasted.data.toList.drop 0 = dktX0_wasted_0 := by decide +kernel
theorem dksX0_wasted_1 : cX0_wasted.data.toList.drop 22 = dktX0_wasted_1 := dk_seg dksX0_wasted_0 22 rfl rfl
theorem dksX0_wasted_2 : cX0_wasted.data.toList.drop 44 = dktX0_wasted_2 := dk_seg dksX0_wasted_1 22 rfl rfl
theorem dX0_wasted_0 : decode cX0_wasted 0 = .ok (.aload_n 0, 1) := dk_42 (dk_at dksX0_wasted_0 0 rfl rfl)
theorem dX0_wasted_1 : decode cX0_wasted 1 = .ok (.aload_n 0, 1) := dk_42 (dk_at dksX0_wasted_0 1 rfl rfl)
theorem dX0_wasted_2 : decode cX0_wasted 2 = .ok (.iload_n 1, 1) := dk_27 (dk_at dksX0_wasted_0 2 rfl rfl)
theorem dX0_wasted_3 : decode cX0_wasted 3 = .ok (.invokevirtual 323, 3) := dk_182 1 67 (dk_at dksX0_wasted_0 3 rfl rfl)
theorem dX0_wasted_6 : decode cX0_wasted 6 = .ok (.ifCond .eq 7, 3) := dk_153 0 7 (dk_at dksX0_wasted_0 6 rfl rfl)
theorem dX0_wasted_9 : decode cX0_wasted 9 = .ok (.iconst 0, 1) := dk_3 (dk_at dksX0_wasted_0 9 rfl rfl)
theorem dX0_wasted_10 : decode cX0_wasted 10 = .ok (.goto 5, 3) := dk_167 0 5 (dk_at dksX0_wasted_0 10 rfl rfl)
theorem dX0_wasted_13 : decode cX0_wasted 13 = .ok (.bipush 6, 2) := dk_16 6 (dk_at dksX0_wasted_0 13 rfl rfl)
theorem dX0_wasted_15 : decode cX0_wasted 15 = .ok (.putfield 114, 3) := dk_181 0 114 (dk_at dksX0_wasted_0 15 rfl rfl)
theorem dX0_wasted_18 : decode cX0_wasted 18 = .ok (.aload_n 0, 1) := dk_42 (dk_at dksX0_wasted_0 18 rfl rfl)
theorem dX0_wasted_19 : decode cX0_wasted 19 = .ok (.getfield 114, 3) := dk_180 0 114 (dk_at dksX0_wasted_0 19 rfl rfl)
theorem dX0_wasted_22 : decode cX0_wasted 22 = .ok (.ifCond .le 7, 3) := dk_158 0 7 (dk_at dksX0_wasted_1 0 rfl rfl)
theorem dX0_wasted_25 : decode cX0_wasted 25 = .ok (.iconst (-1), 1) := dk_2 (dk_at dksX0_wasted_1 3 rfl rfl)
theorem dX0_wasted_26 : decode cX0_wasted 26 = .ok (.goto 22, 3) := dk_167 0 22 (dk_at dksX0_wasted_1 4 rfl rfl)
theorem dX0_wasted_29 : decode cX0_wasted 29 = .ok (.aload_n 0, 1) := dk_42 (dk_at dksX0_wasted_1 7 rfl rfl)
theorem dX0_wasted_30 : decode cX0_wasted 30 = .ok (.invokevirtual 187, 3) := dk_182 0 187 (dk_at dksX0_wasted_1 8 rfl rfl)
theorem dX0_wasted_33 : decode cX0_wasted 33 = .ok (.getfield 271, 3) := dk_180 1 15 (dk_at dksX0_wasted_1 11 rfl rfl)
theorem dX0_wasted_36 : decode cX0_wasted 36 = .ok (.aload_n 0, 1) := dk_42 (dk_at dksX0_wasted_1 14 rfl rfl)
theorem dX0_wasted_37 : decode cX0_wasted 37 = .ok (.getfield 62, 3) := dk_180 0 62 (dk_at dksX0_wasted_1 15 rfl rfl)
theorem dX0_wasted_40 : decode cX0_wasted 40 = .ok (.getfield 233, 3) := dk_180 0 233 (dk_at dksX0_wasted_1 18 rfl rfl)
theorem dX0_wasted_43 : decode cX0_wasted 43 = .ok (.iload_n 1, 1) := dk_27 (dk_at dksX0_wasted_1 21 rfl rfl)
theorem dX0_wasted_44 : decode cX0_wasted 44 = .ok (.invokevirtual 326, 3) := dk_182 1 70 (dk_at dksX0_wasted_2 0 rfl rfl)
theorem dX0_wasted_47 : decode cX0_wasted 47 = .ok (.isub, 1) := dk_100 (dk_at dksX0_wasted_2 3 rfl rfl)
theorem dX0_wasted_48 : decode cX0_wasted 48 = .ok (.ireturn, 1) := dk_172 (dk_at dksX0_wasted_2 4 rfl rfl)
abbrev cX0_saved : ByteArray := prog_1_method_70_code
def yX0_saved : MethodName := ⟨RX0, "saved", "()I"⟩
def dkwX0_saved_1 : List UInt8 := [180, 0, 252, 190, 100, 172]
abbrev dktX0_saved_1 : List UInt8 := dkwX0_saved_1 ++ []
def dkwX0_saved_0 : List UInt8 := [42, 182, 1, 128, 60, 42, 180, 0, 114, 158, 0, 7, 2, 167, 0, 16, 27, 42, 180, 0, 62, 180, 0, 233]
abbrev dktX0_saved_0 : List UInt8 := dkwX0_saved_0 ++ dktX0_saved_1
theorem dksX0_saved_0 : cX0_saved.data.toList.drop 0 = dktX0_saved_0 := by decide +kernel
theorem dksX0_saved_1 : cX0_saved.data.toList.drop 24 = dktX0_saved_1 := dk_seg dksX0_saved_0 24 rfl rfl
theorem dX0_saved_0 : decode cX0_saved 0 = .ok (.aload_n 0, 1) := dk_42 (dk_at dksX0_saved_0 0 rfl rfl)
theorem dX0_saved_1 : decode cX0_saved 1 = .ok (.invokevirtual 384, 3) := dk_182 1 128 (dk_at dksX0_saved_0 1 rfl rfl)
theorem dX0_saved_4 : decode cX0_saved 4 = .ok (.istore_n 1, 1) := dk_60 (dk_at dksX0_saved_0 4 rfl rfl)
theorem dX0_saved_5 : decode cX0_saved 5 = .ok (.aload_n 0, 1) := dk_42 (dk_at dksX0_saved_0 5 rfl rfl)
theorem dX0_saved_6 : decode cX0_saved 6 = .ok (.getfield 114, 3) := dk_180 0 114 (dk_at dksX0_saved_0 6 rfl rfl)
theorem dX0_saved_9 : decode cX0_saved 9 = .ok (.ifCond .le 7, 3) := dk_158 0 7 (dk_at dksX0_saved_0 9 rfl rfl)
theorem dX0_saved_12 : decode cX0_saved 12 = .ok (.iconst (-1), 1) := dk_2 (dk_at dksX0_saved_0 12 rfl rfl)
theorem dX0_saved_13 : decode cX0_saved 13 = .ok (.goto 16, 3) := dk_167 0 16 (dk_at dksX0_saved_0 13 rfl rfl)
theorem dX0_saved_16 : decode cX0_saved 16 = .ok (.iload_n 1, 1) := dk_27 (dk_at dksX0_saved_0 16 rfl rfl)
theorem dX0_saved_17 : decode cX0_saved 17 = .ok (.aload_n 0, 1) := dk_42 (dk_at dksX0_saved_0 17 rfl rfl)
theorem dX0_saved_18 : decode cX0_saved 18 = .ok (.getfield 62, 3) := dk_180 0 62 (dk_at dksX0_saved_0 18 rfl rfl)
theorem dX0_saved_21 : decode cX0_saved 21 = .ok (.getfield 233, 3) := dk_180 0 233 (dk_at dksX0_saved_0 21 rfl rfl)
theorem dX0_saved_24 : decode cX0_saved 24 = .ok (.getfield 252, 3) := dk_180 0 252 (dk_at dksX0_saved_1 0 rfl rfl)
theorem dX0_saved_27 : decode cX0_saved 27 = .ok (.arraylength, 1) := dk_190 (dk_at dksX0_saved_1 3 rfl rfl)
theorem dX0_saved_28 : decode cX0_saved 28 = .ok (.isub, 1) := dk_100 (dk_at dksX0_saved_1 4 rfl rfl)
theorem dX0_saved_29 : decode cX0_saved 29 = .ok (.ireturn, 1) := dk_172 (dk_at dksX0_saved_1 5 rfl rfl)
abbrev cX0_frequent : ByteArray := prog_1_method_71_code
def yX0_frequent : MethodName := ⟨RX0, "frequent", "()I"⟩
def dkwX0_frequent_4 : List UInt8 := [132, 3, 1, 167, 255, 165, 42, 27, 182, 1, 6, 172]
abbrev dktX0_frequent_4 : List UInt8 := dkwX0_frequent_4 ++ []
def dkwX0_frequent_3 : List UInt8 := [132, 5, 1, 167, 255, 207, 21, 4, 28, 163, 0, 6, 167, 0, 11, 21, 4, 61, 29, 16, 96, 100, 60]
abbrev dktX0_frequent_3 : List UInt8 := dkwX0_frequent_3 ++ dktX0_frequent_4
def dkwX0_frequent_2 : List UInt8 := [180, 0, 233, 180, 1, 43, 21, 5, 51, 184, 1, 129, 29, 160, 0, 7, 4, 167, 0, 4, 3, 96, 54, 4]
abbrev dktX0_frequent_2 : List UInt8 := dkwX0_frequent_2 ++ dktX0_frequent_3
def dkwX0_frequent_1 : List UInt8 := [54, 5, 21, 5, 42, 180, 0, 62, 180, 0, 233, 180, 1, 43, 190, 162, 0, 39, 21, 4, 42, 180, 0, 62]
abbrev dktX0_frequent_1 : List UInt8 := dkwX0_frequent_1 ++ dktX0_frequent_2
def dkwX0_frequent_0 : List UInt8 := [2, 60, 3, 61, 16, 97, 62, 29, 16, 122, 163, 0, 91, 42, 182, 1, 39, 153, 0, 84, 3, 54, 4, 3]
abbrev dktX0_frequent_0 : List UInt8 := dkwX0_frequent_0 ++ dktX0_frequent_1
theorem dksX0_frequent_0 : cX0_frequent.data.toList.drop 0 = dktX0_frequent_0 := by decide +kernel
theorem dksX0_frequent_1 : cX0_frequent.data.toList.drop 24 = dktX0_frequent_1 := dk_seg dksX0_frequent_0 24 rfl rfl
theorem dksX0_frequent_2 : cX0_frequent.data.toList.drop 48 = dktX0_frequent_2 := dk_seg dksX0_frequent_1 24 rfl rfl
theorem dksX0_frequent_3 : cX0_frequent.data.toList.drop 72 = dktX0_frequent_3 := dk_seg dksX0_frequent_2 24 rfl rfl
theorem dksX0_frequent_4 : cX0_frequent.data.toList.drop 95 = dktX0_frequent_4 := dk_seg dksX0_frequent_3 23 rfl rfl
theorem dX0_frequent_0 : decode cX0_frequent 0 = .ok (.iconst (-1), 1) := dk_2 (dk_at dksX0_frequent_0 0 rfl rfl)
theorem dX0_frequent_1 : decode cX0_frequent 1 = .ok (.istore_n 1, 1) := dk_60 (dk_at dksX0_frequent_0 1 rfl rfl)
theorem dX0_frequent_2 : decode cX0_frequent 2 = .ok (.iconst 0, 1) := dk_3 (dk_at dksX0_frequent_0 2 rfl rfl)
theorem dX0_frequent_3 : decode cX0_frequent 3 = .ok (.istore_n 2, 1) := dk_61 (dk_at dksX0_frequent_0 3 rfl rfl)
theorem dX0_frequent_4 : decode cX0_frequent 4 = .ok (.bipush 97, 2) := dk_16 97 (dk_at dksX0_frequent_0 4 rfl rfl)
theorem dX0_frequent_6 : decode cX0_frequent 6 = .ok (.istore_n 3, 1) := dk_62 (dk_at dksX0_frequent_0 6 rfl rfl)
theorem dX0_frequent_7 : decode cX0_frequent 7 = .ok (.iload_n 3, 1) := dk_29 (dk_at dksX0_frequent_0 7 rfl rfl)
theorem dX0_frequent_8 : decode cX0_frequent 8 = .ok (.bipush 122, 2) := dk_16 122 (dk_at dksX0_frequent_0 8 rfl rfl)
theorem dX0_frequent_10 : decode cX0_frequent 10 = .ok (.if_icmp .gt 91, 3) := dk_163 0 91 (dk_at dksX0_frequent_0 10 rfl rfl)
theorem dX0_frequent_13 : decode cX0_frequent 13 = .ok (.aload_n 0, 1) := dk_42 (dk_at dksX0_frequent_0 13 rfl rfl)
theorem dX0_frequent_14 : decode cX0_frequent 14 = .ok (.invokevirtual 295, 3) := dk_182 1 39 (dk_at dksX0_frequent_0 14 rfl rfl)
theorem dX0_frequent_17 : decode cX0_frequent 17 = .ok (.ifCond .eq 84, 3) := dk_153 0 84 (dk_at dksX0_frequent_0 17 rfl rfl)
theorem dX0_frequent_20 : decode cX0_frequent 20 = .ok (.iconst 0, 1) := dk_3 (dk_at dksX0_frequent_0 20 rfl rfl)
theorem dX0_frequent_21 : decode cX0_frequent 21 = .ok (.istore 4, 2) := dk_54 4 (dk_at dksX0_frequent_0 21 rfl rfl)
theorem dX0_frequent_23 : decode cX0_frequent 23 = .ok (.iconst 0, 1) := dk_3 (dk_at dksX0_frequent_0 23 rfl rfl)
theorem dX0_frequent_24 : decode cX0_frequent 24 = .ok (.istore 5, 2) := dk_54 5 (dk_at dksX0_frequent_1 0 rfl rfl)
theorem dX0_frequent_26 : decode cX0_frequent 26 = .ok (.iload 5, 2) := dk_21 5 (dk_at dksX0_frequent_1 2 rfl rfl)
theorem dX0_frequent_28 : decode cX0_frequent 28 = .ok (.aload_n 0, 1) := dk_42 (dk_at dksX0_frequent_1 4 rfl rfl)
theorem dX0_frequent_29 : decode cX0_frequent 29 = .ok (.getfield 62, 3) := dk_180 0 62 (dk_at dksX0_frequent_1 5 rfl rfl)
theorem dX0_frequent_32 : decode cX0_frequent 32 = .ok (.getfield 233, 3) := dk_180 0 233 (dk_at dksX0_frequent_1 8 rfl rfl)
theorem dX0_frequent_35 : decode cX0_frequent 35 = .ok (.getfield 299, 3) := dk_180 1 43 (dk_at dksX0_frequent_1 11 rfl rfl)
theorem dX0_frequent_38 : decode cX0_frequent 38 = .ok (.arraylength, 1) := dk_190 (dk_at dksX0_frequent_1 14 rfl rfl)
theorem dX0_frequent_39 : decode cX0_frequent 39 = .ok (.if_icmp .ge 39, 3) := dk_162 0 39 (dk_at dksX0_frequent_1 15 rfl rfl)
theorem dX0_frequent_42 : decode cX0_frequent 42 = .ok (.iload 4, 2) := dk_21 4 (dk_at dksX0_frequent_1 18 rfl rfl)
theorem dX0_frequent_44 : decode cX0_frequent 44 = .ok (.aload_n 0, 1) := dk_42 (dk_at dksX0_frequent_1 20 rfl rfl)
theorem dX0_frequent_45 : decode cX0_frequent 45 = .ok (.getfield 62, 3) := dk_180 0 62 (dk_at dksX0_frequent_1 21 rfl rfl)
theorem dX0_frequent_48 : decode cX0_frequent 48 = .ok (.getfield 233, 3) := dk_180 0 233 (dk_at dksX0_frequent_2 0 rfl rfl)
theorem dX0_frequent_51 : decode cX0_frequent 51 = .ok (.getfield 299, 3) := dk_180 1 43 (dk_at dksX0_frequent_2 3 rfl rfl)
theorem dX0_frequent_54 : decode cX0_frequent 54 = .ok (.iload 5, 2) := dk_21 5 (dk_at dksX0_frequent_2 6 rfl rfl)
theorem dX0_frequent_56 : decode cX0_frequent 56 = .ok (.baload, 1) := dk_51 (dk_at dksX0_frequent_2 8 rfl rfl)
theorem dX0_frequent_57 : decode cX0_frequent 57 = .ok (.invokestatic 385, 3) := dk_184 1 129 (dk_at dksX0_frequent_2 9 rfl rfl)
theorem dX0_frequent_60 : decode cX0_frequent 60 = .ok (.iload_n 3, 1) := dk_29 (dk_at dksX0_frequent_2 12 rfl rfl)
theorem dX0_frequent_61 : decode cX0_frequent 61 = .ok (.if_icmp .ne 7, 3) := dk_160 0 7 (dk_at dksX0_frequent_2 13 rfl rfl)
theorem dX0_frequent_64 : decode cX0_frequent 64 = .ok (.iconst 1, 1) := dk_4 (dk_at dksX0_frequent_2 16 rfl rfl)
theorem dX0_frequent_65 : decode cX0_frequent 65 = .ok (.goto 4, 3) := dk_167 0 4 (dk_at dksX0_frequent_2 17 rfl rfl)
theorem dX0_frequent_68 : decode cX0_frequent 68 = .ok (.iconst 0, 1) := dk_3 (dk_at dksX0_frequent_2 20 rfl rfl)
theorem dX0_frequent_69 : decode cX0_frequent 69 = .ok (.iadd, 1) := dk_96 (dk_at dksX0_frequent_2 21 rfl rfl)
theorem dX0_frequent_70 : decode cX0_frequent 70 = .ok (.istore 4, 2) := dk_54 4 (dk_at dksX0_frequent_2 22 rfl rfl)
theorem dX0_frequent_72 : decode cX0_frequent 72 = .ok (.iinc 5 1, 3) := dk_132 5 1 (dk_at dksX0_frequent_3 0 rfl rfl)
theorem dX0_frequent_75 : decode cX0_frequent 75 = .ok (.goto (-49), 3) := dk_167 255 207 (dk_at dksX0_frequent_3 3 rfl rfl)
theorem dX0_frequent_78 : decode cX0_frequent 78 = .ok (.iload 4, 2) := dk_21 4 (dk_at dksX0_frequent_3 6 rfl rfl)
theorem dX0_frequent_80 : decode cX0_frequent 80 = .ok (.iload_n 2, 1) := dk_28 (dk_at dksX0_frequent_3 8 rfl rfl)
theorem dX0_frequent_81 : decode cX0_frequent 81 = .ok (.if_icmp .gt 6, 3) := dk_163 0 6 (dk_at dksX0_frequent_3 9 rfl rfl)
theorem dX0_frequent_84 : decode cX0_frequent 84 = .ok (.goto 11, 3) := dk_167 0 11 (dk_at dksX0_frequent_3 12 rfl rfl)
theorem dX0_frequent_87 : decode cX0_frequent 87 = .ok (.iload 4, 2) := dk_21 4 (dk_at dksX0_frequent_3 15 rfl rfl)
theorem dX0_frequent_89 : decode cX0_frequent 89 = .ok (.istore_n 2, 1) := dk_61 (dk_at dksX0_frequent_3 17 rfl rfl)
theorem dX0_frequent_90 : decode cX0_frequent 90 = .ok (.iload_n 3, 1) := dk_29 (dk_at dksX0_frequent_3 18 rfl rfl)
theorem dX0_frequent_91 : decode cX0_frequent 91 = .ok (.bipush 96, 2) := dk_16 96 (dk_at dksX0_frequent_3 19 rfl rfl)
theorem dX0_frequent_93 : decode cX0_frequent 93 = .ok (.isub, 1) := dk_100 (dk_at dksX0_frequent_3 21 rfl rfl)
theorem dX0_frequent_94 : decode cX0_frequent 94 = .ok (.istore_n 1, 1) := dk_60 (dk_at dksX0_frequent_3 22 rfl rfl)
theorem dX0_frequent_95 : decode cX0_frequent 95 = .ok (.iinc 3 1, 3) := dk_132 3 1 (dk_at dksX0_frequent_4 0 rfl rfl)
theorem dX0_frequent_98 : decode cX0_frequent 98 = .ok (.goto (-91), 3) := dk_167 255 165 (dk_at dksX0_frequent_4 3 rfl rfl)
theorem dX0_frequent_101 : decode cX0_frequent 101 = .ok (.aload_n 0, 1) := dk_42 (dk_at dksX0_frequent_4 6 rfl rfl)
theorem dX0_frequent_102 : decode cX0_frequent 102 = .ok (.iload_n 1, 1) := dk_27 (dk_at dksX0_frequent_4 7 rfl rfl)
theorem dX0_frequent_103 : decode cX0_frequent 103 = .ok (.invokevirtual 262, 3) := dk_182 1 6 (dk_at dksX0_frequent_4 8 rfl rfl)
theorem dX0_frequent_106 : decode cX0_frequent 106 = .ok (.ireturn, 1) := dk_172 (dk_at dksX0_frequent_4 11 rfl rfl)
abbrev cX0_pieceOf : ByteArray := prog_1_method_72_code
def yX0_pieceOf : MethodName := ⟨RX0, "pieceOf", "(I)I"⟩
def dkwX0_pieceOf_3 : List UInt8 := [184, 0, 195, 153, 0, 5, 29, 61, 132, 3, 1, 167, 255, 180, 42, 28, 182, 1, 6, 172]
abbrev dktX0_pieceOf_3 : List UInt8 := dkwX0_pieceOf_3 ++ []
def dkwX0_pieceOf_2 : List UInt8 := [180, 0, 233, 180, 1, 62, 29, 46, 42, 180, 0, 62, 180, 0, 233, 180, 1, 107, 29, 46, 96, 4, 100, 133]
abbrev dktX0_pieceOf_2 : List UInt8 := dkwX0_pieceOf_2 ++ dktX0_pieceOf_3
def dkwX0_pieceOf_1 : List UInt8 := [162, 0, 60, 27, 133, 42, 180, 0, 62, 180, 0, 233, 180, 1, 62, 29, 46, 133, 42, 180, 0, 62]
abbrev dktX0_pieceOf_1 : List UInt8 := dkwX0_pieceOf_1 ++ dktX0_pieceOf_2
def dkwX0_pieceOf_0 : List UInt8 := [2, 61, 3, 62, 42, 182, 1, 39, 153, 0, 75, 29, 42, 180, 0, 62, 180, 0, 233, 180, 1, 62, 190]
abbrev dktX0_pieceOf_0 : List UInt8 := dkwX0_pieceOf_0 ++ dktX0_pieceOf_1
theorem dksX0_pieceOf_0 : cX0_pieceOf.data.toList.drop 0 = dktX0_pieceOf_0 := by decide +kernel
theorem dksX0_pieceOf_1 : cX0_pieceOf.data.toList.drop 23 = dktX0_pieceOf_1 := dk_seg dksX0_pieceOf_0 23 rfl rfl
theorem dksX0_pieceOf_2 : cX0_pieceOf.data.toList.drop 45 = dktX0_pieceOf_2 := dk_seg dksX0_pieceOf_1 22 rfl rfl
theorem dksX0_pieceOf_3 : cX0_pieceOf.data.toList.drop 69 = dktX0_pieceOf_3 := dk_seg dksX0_pieceOf_2 24 rfl rfl
theorem dX0_pieceOf_0 : decode cX0_pieceOf 0 = .ok (.iconst (-1), 1) := dk_2 (dk_at dksX0_pieceOf_0 0 rfl rfl)
theorem dX0_pieceOf_1 : decode cX0_pieceOf 1 = .ok (.istore_n 2, 1) := dk_61 (dk_at dksX0_pieceOf_0 1 rfl rfl)
theorem dX0_pieceOf_2 : decode cX0_pieceOf 2 = .ok (.iconst 0, 1) := dk_3 (dk_at dksX0_pieceOf_0 2 rfl rfl)
theorem dX0_pieceOf_3 : decode cX0_pieceOf 3 = .ok (.istore_n 3, 1) := dk_62 (dk_at dksX0_pieceOf_0 3 rfl rfl)
theorem dX0_pieceOf_4 : decode cX0_pieceOf 4 = .ok (.aload_n 0, 1) := dk_42 (dk_at dksX0_pieceOf_0 4 rfl rfl)
theorem dX0_pieceOf_5 : decode cX0_pieceOf 5 = .ok (.invokevirtual 295, 3) := dk_182 1 39 (dk_at dksX0_pieceOf_0 5 rfl rfl)
theorem dX0_pieceOf_8 : decode cX0_pieceOf 8 = .ok (.ifCond .eq 75, 3) := dk_153 0 75 (dk_at dksX0_pieceOf_0 8 rfl rfl)
theorem dX0_pieceOf_11 : decode cX0_pieceOf 11 = .ok (.iload_n 3, 1) := dk_29 (dk_at dksX0_pieceOf_0 11 rfl rfl)
theorem dX0_pieceOf_12 : decode cX0_pieceOf 12 = .ok (.aload_n 0, 1) := dk_42 (dk_at dksX0_pieceOf_0 12 rfl rfl)
theorem dX0_pieceOf_13 : decode cX0_pieceOf 13 = .ok (.getfield 62, 3) := dk_180 0 62 (dk_at dksX0_pieceOf_0 13 rfl rfl)
theorem dX0_pieceOf_16 : decode cX0_pieceOf 16 = .ok (.getfield 233, 3) := dk_180 0 233 (dk_at dksX0_pieceOf_0 16 rfl rfl)
theorem dX0_pieceOf_19 : decode cX0_pieceOf 19 = .ok (.getfield 318, 3) := dk_180 1 62 (dk_at dksX0_pieceOf_0 19 rfl rfl)
theorem dX0_pieceOf_22 : decode cX0_pieceOf 22 = .ok (.arraylength, 1) := dk_190 (dk_at dksX0_pieceOf_0 22 rfl rfl)
theorem dX0_pieceOf_23 : decode cX0_pieceOf 23 = .ok (.if_icmp .ge 60, 3) := dk_162 0 60 (dk_at dksX0_pieceOf_1 0 rfl rfl)
theorem dX0_pieceOf_26 : decode cX0_pieceOf 26 = .ok (.iload_n 1, 1) := dk_27 (dk_at dksX0_pieceOf_1 3 rfl rfl)
theorem dX0_pieceOf_27 : decode cX0_pieceOf 27 = .ok (.i2l, 1) := dk_133 (dk_at dksX0_pieceOf_1 4 rfl rfl)
theorem dX0_pieceOf_28 : decode cX0_pieceOf 28 = .ok (.aload_n 0, 1) := dk_42 (dk_at dksX0_pieceOf_1 5 rfl rfl)
theorem dX0_pieceOf_29 : decode cX0_pieceOf 29 = .ok (.getfield 62, 3) := dk_180 0 62 (dk_at dksX0_pieceOf_1 6 rfl rfl)
theorem dX0_pieceOf_32 : decode cX0_pieceOf 32 = .ok (.getfield 233, 3) := dk_180 0 233 (dk_at dksX0_pieceOf_1 9 rfl rfl)
theorem dX0_pieceOf_35 : decode cX0_pieceOf 35 = .ok (.getfield 318, 3) := dk_180 1 62 (dk_at dksX0_pieceOf_1 12 rfl rfl)
theorem dX0_pieceOf_38 : decode cX0_pieceOf 38 = .ok (.iload_n 3, 1) := dk_29 (dk_at dksX0_pieceOf_1 15 rfl rfl)
theorem dX0_pieceOf_39 : decode cX0_pieceOf 39 = .ok (.iaload, 1) := dk_46 (dk_at dksX0_pieceOf_1 16 rfl rfl)
theorem dX0_pieceOf_40 : decode cX0_pieceOf 40 = .ok (.i2l, 1) := dk_133 (dk_at dksX0_pieceOf_1 17 rfl rfl)
theorem dX0_pieceOf_41 : decode cX0_pieceOf 41 = .ok (.aload_n 0, 1) := dk_42 (dk_at dksX0_pieceOf_1 18 rfl rfl)
theorem dX0_pieceOf_42 : decode cX0_pieceOf 42 = .ok (.getfield 62, 3) := dk_180 0 62 (dk_at dksX0_pieceOf_1 19 rfl rfl)
theorem dX0_pieceOf_45 : decode cX0_pieceOf 45 = .ok (.getfield 233, 3) := dk_180 0 233 (dk_at dksX0_pieceOf_2 0 rfl rfl)
theorem dX0_pieceOf_48 : decode cX0_pieceOf 48 = .ok (.getfield 318, 3) := dk_180 1 62 (dk_at dksX0_pieceOf_2 3 rfl rfl)
theorem dX0_pieceOf_51 : decode cX0_pieceOf 51 = .ok (.iload_n 3, 1) := dk_29 (dk_at dksX0_pieceOf_2 6 rfl rfl)
theorem dX0_pieceOf_52 : decode cX0_pieceOf 52 = .ok (.iaload, 1) := dk_46 (dk_at dksX0_pieceOf_2 7 rfl rfl)
theorem dX0_pieceOf_53 : decode cX0_pieceOf 53 = .ok (.aload_n 0, 1) := dk_42 (dk_at dksX0_pieceOf_2 8 rfl rfl)
theorem dX0_pieceOf_54 : decode cX0_pieceOf 54 = .ok (.getfield 62, 3) := dk_180 0 62 (dk_at dksX0_pieceOf_2 9 rfl rfl)
theorem dX0_pieceOf_57 : decode cX0_pieceOf 57 = .ok (.getfield 233, 3) := dk_180 0 233 (dk_at dksX0_pieceOf_2 12 rfl rfl)
theorem dX0_pieceOf_60 : decode cX0_pieceOf 60 = .ok (.getfield 363, 3) := dk_180 1 107 (dk_at dksX0_pieceOf_2 15 rfl rfl)
theorem dX0_pieceOf_63 : decode cX0_pieceOf 63 = .ok (.iload_n 3, 1) := dk_29 (dk_at dksX0_pieceOf_2 18 rfl rfl)
theorem dX0_pieceOf_64 : decode cX0_pieceOf 64 = .ok (.iaload, 1) := dk_46 (dk_at dksX0_pieceOf_2 19 rfl rfl)
theorem dX0_pieceOf_65 : decode cX0_pieceOf 65 = .ok (.iadd, 1) := dk_96 (dk_at dksX0_pieceOf_2 20 rfl rfl)
theorem dX0_pieceOf_66 : decode cX0_pieceOf 66 = .ok (.iconst 1, 1) := dk_4 (dk_at dksX0_pieceOf_2 21 rfl rfl)
theorem dX0_pieceOf_67 : decode cX0_pieceOf 67 = .ok (.isub, 1) := dk_100 (dk_at dksX0_pieceOf_2 22 rfl rfl)
theorem dX0_pieceOf_68 : decode cX0_pieceOf 68 = .ok (.i2l, 1) := dk_133 (dk_at dksX0_pieceOf_2 23 rfl rfl)
theorem dX0_pieceOf_69 : decode cX0_pieceOf 69 = .ok (.invokestatic 195, 3) := dk_184 0 195 (dk_at dksX0_pieceOf_3 0 rfl rfl)
theorem dX0_pieceOf_72 : decode cX0_pieceOf 72 = .ok (.ifCond .eq 5, 3) := dk_153 0 5 (dk_at dksX0_pieceOf_3 3 rfl rfl)
theorem dX0_pieceOf_75 : decode cX0_pieceOf 75 = .ok (.iload_n 3, 1) := dk_29 (dk_at dksX0_pieceOf_3 6 rfl rfl)
theorem dX0_pieceOf_76 : decode cX0_pieceOf 76 = .ok (.istore_n 2, 1) := dk_61 (dk_at dksX0_pieceOf_3 7 rfl rfl)
theorem dX0_pieceOf_77 : decode cX0_pieceOf 77 = .ok (.iinc 3 1, 3) := dk_132 3 1 (dk_at dksX0_pieceOf_3 8 rfl rfl)
theorem dX0_pieceOf_80 : decode cX0_pieceOf 80 = .ok (.goto (-76), 3) := dk_167 255 180 (dk_at dksX0_pieceOf_3 11 rfl rfl)
theorem dX0_pieceOf_83 : decode cX0_pieceOf 83 = .ok (.aload_n 0, 1) := dk_42 (dk_at dksX0_pieceOf_3 14 rfl rfl)
theorem dX0_pieceOf_84 : decode cX0_pieceOf 84 = .ok (.iload_n 2, 1) := dk_28 (dk_at dksX0_pieceOf_3 15 rfl rfl)
theorem dX0_pieceOf_85 : decode cX0_pieceOf 85 = .ok (.invokevirtual 262, 3) := dk_182 1 6 (dk_at dksX0_pieceOf_3 16 rfl rfl)
theorem dX0_pieceOf_88 : decode cX0_pieceOf 88 = .ok (.ireturn, 1) := dk_172 (dk_at dksX0_pieceOf_3 19 rfl rfl)
abbrev cX0_signs : ByteArray := prog_1_method_73_code
def yX0_signs : MethodName := ⟨RX0, "signs", "(I)I"⟩
def dkwX0_signs_5 : List UInt8 := [29, 172]
abbrev dktX0_signs_5 : List UInt8 := dkwX0_signs_5 ++ []
def dkwX0_signs_4 : List UInt8 := [21, 4, 4, 100, 51, 184, 1, 132, 154, 0, 7, 4, 167, 0, 4, 3, 96, 62, 132, 4, 1, 167, 255, 189]
abbrev dktX0_signs_4 : List UInt8 := dkwX0_signs_4 ++ dktX0_signs_5
def dkwX0_signs_3 : List UInt8 := [167, 0, 39, 3, 167, 0, 35, 44, 21, 4, 51, 184, 1, 132, 153, 0, 24, 21, 4, 153, 0, 15, 44]
abbrev dktX0_signs_3 : List UInt8 := dkwX0_signs_3 ++ dktX0_signs_4
def dkwX0_signs_2 : List UInt8 := [21, 4, 44, 190, 162, 0, 66, 29, 27, 154, 0, 21, 44, 21, 4, 51, 184, 0, 15, 153, 0, 7, 4]
abbrev dktX0_signs_2 : List UInt8 := dkwX0_signs_2 ++ dktX0_signs_3
def dkwX0_signs_1 : List UInt8 := [180, 0, 114, 158, 0, 5, 2, 172, 42, 180, 0, 62, 180, 0, 233, 180, 1, 43, 77, 3, 62, 3, 54, 4]
abbrev dktX0_signs_1 : List UInt8 := dkwX0_signs_1 ++ dktX0_signs_2
def dkwX0_signs_0 : List UInt8 := [42, 27, 133, 9, 10, 184, 0, 195, 154, 0, 7, 4, 167, 0, 7, 42, 182, 1, 48, 181, 0, 114, 42]
abbrev dktX0_signs_0 : List UInt8 := dkwX0_signs_0 ++ dktX0_signs_1
theorem dksX0_signs_0 : cX0_signs.data.toList.drop 0 = dktX0_signs_0 := by decide +kernel
theorem dksX0_signs_1 : cX0_signs.data.toList.drop 23 = dktX0_signs_1 := dk_seg dksX0_signs_0 23 rfl rfl
theorem dksX0_signs_2 : cX0_signs.data.toList.drop 47 = dktX0_signs_2 := dk_seg dksX0_signs_1 24 rfl rfl
theorem dksX0_signs_3 : cX0_signs.data.toList.drop 70 = dktX0_signs_3 := dk_seg dksX0_signs_2 23 rfl rfl
theorem dksX0_signs_4 : cX0_signs.data.toList.drop 93 = dktX0_signs_4 := dk_seg dksX0_signs_3 23 rfl rfl
theorem dksX0_signs_5 : cX0_signs.data.toList.drop 117 = dktX0_signs_5 := dk_seg dksX0_signs_4 24 rfl rfl
theorem dX0_signs_0 : decode cX0_signs 0 = .ok (.aload_n 0, 1) := dk_42 (dk_at dksX0_signs_0 0 rfl rfl)
theorem dX0_signs_1 : decode cX0_signs 1 = .ok (.iload_n 1, 1) := dk_27 (dk_at dksX0_signs_0 1 rfl rfl)
theorem dX0_signs_2 : decode cX0_signs 2 = .ok (.i2l, 1) := dk_133 (dk_at dksX0_signs_0 2 rfl rfl)
theorem dX0_signs_3 : decode cX0_signs 3 = .ok (.lconst 0, 1) := dk_9 (dk_at dksX0_signs_0 3 rfl rfl)
theorem dX0_signs_4 : decode cX0_signs 4 = .ok (.lconst 1, 1) := dk_10 (dk_at dksX0_signs_0 4 rfl rfl)
theorem dX0_signs_5 : decode cX0_signs 5 = .ok (.invokestatic 195, 3) := dk_184 0 195 (dk_at dksX0_signs_0 5 rfl rfl)
theorem dX0_signs_8 : decode cX0_signs 8 = .ok (.ifCond .ne 7, 3) := dk_154 0 7 (dk_at dksX0_signs_0 8 rfl rfl)
theorem dX0_signs_11 : decode cX0_signs 11 = .ok (.iconst 1, 1) := dk_4 (dk_at dksX0_signs_0 11 rfl rfl)
theorem dX0_signs_12 : decode cX0_signs 12 = .ok (.goto 7, 3) := dk_167 0 7 (dk_at dksX0_signs_0 12 rfl rfl)
theorem dX0_signs_15 : decode cX0_signs 15 = .ok (.aload_n 0, 1) := dk_42 (dk_at dksX0_signs_0 15 rfl rfl)
theorem dX0_signs_16 : decode cX0_signs 16 = .ok (.invokevirtual 304, 3) := dk_182 1 48 (dk_at dksX0_signs_0 16 rfl rfl)
theorem dX0_signs_19 : decode cX0_signs 19 = .ok (.putfield 114, 3) := dk_181 0 114 (dk_at dksX0_signs_0 19 rfl rfl)
theorem dX0_signs_22 : decode cX0_signs 22 = .ok (.aload_n 0, 1) := dk_42 (dk_at dksX0_signs_0 22 rfl rfl)
theorem dX0_signs_23 : decode cX0_signs 23 = .ok (.getfield 114, 3) := dk_180 0 114 (dk_at dksX0_signs_1 0 rfl rfl)
theorem dX0_signs_26 : decode cX0_signs 26 = .ok (.ifCond .le 5, 3) := dk_158 0 5 (dk_at dksX0_signs_1 3 rfl rfl)
theorem dX0_signs_29 : decode cX0_signs 29 = .ok (.iconst (-1), 1) := dk_2 (dk_at dksX0_signs_1 6 rfl rfl)
theorem dX0_signs_30 : decode cX0_signs 30 = .ok (.ireturn, 1) := dk_172 (dk_at dksX0_signs_1 7 rfl rfl)
theorem dX0_signs_31 : decode cX0_signs 31 = .ok (.aload_n 0, 1) := dk_42 (dk_at dksX0_signs_1 8 rfl rfl)
theorem dX0_signs_32 : decode cX0_signs 32 = .ok (.getfield 62, 3) := dk_180 0 62 (dk_at dksX0_signs_1 9 rfl rfl)
theorem dX0_signs_35 : decode cX0_signs 35 = .ok (.getfield 233, 3) := dk_180 0 233 (dk_at dksX0_signs_1 12 rfl rfl)
theorem dX0_signs_38 : decode cX0_signs 38 = .ok (.getfield 299, 3) := dk_180 1 43 (dk_at dksX0_signs_1 15 rfl rfl)
theorem dX0_signs_41 : decode cX0_signs 41 = .ok (.astore_n 2, 1) := dk_77 (dk_at dksX0_signs_1 18 rfl rfl)
theorem dX0_signs_42 : decode cX0_signs 42 = .ok (.iconst 0, 1) := dk_3 (dk_at dksX0_signs_1 19 rfl rfl)
theorem dX0_signs_43 : decode cX0_signs 43 = .ok (.istore_n 3, 1) := dk_62 (dk_at dksX0_signs_1 20 rfl rfl)
theorem dX0_signs_44 : decode cX0_signs 44 = .ok (.iconst 0, 1) := dk_3 (dk_at dksX0_signs_1 21 rfl rfl)
theorem dX0_signs_45 : decode cX0_signs 45 = .ok (.istore 4, 2) := dk_54 4 (dk_at dksX0_signs_1 22 rfl rfl)
theorem dX0_signs_47 : decode cX0_signs 47 = .ok (.iload 4, 2) := dk_21 4 (dk_at dksX0_signs_2 0 rfl rfl)
theorem dX0_signs_49 : decode cX0_signs 49 = .ok (.aload_n 2, 1) := dk_44 (dk_at dksX0_signs_2 2 rfl rfl)
theorem dX0_signs_50 : decode cX0_signs 50 = .ok (.arraylength, 1) := dk_190 (dk_at dksX0_signs_2 3 rfl rfl)
theorem dX0_signs_51 : decode cX0_signs 51 = .ok (.if_icmp .ge 66, 3) := dk_162 0 66 (dk_at dksX0_signs_2 4 rfl rfl)
theorem dX0_signs_54 : decode cX0_signs 54 = .ok (.iload_n 3, 1) := dk_29 (dk_at dksX0_signs_2 7 rfl rfl)
theorem dX0_signs_55 : decode cX0_signs 55 = .ok (.iload_n 1, 1) := dk_27 (dk_at dksX0_signs_2 8 rfl rfl)
theorem dX0_signs_56 : decode cX0_signs 56 = .ok (.ifCond .ne 21, 3) := dk_154 0 21 (dk_at dksX0_signs_2 9 rfl rfl)
theorem dX0_signs_59 : decode cX0_signs 59 = .ok (.aload_n 2, 1) := dk_44 (dk_at dksX0_signs_2 12 rfl rfl)
theorem dX0_signs_60 : decode cX0_signs 60 = .ok (.iload 4, 2) := dk_21 4 (dk_at dksX0_signs_2 13 rfl rfl)
theorem dX0_signs_62 : decode cX0_signs 62 = .ok (.baload, 1) := dk_51 (dk_at dksX0_signs_2 15 rfl rfl)
theorem dX0_signs_63 : decode cX0_signs 63 = .ok (.invokestatic 15, 3) := dk_184 0 15 (dk_at dksX0_signs_2 16 rfl rfl)
theorem dX0_signs_66 : decode cX0_signs 66 = .ok (.ifCond .eq 7, 3) := dk_153 0 7 (dk_at dksX0_signs_2 19 rfl rfl)
theorem dX0_signs_69 : decode cX0_signs 69 = .ok (.iconst 1, 1) := dk_4 (dk_at dksX0_signs_2 22 rfl rfl)
theorem dX0_signs_70 : decode cX0_signs 70 = .ok (.goto 39, 3) := dk_167 0 39 (dk_at dksX0_signs_3 0 rfl rfl)
theorem dX0_signs_73 : decode cX0_signs 73 = .ok (.iconst 0, 1) := dk_3 (dk_at dksX0_signs_3 3 rfl rfl)
theorem dX0_signs_74 : decode cX0_signs 74 = .ok (.goto 35, 3) := dk_167 0 35 (dk_at dksX0_signs_3 4 rfl rfl)
theorem dX0_signs_77 : decode cX0_signs 77 = .ok (.aload_n 2, 1) := dk_44 (dk_at dksX0_signs_3 7 rfl rfl)
theorem dX0_signs_78 : decode cX0_signs 78 = .ok (.iload 4, 2) := dk_21 4 (dk_at dksX0_signs_3 8 rfl rfl)
theorem dX0_signs_80 : decode cX0_signs 80 = .ok (.baload, 1) := dk_51 (dk_at dksX0_signs_3 10 rfl rfl)
theorem dX0_signs_81 : decode cX0_signs 81 = .ok (.invokestatic 388, 3) := dk_184 1 132 (dk_at dksX0_signs_3 11 rfl rfl)
theorem dX0_signs_84 : decode cX0_signs 84 = .ok (.ifCond .eq 24, 3) := dk_153 0 24 (dk_at dksX0_signs_3 14 rfl rfl)
theorem dX0_signs_87 : decode cX0_signs 87 = .ok (.iload 4, 2) := dk_21 4 (dk_at dksX0_signs_3 17 rfl rfl)
theorem dX0_signs_89 : decode cX0_signs 89 = .ok (.ifCond .eq 15, 3) := dk_153 0 15 (dk_at dksX0_signs_3 19 rfl rfl)
theorem dX0_signs_92 : decode cX0_signs 92 = .ok (.aload_n 2, 1) := dk_44 (dk_at dksX0_signs_3 22 rfl rfl)
theorem dX0_signs_93 : decode cX0_signs 93 = .ok (.iload 4, 2) := dk_21 4 (dk_at dksX0_signs_4 0 rfl rfl)
theorem dX0_signs_95 : decode cX0_signs 95 = .ok (.iconst 1, 1) := dk_4 (dk_at dksX0_signs_4 2 rfl rfl)
theorem dX0_signs_96 : decode cX0_signs 96 = .ok (.isub, 1) := dk_100 (dk_at dksX0_signs_4 3 rfl rfl)
theorem dX0_signs_97 : decode cX0_signs 97 = .ok (.baload, 1) := dk_51 (dk_at dksX0_signs_4 4 rfl rfl)
theorem dX0_signs_98 : decode cX0_signs 98 = .ok (.invokestatic 388, 3) := dk_184 1 132 (dk_at dksX0_signs_4 5 rfl rfl)
theorem dX0_signs_101 : decode cX0_signs 101 = .ok (.ifCond .ne 7, 3) := dk_154 0 7 (dk_at dksX0_signs_4 8 rfl rfl)
theorem dX0_signs_104 : decode cX0_signs 104 = .ok (.iconst 1, 1) := dk_4 (dk_at dksX0_signs_4 11 rfl rfl)
theorem dX0_signs_105 : decode cX0_signs 105 = .ok (.goto 4, 3) := dk_167 0 4 (dk_at dksX0_signs_4 12 rfl rfl)
theorem dX0_signs_108 : decode cX0_signs 108 = .ok (.iconst 0, 1) := dk_3 (dk_at dksX0_signs_4 15 rfl rfl)
theorem dX0_signs_109 : decode cX0_signs 109 = .ok (.iadd, 1) := dk_96 (dk_at dksX0_signs_4 16 rfl rfl)
theorem dX0_signs_110 : decode cX0_signs 110 = .ok (.istore_n 3, 1) := dk_62 (dk_at dksX0_signs_4 17 rfl rfl)
theorem dX0_signs_111 : decode cX0_signs 111 = .ok (.iinc 4 1, 3) := dk_132 4 1 (dk_at dksX0_signs_4 18 rfl rfl)
theorem dX0_signs_114 : decode cX0_signs 114 = .ok (.goto (-67), 3) := dk_167 255 189 (dk_at dksX0_signs_4 21 rfl rfl)
theorem dX0_signs_117 : decode cX0_signs 117 = .ok (.iload_n 3, 1) := dk_29 (dk_at dksX0_signs_5 0 rfl rfl)
theorem dX0_signs_118 : decode cX0_signs 118 = .ok (.ireturn, 1) := dk_172 (dk_at dksX0_signs_5 1 rfl rfl)
abbrev cX0_covers : ByteArray := prog_1_method_74_code
def yX0_covers : MethodName := ⟨RX0, "covers", "(I)I"⟩
def dkwX0_covers_3 : List UInt8 := [180, 0, 62, 180, 0, 199, 181, 1, 97, 42, 182, 0, 241, 27, 182, 1, 135, 172]
abbrev dktX0_covers_3 : List UInt8 := dkwX0_covers_3 ++ []
def dkwX0_covers_2 : List UInt8 := [182, 0, 241, 42, 180, 0, 62, 180, 0, 233, 180, 1, 43, 190, 181, 1, 96, 42, 182, 0, 241, 42]
abbrev dktX0_covers_2 : List UInt8 := dkwX0_covers_2 ++ dktX0_covers_3
def dkwX0_covers_1 : List UInt8 := [158, 0, 5, 2, 172, 42, 182, 0, 241, 42, 180, 0, 62, 180, 0, 233, 180, 1, 43, 181, 1, 95, 42]
abbrev dktX0_covers_1 : List UInt8 := dkwX0_covers_1 ++ dktX0_covers_2
def dkwX0_covers_0 : List UInt8 := [42, 42, 27, 182, 1, 21, 154, 0, 7, 4, 167, 0, 7, 42, 182, 1, 48, 181, 0, 114, 42, 180, 0, 114]
abbrev dktX0_covers_0 : List UInt8 := dkwX0_covers_0 ++ dktX0_covers_1
theorem dksX0_covers_0 : cX0_covers.data.toList.drop 0 = dktX0_covers_0 := by decide +kernel
theorem dksX0_covers_1 : cX0_covers.data.toList.drop 24 = dktX0_covers_1 := dk_seg dksX0_covers_0 24 rfl rfl
theorem dksX0_covers_2 : cX0_covers.data.toList.drop 47 = dktX0_covers_2 := dk_seg dksX0_covers_1 23 rfl rfl
theorem dksX0_covers_3 : cX0_covers.data.toList.drop 69 = dktX0_covers_3 := dk_seg dksX0_covers_2 22 rfl rfl
theorem dX0_covers_0 : decode cX0_covers 0 = .ok (.aload_n 0, 1) := dk_42 (dk_at dksX0_covers_0 0 rfl rfl)
theorem dX0_covers_1 : decode cX0_covers 1 = .ok (.aload_n 0, 1) := dk_42 (dk_at dksX0_covers_0 1 rfl rfl)
theorem dX0_covers_2 : decode cX0_covers 2 = .ok (.iload_n 1, 1) := dk_27 (dk_at dksX0_covers_0 2 rfl rfl)
theorem dX0_covers_3 : decode cX0_covers 3 = .ok (.invokevirtual 277, 3) := dk_182 1 21 (dk_at dksX0_covers_0 3 rfl rfl)
theorem dX0_covers_6 : decode cX0_covers 6 = .ok (.ifCond .ne 7, 3) := dk_154 0 7 (dk_at dksX0_covers_0 6 rfl rfl)
theorem dX0_covers_9 : decode cX0_covers 9 = .ok (.iconst 1, 1) := dk_4 (dk_at dksX0_covers_0 9 rfl rfl)
theorem dX0_covers_10 : decode cX0_covers 10 = .ok (.goto 7, 3) := dk_167 0 7 (dk_at dksX0_covers_0 10 rfl rfl)
theorem dX0_covers_13 : decode cX0_covers 13 = .ok (.aload_n 0, 1) := dk_42 (dk_at dksX0_covers_0 13 rfl rfl)
theorem dX0_covers_14 : decode cX0_covers 14 = .ok (.invokevirtual 304, 3) := dk_182 1 48 (dk_at dksX0_covers_0 14 rfl rfl)
theorem dX0_covers_17 : decode cX0_covers 17 = .ok (.putfield 114, 3) := dk_181 0 114 (dk_at dksX0_covers_0 17 rfl rfl)
theorem dX0_covers_20 : decode cX0_covers 20 = .ok (.aload_n 0, 1) := dk_42 (dk_at dksX0_covers_0 20 rfl rfl)
theorem dX0_covers_21 : decode cX0_covers 21 = .ok (.getfield 114, 3) := dk_180 0 114 (dk_at dksX0_covers_0 21 rfl rfl)
theorem dX0_covers_24 : decode cX0_covers 24 = .ok (.ifCond .le 5, 3) := dk_158 0 5 (dk_at dksX0_covers_1 0 rfl rfl)
theorem dX0_covers_27 : decode cX0_covers 27 = .ok (.iconst (-1), 1) := dk_2 (dk_at dksX0_covers_1 3 rfl rfl)
theorem dX0_covers_28 : decode cX0_covers 28 = .ok (.ireturn, 1) := dk_172 (dk_at dksX0_covers_1 4 rfl rfl)
theorem dX0_covers_29 : decode cX0_covers 29 = .ok (.aload_n 0, 1) := dk_42 (dk_at dksX0_covers_1 5 rfl rfl)
theorem dX0_covers_30 : decode cX0_covers 30 = .ok (.invokevirtual 241, 3) := dk_182 0 241 (dk_at dksX0_covers_1 6 rfl rfl)
theorem dX0_covers_33 : decode cX0_covers 33 = .ok (.aload_n 0, 1) := dk_42 (dk_at dksX0_covers_1 9 rfl rfl)
theorem dX0_covers_34 : decode cX0_covers 34 = .ok (.getfield 62, 3) := dk_180 0 62 (dk_at dksX0_covers_1 10 rfl rfl)
theorem dX0_covers_37 : decode cX0_covers 37 = .ok (.getfield 233, 3) := dk_180 0 233 (dk_at dksX0_covers_1 13 rfl rfl)
theorem dX0_covers_40 : decode cX0_covers 40 = .ok (.getfield 299, 3) := dk_180 1 43 (dk_at dksX0_covers_1 16 rfl rfl)
theorem dX0_covers_43 : decode cX0_covers 43 = .ok (.putfield 351, 3) := dk_181 1 95 (dk_at dksX0_covers_1 19 rfl rfl)
theorem dX0_covers_46 : decode cX0_covers 46 = .ok (.aload_n 0, 1) := dk_42 (dk_at dksX0_covers_1 22 rfl rfl)
theorem dX0_covers_47 : decode cX0_covers 47 = .ok (.invokevirtual 241, 3) := dk_182 0 241 (dk_at dksX0_covers_2 0 rfl rfl)
theorem dX0_covers_50 : decode cX0_covers 50 = .ok (.aload_n 0, 1) := dk_42 (dk_at dksX0_covers_2 3 rfl rfl)
theorem dX0_covers_51 : decode cX0_covers 51 = .ok (.getfield 62, 3) := dk_180 0 62 (dk_at dksX0_covers_2 4 rfl rfl)
theorem dX0_covers_54 : decode cX0_covers 54 = .ok (.getfield 233, 3) := dk_180 0 233 (dk_at dksX0_covers_2 7 rfl rfl)
theorem dX0_covers_57 : decode cX0_covers 57 = .ok (.getfield 299, 3) := dk_180 1 43 (dk_at dksX0_covers_2 10 rfl rfl)
theorem dX0_covers_60 : decode cX0_covers 60 = .ok (.arraylength, 1) := dk_190 (dk_at dksX0_covers_2 13 rfl rfl)
theorem dX0_covers_61 : decode cX0_covers 61 = .ok (.putfield 352, 3) := dk_181 1 96 (dk_at dksX0_covers_2 14 rfl rfl)
theorem dX0_covers_64 : decode cX0_covers 64 = .ok (.aload_n 0, 1) := dk_42 (dk_at dksX0_covers_2 17 rfl rfl)
theorem dX0_covers_65 : decode cX0_covers 65 = .ok (.invokevirtual 241, 3) := dk_182 0 241 (dk_at dksX0_covers_2 18 rfl rfl)
theorem dX0_covers_68 : decode cX0_covers 68 = .ok (.aload_n 0, 1) := dk_42 (dk_at dksX0_covers_2 21 rfl rfl)
theorem dX0_covers_69 : decode cX0_covers 69 = .ok (.getfield 62, 3) := dk_180 0 62 (dk_at dksX0_covers_3 0 rfl rfl)
theorem dX0_covers_72 : decode cX0_covers 72 = .ok (.getfield 199, 3) := dk_180 0 199 (dk_at dksX0_covers_3 3 rfl rfl)
theorem dX0_covers_75 : decode cX0_covers 75 = .ok (.putfield 353, 3) := dk_181 1 97 (dk_at dksX0_covers_3 6 rfl rfl)
theorem dX0_covers_78 : decode cX0_covers 78 = .ok (.aload_n 0, 1) := dk_42 (dk_at dksX0_covers_3 9 rfl rfl)
theorem dX0_covers_79 : decode cX0_covers 79 = .ok (.invokevirtual 241, 3) := dk_182 0 241 (dk_at dksX0_covers_3 10 rfl rfl)
theorem dX0_covers_82 : decode cX0_covers 82 = .ok (.iload_n 1, 1) := dk_27 (dk_at dksX0_covers_3 13 rfl rfl)
theorem dX0_covers_83 : decode cX0_covers 83 = .ok (.invokevirtual 391, 3) := dk_182 1 135 (dk_at dksX0_covers_3 14 rfl rfl)
theorem dX0_covers_86 : decode cX0_covers 86 = .ok (.ireturn, 1) := dk_172 (dk_at dksX0_covers_3 17 rfl rfl)
abbrev cX0_often : ByteArray := prog_1_method_76_code
def yX0_often : MethodName := ⟨RX0, "often", "(I)I"⟩
def dkwX0_often_1 : List UInt8 := [42, 180, 0, 114, 158, 0, 7, 2, 167, 0, 8, 42, 27, 182, 1, 140, 172]
abbrev dktX0_often_1 : List UInt8 := dkwX0_often_1 ++ []
def dkwX0_often_0 : List UInt8 := [42, 27, 133, 9, 20, 1, 138, 184, 0, 195, 154, 0, 7, 4, 167, 0, 7, 42, 182, 1, 48, 181, 0, 114]
abbrev dktX0_often_0 : List UInt8 := dkwX0_often_0 ++ dktX0_often_1
theorem dksX0_often_0 : cX0_often.data.toList.drop 0 = dktX0_often_0 := by decide +kernel
theorem dksX0_often_1 : cX0_often.data.toList.drop 24 = dktX0_often_1 := dk_seg dksX0_often_0 24 rfl rfl
theorem dX0_often_0 : decode cX0_often 0 = .ok (.aload_n 0, 1) := dk_42 (dk_at dksX0_often_0 0 rfl rfl)
theorem dX0_often_1 : decode cX0_often 1 = .ok (.iload_n 1, 1) := dk_27 (dk_at dksX0_often_0 1 rfl rfl)
theorem dX0_often_2 : decode cX0_often 2 = .ok (.i2l, 1) := dk_133 (dk_at dksX0_often_0 2 rfl rfl)
theorem dX0_often_3 : decode cX0_often 3 = .ok (.lconst 0, 1) := dk_9 (dk_at dksX0_often_0 3 rfl rfl)
theorem dX0_often_4 : decode cX0_often 4 = .ok (.ldc2_w 394, 3) := dk_20 1 138 (dk_at dksX0_often_0 4 rfl rfl)
theorem dX0_often_7 : decode cX0_often 7 = .ok (.invokestatic 195, 3) := dk_184 0 195 (dk_at dksX0_often_0 7 rfl rfl)
theorem dX0_often_10 : decode cX0_often 10 = .ok (.ifCond .ne 7, 3) := dk_154 0 7 (dk_at dksX0_often_0 10 rfl rfl)
theorem dX0_often_13 : decode cX0_often 13 = .ok (.iconst 1, 1) := dk_4 (dk_at dksX0_often_0 13 rfl rfl)
theorem dX0_often_14 : decode cX0_often 14 = .ok (.goto 7, 3) := dk_167 0 7 (dk_at dksX0_often_0 14 rfl rfl)
theorem dX0_often_17 : decode cX0_often 17 = .ok (.aload_n 0, 1) := dk_42 (dk_at dksX0_often_0 17 rfl rfl)
theorem dX0_often_18 : decode cX0_often 18 = .ok (.invokevirtual 304, 3) := dk_182 1 48 (dk_at dksX0_often_0 18 rfl rfl)
theorem dX0_often_21 : decode cX0_often 21 = .ok (.putfield 114, 3) := dk_181 0 114 (dk_at dksX0_often_0 21 rfl rfl)
theorem dX0_often_24 : decode cX0_often 24 = .ok (.aload_n 0, 1) := dk_42 (dk_at dksX0_often_1 0 rfl rfl)
theorem dX0_often_25 : decode cX0_often 25 = .ok (.getfield 114, 3) := dk_180 0 114 (dk_at dksX0_often_1 1 rfl rfl)
theorem dX0_often_28 : decode cX0_often 28 = .ok (.ifCond .le 7, 3) := dk_158 0 7 (dk_at dksX0_often_1 4 rfl rfl)
theorem dX0_often_31 : decode cX0_often 31 = .ok (.iconst (-1), 1) := dk_2 (dk_at dksX0_often_1 7 rfl rfl)
theorem dX0_often_32 : decode cX0_often 32 = .ok (.goto 8, 3) := dk_167 0 8 (dk_at dksX0_often_1 8 rfl rfl)
theorem dX0_often_35 : decode cX0_often 35 = .ok (.aload_n 0, 1) := dk_42 (dk_at dksX0_often_1 11 rfl rfl)
theorem dX0_often_36 : decode cX0_often 36 = .ok (.iload_n 1, 1) := dk_27 (dk_at dksX0_often_1 12 rfl rfl)
theorem dX0_often_37 : decode cX0_often 37 = .ok (.invokevirtual 396, 3) := dk_182 1 140 (dk_at dksX0_often_1 13 rfl rfl)
theorem dX0_often_40 : decode cX0_often 40 = .ok (.ireturn, 1) := dk_172 (dk_at dksX0_often_1 16 rfl rfl)
abbrev cX0_oftenOf : ByteArray := prog_1_method_75_code
def yX0_oftenOf : MethodName := ⟨RX0, "oftenOf", "(I)I"⟩
def dkwX0_oftenOf_2 : List UInt8 := [167, 255, 214, 28, 172]
abbrev dktX0_oftenOf_2 : List UInt8 := dkwX0_oftenOf_2 ++ []
def dkwX0_oftenOf_1 : List UInt8 := [180, 0, 233, 180, 0, 252, 29, 46, 27, 160, 0, 7, 4, 167, 0, 4, 3, 96, 61, 132, 3, 1]
abbrev dktX0_oftenOf_1 : List UInt8 := dkwX0_oftenOf_1 ++ dktX0_oftenOf_2
def dkwX0_oftenOf_0 : List UInt8 := [3, 61, 3, 62, 29, 42, 180, 0, 62, 180, 0, 233, 180, 0, 252, 190, 162, 0, 33, 28, 42, 180, 0, 62]
abbrev dktX0_oftenOf_0 : List UInt8 := dkwX0_oftenOf_0 ++ dktX0_oftenOf_1
theorem dksX0_oftenOf_0 : cX0_oftenOf.data.toList.drop 0 = dktX0_oftenOf_0 := by decide +kernel
theorem dksX0_oftenOf_1 : cX0_oftenOf.data.toList.drop 24 = dktX0_oftenOf_1 := dk_seg dksX0_oftenOf_0 24 rfl rfl
theorem dksX0_oftenOf_2 : cX0_oftenOf.data.toList.drop 46 = dktX0_oftenOf_2 := dk_seg dksX0_oftenOf_1 22 rfl rfl
theorem dX0_oftenOf_0 : decode cX0_oftenOf 0 = .ok (.iconst 0, 1) := dk_3 (dk_at dksX0_oftenOf_0 0 rfl rfl)
theorem dX0_oftenOf_1 : decode cX0_oftenOf 1 = .ok (.istore_n 2, 1) := dk_61 (dk_at dksX0_oftenOf_0 1 rfl rfl)
theorem dX0_oftenOf_2 : decode cX0_oftenOf 2 = .ok (.iconst 0, 1) := dk_3 (dk_at dksX0_oftenOf_0 2 rfl rfl)
theorem dX0_oftenOf_3 : decode cX0_oftenOf 3 = .ok (.istore_n 3, 1) := dk_62 (dk_at dksX0_oftenOf_0 3 rfl rfl)
theorem dX0_oftenOf_4 : decode cX0_oftenOf 4 = .ok (.iload_n 3, 1) := dk_29 (dk_at dksX0_oftenOf_0 4 rfl rfl)
theorem dX0_oftenOf_5 : decode cX0_oftenOf 5 = .ok (.aload_n 0, 1) := dk_42 (dk_at dksX0_oftenOf_0 5 rfl rfl)
theorem dX0_oftenOf_6 : decode cX0_oftenOf 6 = .ok (.getfield 62, 3) := dk_180 0 62 (dk_at dksX0_oftenOf_0 6 rfl rfl)
theorem dX0_oftenOf_9 : decode cX0_oftenOf 9 = .ok (.getfield 233, 3) := dk_180 0 233 (dk_at dksX0_oftenOf_0 9 rfl rfl)
theorem dX0_oftenOf_12 : decode cX0_oftenOf 12 = .ok (.getfield 252, 3) := dk_180 0 252 (dk_at dksX0_oftenOf_0 12 rfl rfl)
theorem dX0_oftenOf_15 : decode cX0_oftenOf 15 = .ok (.arraylength, 1) := dk_190 (dk_at dksX0_oftenOf_0 15 rfl rfl)
theorem dX0_oftenOf_16 : decode cX0_oftenOf 16 = .ok (.if_icmp .ge 33, 3) := dk_162 0 33 (dk_at dksX0_oftenOf_0 16 rfl rfl)
theorem dX0_oftenOf_19 : decode cX0_oftenOf 19 = .ok (.iload_n 2, 1) := dk_28 (dk_at dksX0_oftenOf_0 19 rfl rfl)
theorem dX0_oftenOf_20 : decode cX0_oftenOf 20 = .ok (.aload_n 0, 1) := dk_42 (dk_at dksX0_oftenOf_0 20 rfl rfl)
theorem dX0_oftenOf_21 : decode cX0_oftenOf 21 = .ok (.getfield 62, 3) := dk_180 0 62 (dk_at dksX0_oftenOf_0 21 rfl rfl)
theorem dX0_oftenOf_24 : decode cX0_oftenOf 24 = .ok (.getfield 233, 3) := dk_180 0 233 (dk_at dksX0_oftenOf_1 0 rfl rfl)
theorem dX0_oftenOf_27 : decode cX0_oftenOf 27 = .ok (.getfield 252, 3) := dk_180 0 252 (dk_at dksX0_oftenOf_1 3 rfl rfl)
theorem dX0_oftenOf_30 : decode cX0_oftenOf 30 = .ok (.iload_n 3, 1) := dk_29 (dk_at dksX0_oftenOf_1 6 rfl rfl)
theorem dX0_oftenOf_31 : decode cX0_oftenOf 31 = .ok (.iaload, 1) := dk_46 (dk_at dksX0_oftenOf_1 7 rfl rfl)
theorem dX0_oftenOf_32 : decode cX0_oftenOf 32 = .ok (.iload_n 1, 1) := dk_27 (dk_at dksX0_oftenOf_1 8 rfl rfl)
theorem dX0_oftenOf_33 : decode cX0_oftenOf 33 = .ok (.if_icmp .ne 7, 3) := dk_160 0 7 (dk_at dksX0_oftenOf_1 9 rfl rfl)
theorem dX0_oftenOf_36 : decode cX0_oftenOf 36 = .ok (.iconst 1, 1) := dk_4 (dk_at dksX0_oftenOf_1 12 rfl rfl)
theorem dX0_oftenOf_37 : decode cX0_oftenOf 37 = .ok (.goto 4, 3) := dk_167 0 4 (dk_at dksX0_oftenOf_1 13 rfl rfl)
theorem dX0_oftenOf_40 : decode cX0_oftenOf 40 = .ok (.iconst 0, 1) := dk_3 (dk_at dksX0_oftenOf_1 16 rfl rfl)
theorem dX0_oftenOf_41 : decode cX0_oftenOf 41 = .ok (.iadd, 1) := dk_96 (dk_at dksX0_oftenOf_1 17 rfl rfl)
theorem dX0_oftenOf_42 : decode cX0_oftenOf 42 = .ok (.istore_n 2, 1) := dk_61 (dk_at dksX0_oftenOf_1 18 rfl rfl)
theorem dX0_oftenOf_43 : decode cX0_oftenOf 43 = .ok (.iinc 3 1, 3) := dk_132 3 1 (dk_at dksX0_oftenOf_1 19 rfl rfl)
theorem dX0_oftenOf_46 : decode cX0_oftenOf 46 = .ok (.goto (-42), 3) := dk_167 255 214 (dk_at dksX0_oftenOf_2 0 rfl rfl)
theorem dX0_oftenOf_49 : decode cX0_oftenOf 49 = .ok (.iload_n 2, 1) := dk_28 (dk_at dksX0_oftenOf_2 3 rfl rfl)
theorem dX0_oftenOf_50 : decode cX0_oftenOf 50 = .ok (.ireturn, 1) := dk_172 (dk_at dksX0_oftenOf_2 4 rfl rfl)
abbrev cX0_commonest : ByteArray := prog_1_method_77_code
def yX0_commonest : MethodName := ⟨RX0, "commonest", "()I"⟩
def dkwX0_commonest_2 : List UInt8 := [182, 1, 6, 172]
abbrev dktX0_commonest_2 : List UInt8 := dkwX0_commonest_2 ++ []
def dkwX0_commonest_1 : List UInt8 := [28, 163, 0, 6, 167, 0, 11, 42, 29, 182, 1, 140, 61, 29, 60, 132, 3, 1, 167, 255, 220, 42, 27]
abbrev dktX0_commonest_1 : List UInt8 := dkwX0_commonest_1 ++ dktX0_commonest_2
def dkwX0_commonest_0 : List UInt8 := [2, 60, 3, 61, 4, 62, 29, 16, 63, 163, 0, 36, 42, 182, 1, 39, 153, 0, 29, 42, 29, 182, 1, 140]
abbrev dktX0_commonest_0 : List UInt8 := dkwX0_commonest_0 ++ dktX0_commonest_1
theorem dksX0_commonest_0 : cX0_commonest.data.toList.drop 0 = dktX0_commonest_0 := by decide +kernel
theorem dksX0_commonest_1 : cX0_commonest.data.toList.drop 24 = dktX0_commonest_1 := dk_seg dksX0_commonest_0 24 rfl rfl
theorem dksX0_commonest_2 : cX0_commonest.data.toList.drop 47 = dktX0_commonest_2 := dk_seg dksX0_commonest_1 23 rfl rfl
theorem dX0_commonest_0 : decode cX0_commonest 0 = .ok (.iconst (-1), 1) := dk_2 (dk_at dksX0_commonest_0 0 rfl rfl)
theorem dX0_commonest_1 : decode cX0_commonest 1 = .ok (.istore_n 1, 1) := dk_60 (dk_at dksX0_commonest_0 1 rfl rfl)
theorem dX0_commonest_2 : decode cX0_commonest 2 = .ok (.iconst 0, 1) := dk_3 (dk_at dksX0_commonest_0 2 rfl rfl)
theorem dX0_commonest_3 : decode cX0_commonest 3 = .ok (.istore_n 2, 1) := dk_61 (dk_at dksX0_commonest_0 3 rfl rfl)
theorem dX0_commonest_4 : decode cX0_commonest 4 = .ok (.iconst 1, 1) := dk_4 (dk_at dksX0_commonest_0 4 rfl rfl)
theorem dX0_commonest_5 : decode cX0_commonest 5 = .ok (.istore_n 3, 1) := dk_62 (dk_at dksX0_commonest_0 5 rfl rfl)
theorem dX0_commonest_6 : decode cX0_commonest 6 = .ok (.iload_n 3, 1) := dk_29 (dk_at dksX0_commonest_0 6 rfl rfl)
theorem dX0_commonest_7 : decode cX0_commonest 7 = .ok (.bipush 63, 2) := dk_16 63 (dk_at dksX0_commonest_0 7 rfl rfl)
theorem dX0_commonest_9 : decode cX0_commonest 9 = .ok (.if_icmp .gt 36, 3) := dk_163 0 36 (dk_at dksX0_commonest_0 9 rfl rfl)
theorem dX0_commonest_12 : decode cX0_commonest 12 = .ok (.aload_n 0, 1) := dk_42 (dk_at dksX0_commonest_0 12 rfl rfl)
theorem dX0_commonest_13 : decode cX0_commonest 13 = .ok (.invokevirtual 295, 3) := dk_182 1 39 (dk_at dksX0_commonest_0 13 rfl rfl)
theorem dX0_commonest_16 : decode cX0_commonest 16 = .ok (.ifCond .eq 29, 3) := dk_153 0 29 (dk_at dksX0_commonest_0 16 rfl rfl)
theorem dX0_commonest_19 : decode cX0_commonest 19 = .ok (.aload_n 0, 1) := dk_42 (dk_at dksX0_commonest_0 19 rfl rfl)
theorem dX0_commonest_20 : decode cX0_commonest 20 = .ok (.iload_n 3, 1) := dk_29 (dk_at dksX0_commonest_0 20 rfl rfl)
theorem dX0_commonest_21 : decode cX0_commonest 21 = .ok (.invokevirtual 396, 3) := dk_182 1 140 (dk_at dksX0_commonest_0 21 rfl rfl)
theorem dX0_commonest_24 : decode cX0_commonest 24 = .ok (.iload_n 2, 1) := dk_28 (dk_at dksX0_commonest_1 0 rfl rfl)
theorem dX0_commonest_25 : decode cX0_commonest 25 = .ok (.if_icmp .gt 6, 3) := dk_163 0 6 (dk_at dksX0_commonest_1 1 rfl rfl)
theorem dX0_commonest_28 : decode cX0_commonest 28 = .ok (.goto 11, 3) := dk_167 0 11 (dk_at dksX0_commonest_1 4 rfl rfl)
theorem dX0_commonest_31 : decode cX0_commonest 31 = .ok (.aload_n 0, 1) := dk_42 (dk_at dksX0_commonest_1 7 rfl rfl)
theorem dX0_commonest_32 : decode cX0_commonest 32 = .ok (.iload_n 3, 1) := dk_29 (dk_at dksX0_commonest_1 8 rfl rfl)
theorem dX0_commonest_33 : decode cX0_commonest 33 = .ok (.invokevirtual 396, 3) := dk_182 1 140 (dk_at dksX0_commonest_1 9 rfl rfl)
theorem dX0_commonest_36 : decode cX0_commonest 36 = .ok (.istore_n 2, 1) := dk_61 (dk_at dksX0_commonest_1 12 rfl rfl)
theorem dX0_commonest_37 : decode cX0_commonest 37 = .ok (.iload_n 3, 1) := dk_29 (dk_at dksX0_commonest_1 13 rfl rfl)
theorem dX0_commonest_38 : decode cX0_commonest 38 = .ok (.istore_n 1, 1) := dk_60 (dk_at dksX0_commonest_1 14 rfl rfl)
theorem dX0_commonest_39 : decode cX0_commonest 39 = .ok (.iinc 3 1, 3) := dk_132 3 1 (dk_at dksX0_commonest_1 15 rfl rfl)
theorem dX0_commonest_42 : decode cX0_commonest 42 = .ok (.goto (-36), 3) := dk_167 255 220 (dk_at dksX0_commonest_1 18 rfl rfl)
theorem dX0_commonest_45 : decode cX0_commonest 45 = .ok (.aload_n 0, 1) := dk_42 (dk_at dksX0_commonest_1 21 rfl rfl)
theorem dX0_commonest_46 : decode cX0_commonest 46 = .ok (.iload_n 1, 1) := dk_27 (dk_at dksX0_commonest_1 22 rfl rfl)
theorem dX0_commonest_47 : decode cX0_commonest 47 = .ok (.invokevirtual 262, 3) := dk_182 1 6 (dk_at dksX0_commonest_2 0 rfl rfl)
theorem dX0_commonest_50 : decode cX0_commonest 50 = .ok (.ireturn, 1) := dk_172 (dk_at dksX0_commonest_2 3 rfl rfl)
abbrev cX0_ragged : ByteArray := prog_1_method_79_code
def yX0_ragged : MethodName := ⟨RX0, "ragged", "()I"⟩
def dkwX0_ragged_2 : List UInt8 := [182, 1, 70, 182, 1, 143, 96, 60, 132, 2, 1, 167, 255, 219, 27, 172]
abbrev dktX0_ragged_2 : List UInt8 := dkwX0_ragged_2 ++ []
def dkwX0_ragged_1 : List UInt8 := [42, 180, 0, 62, 180, 0, 233, 182, 1, 54, 162, 0, 27, 27, 42, 42, 180, 0, 62, 180, 0, 233, 28]
abbrev dktX0_ragged_1 : List UInt8 := dkwX0_ragged_1 ++ dktX0_ragged_2
def dkwX0_ragged_0 : List UInt8 := [42, 42, 182, 1, 48, 181, 0, 114, 42, 180, 0, 114, 158, 0, 5, 2, 172, 3, 60, 3, 61, 28, 4, 96]
abbrev dktX0_ragged_0 : List UInt8 := dkwX0_ragged_0 ++ dktX0_ragged_1
theorem dksX0_ragged_0 : cX0_ragged.data.toList.drop 0 = dktX0_ragged_0 := by decide +kernel
theorem dksX0_ragged_1 : cX0_ragged.data.toList.drop 24 = dktX0_ragged_1 := dk_seg dksX0_ragged_0 24 rfl rfl
theorem dksX0_ragged_2 : cX0_ragged.data.toList.drop 47 = dktX0_ragged_2 := dk_seg dksX0_ragged_1 23 rfl rfl
theorem dX0_ragged_0 : decode cX0_ragged 0 = .ok (.aload_n 0, 1) := dk_42 (dk_at dksX0_ragged_0 0 rfl rfl)
theorem dX0_ragged_1 : decode cX0_ragged 1 = .ok (.aload_n 0, 1) := dk_42 (dk_at dksX0_ragged_0 1 rfl rfl)
theorem dX0_ragged_2 : decode cX0_ragged 2 = .ok (.invokevirtual 304, 3) := dk_182 1 48 (dk_at dksX0_ragged_0 2 rfl rfl)
theorem dX0_ragged_5 : decode cX0_ragged 5 = .ok (.putfield 114, 3) := dk_181 0 114 (dk_at dksX0_ragged_0 5 rfl rfl)
theorem dX0_ragged_8 : decode cX0_ragged 8 = .ok (.aload_n 0, 1) := dk_42 (dk_at dksX0_ragged_0 8 rfl rfl)
theorem dX0_ragged_9 : decode cX0_ragged 9 = .ok (.getfield 114, 3) := dk_180 0 114 (dk_at dksX0_ragged_0 9 rfl rfl)
theorem dX0_ragged_12 : decode cX0_ragged 12 = .ok (.ifCond .le 5, 3) := dk_158 0 5 (dk_at dksX0_ragged_0 12 rfl rfl)
theorem dX0_ragged_15 : decode cX0_ragged 15 = .ok (.iconst (-1), 1) := dk_2 (dk_at dksX0_ragged_0 15 rfl rfl)
theorem dX0_ragged_16 : decode cX0_ragged 16 = .ok (.ireturn, 1) := dk_172 (dk_at dksX0_ragged_0 16 rfl rfl)
theorem dX0_ragged_17 : decode cX0_ragged 17 = .ok (.iconst 0, 1) := dk_3 (dk_at dksX0_ragged_0 17 rfl rfl)
theorem dX0_ragged_18 : decode cX0_ragged 18 = .ok (.istore_n 1, 1) := dk_60 (dk_at dksX0_ragged_0 18 rfl rfl)
theorem dX0_ragged_19 : decode cX0_ragged 19 = .ok (.iconst 0, 1) := dk_3 (dk_at dksX0_ragged_0 19 rfl rfl)
theorem dX0_ragged_20 : decode cX0_ragged 20 = .ok (.istore_n 2, 1) := dk_61 (dk_at dksX0_ragged_0 20 rfl rfl)
theorem dX0_ragged_21 : decode cX0_ragged 21 = .ok (.iload_n 2, 1) := dk_28 (dk_at dksX0_ragged_0 21 rfl rfl)
theorem dX0_ragged_22 : decode cX0_ragged 22 = .ok (.iconst 1, 1) := dk_4 (dk_at dksX0_ragged_0 22 rfl rfl)
theorem dX0_ragged_23 : decode cX0_ragged 23 = .ok (.iadd, 1) := dk_96 (dk_at dksX0_ragged_0 23 rfl rfl)
theorem dX0_ragged_24 : decode cX0_ragged 24 = .ok (.aload_n 0, 1) := dk_42 (dk_at dksX0_ragged_1 0 rfl rfl)
theorem dX0_ragged_25 : decode cX0_ragged 25 = .ok (.getfield 62, 3) := dk_180 0 62 (dk_at dksX0_ragged_1 1 rfl rfl)
theorem dX0_ragged_28 : decode cX0_ragged 28 = .ok (.getfield 233, 3) := dk_180 0 233 (dk_at dksX0_ragged_1 4 rfl rfl)
theorem dX0_ragged_31 : decode cX0_ragged 31 = .ok (.invokevirtual 310, 3) := dk_182 1 54 (dk_at dksX0_ragged_1 7 rfl rfl)
theorem dX0_ragged_34 : decode cX0_ragged 34 = .ok (.if_icmp .ge 27, 3) := dk_162 0 27 (dk_at dksX0_ragged_1 10 rfl rfl)
theorem dX0_ragged_37 : decode cX0_ragged 37 = .ok (.iload_n 1, 1) := dk_27 (dk_at dksX0_ragged_1 13 rfl rfl)
theorem dX0_ragged_38 : decode cX0_ragged 38 = .ok (.aload_n 0, 1) := dk_42 (dk_at dksX0_ragged_1 14 rfl rfl)
theorem dX0_ragged_39 : decode cX0_ragged 39 = .ok (.aload_n 0, 1) := dk_42 (dk_at dksX0_ragged_1 15 rfl rfl)
theorem dX0_ragged_40 : decode cX0_ragged 40 = .ok (.getfield 62, 3) := dk_180 0 62 (dk_at dksX0_ragged_1 16 rfl rfl)
theorem dX0_ragged_43 : decode cX0_ragged 43 = .ok (.getfield 233, 3) := dk_180 0 233 (dk_at dksX0_ragged_1 19 rfl rfl)
theorem dX0_ragged_46 : decode cX0_ragged 46 = .ok (.iload_n 2, 1) := dk_28 (dk_at dksX0_ragged_1 22 rfl rfl)
theorem dX0_ragged_47 : decode cX0_ragged 47 = .ok (.invokevirtual 326, 3) := dk_182 1 70 (dk_at dksX0_ragged_2 0 rfl rfl)
theorem dX0_ragged_50 : decode cX0_ragged 50 = .ok (.invokevirtual 399, 3) := dk_182 1 143 (dk_at dksX0_ragged_2 3 rfl rfl)
theorem dX0_ragged_53 : decode cX0_ragged 53 = .ok (.iadd, 1) := dk_96 (dk_at dksX0_ragged_2 6 rfl rfl)
theorem dX0_ragged_54 : decode cX0_ragged 54 = .ok (.istore_n 1, 1) := dk_60 (dk_at dksX0_ragged_2 7 rfl rfl)
theorem dX0_ragged_55 : decode cX0_ragged 55 = .ok (.iinc 2 1, 3) := dk_132 2 1 (dk_at dksX0_ragged_2 8 rfl rfl)
theorem dX0_ragged_58 : decode cX0_ragged 58 = .ok (.goto (-37), 3) := dk_167 255 219 (dk_at dksX0_ragged_2 11 rfl rfl)
theorem dX0_ragged_61 : decode cX0_ragged 61 = .ok (.iload_n 1, 1) := dk_27 (dk_at dksX0_ragged_2 14 rfl rfl)
theorem dX0_ragged_62 : decode cX0_ragged 62 = .ok (.ireturn, 1) := dk_172 (dk_at dksX0_ragged_2 15 rfl rfl)
abbrev cX0_square : ByteArray := prog_1_method_78_code
def yX0_square : MethodName := ⟨RX0, "square", "(I)I"⟩
def dkwX0_square_0 : List UInt8 := [42, 182, 0, 187, 180, 1, 15, 27, 100, 42, 182, 0, 187, 180, 1, 15, 27, 100, 104, 172]
abbrev dktX0_square_0 : List UInt8 := dkwX0_square_0 ++ []
theorem dksX0_square_0 : cX0_square.data.toList.drop 0 = dktX0_square_0 := by decide +kernel
theorem dX0_square_0 : decode cX0_square 0 = .ok (.aload_n 0, 1) := dk_42 (dk_at dksX0_square_0 0 rfl rfl)
theorem dX0_square_1 : decode cX0_square 1 = .ok (.invokevirtual 187, 3) := dk_182 0 187 (dk_at dksX0_square_0 1 rfl rfl)
theorem dX0_square_4 : decode cX0_square 4 = .ok (.getfield 271, 3) := dk_180 1 15 (dk_at dksX0_square_0 4 rfl rfl)
theorem dX0_square_7 : decode cX0_square 7 = .ok (.iload_n 1, 1) := dk_27 (dk_at dksX0_square_0 7 rfl rfl)
theorem dX0_square_8 : decode cX0_square 8 = .ok (.isub, 1) := dk_100 (dk_at dksX0_square_0 8 rfl rfl)
theorem dX0_square_9 : decode cX0_square 9 = .ok (.aload_n 0, 1) := dk_42 (dk_at dksX0_square_0 9 rfl rfl)
theorem dX0_square_10 : decode cX0_square 10 = .ok (.invokevirtual 187, 3) := dk_182 0 187 (dk_at dksX0_square_0 10 rfl rfl)
theorem dX0_square_13 : decode cX0_square 13 = .ok (.getfield 271, 3) := dk_180 1 15 (dk_at dksX0_square_0 13 rfl rfl)
theorem dX0_square_16 : decode cX0_square 16 = .ok (.iload_n 1, 1) := dk_27 (dk_at dksX0_square_0 16 rfl rfl)
theorem dX0_square_17 : decode cX0_square 17 = .ok (.isub, 1) := dk_100 (dk_at dksX0_square_0 17 rfl rfl)
theorem dX0_square_18 : decode cX0_square 18 = .ok (.imul, 1) := dk_104 (dk_at dksX0_square_0 18 rfl rfl)
theorem dX0_square_19 : decode cX0_square 19 = .ok (.ireturn, 1) := dk_172 (dk_at dksX0_square_0 19 rfl rfl)
abbrev cX0_leastRagged : ByteArray := prog_1_method_80_code
def yX0_leastRagged : MethodName := ⟨RX0, "leastRagged", "()I"⟩
def dkwX0_leastRagged_4 : List UInt8 := [132, 2, 255, 167, 255, 237, 42, 180, 0, 83, 3, 46, 172]
abbrev dktX0_leastRagged_4 : List UInt8 := dkwX0_leastRagged_4 ++ []
def dkwX0_leastRagged_3 : List UInt8 := [79, 43, 190, 4, 100, 61, 28, 155, 0, 21, 42, 180, 0, 83, 28, 42, 43, 28, 182, 1, 146, 79]
abbrev dktX0_leastRagged_3 : List UInt8 := dkwX0_leastRagged_3 ++ dktX0_leastRagged_4
def dkwX0_leastRagged_2 : List UInt8 := [164, 0, 11, 42, 16, 7, 181, 0, 114, 2, 172, 132, 2, 255, 167, 255, 228, 42, 180, 0, 83, 43, 190, 3]
abbrev dktX0_leastRagged_2 : List UInt8 := dkwX0_leastRagged_2 ++ dktX0_leastRagged_3
def dkwX0_leastRagged_1 : List UInt8 := [180, 1, 107, 76, 43, 190, 4, 100, 61, 28, 155, 0, 30, 43, 28, 46, 42, 182, 0, 187, 180, 1, 15]
abbrev dktX0_leastRagged_1 : List UInt8 := dkwX0_leastRagged_1 ++ dktX0_leastRagged_2
def dkwX0_leastRagged_0 : List UInt8 := [42, 42, 182, 1, 48, 181, 0, 114, 42, 180, 0, 114, 158, 0, 5, 2, 172, 42, 180, 0, 62, 180, 0, 233]
abbrev dktX0_leastRagged_0 : List UInt8 := dkwX0_leastRagged_0 ++ dktX0_leastRagged_1
theorem dksX0_leastRagged_0 : cX0_leastRagged.data.toList.drop 0 = dktX0_leastRagged_0 := by decide +kernel
theorem dksX0_leastRagged_1 : cX0_leastRagged.data.toList.drop 24 = dktX0_leastRagged_1 := dk_seg dksX0_leastRagged_0 24 rfl rfl
theorem dksX0_leastRagged_2 : cX0_leastRagged.data.toList.drop 47 = dktX0_leastRagged_2 := dk_seg dksX0_leastRagged_1 23 rfl rfl
theorem dksX0_leastRagged_3 : cX0_leastRagged.data.toList.drop 71 = dktX0_leastRagged_3 := dk_seg dksX0_leastRagged_2 24 rfl rfl
theorem dksX0_leastRagged_4 : cX0_leastRagged.data.toList.drop 93 = dktX0_leastRagged_4 := dk_seg dksX0_leastRagged_3 22 rfl rfl
theorem dX0_leastRagged_0 : decode cX0_leastRagged 0 = .ok (.aload_n 0, 1) := dk_42 (dk_at dksX0_leastRagged_0 0 rfl rfl)
theorem dX0_leastRagged_1 : decode cX0_leastRagged 1 = .ok (.aload_n 0, 1) := dk_42 (dk_at dksX0_leastRagged_0 1 rfl rfl)
theorem dX0_leastRagged_2 : decode cX0_leastRagged 2 = .ok (.invokevirtual 304, 3) := dk_182 1 48 (dk_at dksX0_leastRagged_0 2 rfl rfl)
theorem dX0_leastRagged_5 : decode cX0_leastRagged 5 = .ok (.putfield 114, 3) := dk_181 0 114 (dk_at dksX0_leastRagged_0 5 rfl rfl)
theorem dX0_leastRagged_8 : decode cX0_leastRagged 8 = .ok (.aload_n 0, 1) := dk_42 (dk_at dksX0_leastRagged_0 8 rfl rfl)
theorem dX0_leastRagged_9 : decode cX0_leastRagged 9 = .ok (.getfield 114, 3) := dk_180 0 114 (dk_at dksX0_leastRagged_0 9 rfl rfl)
theorem dX0_leastRagged_12 : decode cX0_leastRagged 12 = .ok (.ifCond .le 5, 3) := dk_158 0 5 (dk_at dksX0_leastRagged_0 12 rfl rfl)
theorem dX0_leastRagged_15 : decode cX0_leastRagged 15 = .ok (.iconst (-1), 1) := dk_2 (dk_at dksX0_leastRagged_0 15 rfl rfl)
theorem dX0_leastRagged_16 : decode cX0_leastRagged 16 = .ok (.ireturn, 1) := dk_172 (dk_at dksX0_leastRagged_0 16 rfl rfl)
theorem dX0_leastRagged_17 : decode cX0_leastRagged 17 = .ok (.aload_n 0, 1) := dk_42 (dk_at dksX0_leastRagged_0 17 rfl rfl)
theorem dX0_leastRagged_18 : decode cX0_leastRagged 18 = .ok (.getfield 62, 3) := dk_180 0 62 (dk_at dksX0_leastRagged_0 18 rfl rfl)
theorem dX0_leastRagged_21 : decode cX0_leastRagged 21 = .ok (.getfield 233, 3) := dk_180 0 233 (dk_at dksX0_leastRagged_0 21 rfl rfl)
theorem dX0_leastRagged_24 : decode cX0_leastRagged 24 = .ok (.getfield 363, 3) := dk_180 1 107 (dk_at dksX0_leastRagged_1 0 rfl rfl)
theorem dX0_leastRagged_27 : decode cX0_leastRagged 27 = .ok (.astore_n 1, 1) := dk_76 (dk_at dksX0_leastRagged_1 3 rfl rfl)
theorem dX0_leastRagged_28 : decode cX0_leastRagged 28 = .ok (.aload_n 1, 1) := dk_43 (dk_at dksX0_leastRagged_1 4 rfl rfl)
theorem dX0_leastRagged_29 : decode cX0_leastRagged 29 = .ok (.arraylength, 1) := dk_190 (dk_at dksX0_leastRagged_1 5 rfl rfl)
theorem dX0_leastRagged_30 : decode cX0_leastRagged 30 = .ok (.iconst 1, 1) := dk_4 (dk_at dksX0_leastRagged_1 6 rfl rfl)
theorem dX0_leastRagged_31 : decode cX0_leastRagged 31 = .ok (.isub, 1) := dk_100 (dk_at dksX0_leastRagged_1 7 rfl rfl)
theorem dX0_leastRagged_32 : decode cX0_leastRagged 32 = .ok (.istore_n 2, 1) := dk_61 (dk_at dksX0_leastRagged_1 8 rfl rfl)
theorem dX0_leastRagged_33 : decode cX0_leastRagged 33 = .ok (.iload_n 2, 1) := dk_28 (dk_at dksX0_leastRagged_1 9 rfl rfl)
theorem dX0_leastRagged_34 : decode cX0_leastRagged 34 = .ok (.ifCond .lt 30, 3) := dk_155 0 30 (dk_at dksX0_leastRagged_1 10 rfl rfl)
theorem dX0_leastRagged_37 : decode cX0_leastRagged 37 = .ok (.aload_n 1, 1) := dk_43 (dk_at dksX0_leastRagged_1 13 rfl rfl)
theorem dX0_leastRagged_38 : decode cX0_leastRagged 38 = .ok (.iload_n 2, 1) := dk_28 (dk_at dksX0_leastRagged_1 14 rfl rfl)
theorem dX0_leastRagged_39 : decode cX0_leastRagged 39 = .ok (.iaload, 1) := dk_46 (dk_at dksX0_leastRagged_1 15 rfl rfl)
theorem dX0_leastRagged_40 : decode cX0_leastRagged 40 = .ok (.aload_n 0, 1) := dk_42 (dk_at dksX0_leastRagged_1 16 rfl rfl)
theorem dX0_leastRagged_41 : decode cX0_leastRagged 41 = .ok (.invokevirtual 187, 3) := dk_182 0 187 (dk_at dksX0_leastRagged_1 17 rfl rfl)
theorem dX0_leastRagged_44 : decode cX0_leastRagged 44 = .ok (.getfield 271, 3) := dk_180 1 15 (dk_at dksX0_leastRagged_1 20 rfl rfl)
theorem dX0_leastRagged_47 : decode cX0_leastRagged 47 = .ok (.if_icmp .le 11, 3) := dk_164 0 11 (dk_at dksX0_leastRagged_2 0 rfl rfl)
theorem dX0_leastRagged_50 : decode cX0_leastRagged 50 = .ok (.aload_n 0, 1) := dk_42 (dk_at dksX0_leastRagged_2 3 rfl rfl)
theorem dX0_leastRagged_51 : decode cX0_leastRagged 51 = .ok (.bipush 7, 2) := dk_16 7 (dk_at dksX0_leastRagged_2 4 rfl rfl)
theorem dX0_leastRagged_53 : decode cX0_leastRagged 53 = .ok (.putfield 114, 3) := dk_181 0 114 (dk_at dksX0_leastRagged_2 6 rfl rfl)
theorem dX0_leastRagged_56 : decode cX0_leastRagged 56 = .ok (.iconst (-1), 1) := dk_2 (dk_at dksX0_leastRagged_2 9 rfl rfl)
theorem dX0_leastRagged_57 : decode cX0_leastRagged 57 = .ok (.ireturn, 1) := dk_172 (dk_at dksX0_leastRagged_2 10 rfl rfl)
theorem dX0_leastRagged_58 : decode cX0_leastRagged 58 = .ok (.iinc 2 (-1), 3) := dk_132 2 255 (dk_at dksX0_leastRagged_2 11 rfl rfl)
theorem dX0_leastRagged_61 : decode cX0_leastRagged 61 = .ok (.goto (-28), 3) := dk_167 255 228 (dk_at dksX0_leastRagged_2 14 rfl rfl)
theorem dX0_leastRagged_64 : decode cX0_leastRagged 64 = .ok (.aload_n 0, 1) := dk_42 (dk_at dksX0_leastRagged_2 17 rfl rfl)
theorem dX0_leastRagged_65 : decode cX0_leastRagged 65 = .ok (.getfield 83, 3) := dk_180 0 83 (dk_at dksX0_leastRagged_2 18 rfl rfl)
theorem dX0_leastRagged_68 : decode cX0_leastRagged 68 = .ok (.aload_n 1, 1) := dk_43 (dk_at dksX0_leastRagged_2 21 rfl rfl)
theorem dX0_leastRagged_69 : decode cX0_leastRagged 69 = .ok (.arraylength, 1) := dk_190 (dk_at dksX0_leastRagged_2 22 rfl rfl)
theorem dX0_leastRagged_70 : decode cX0_leastRagged 70 = .ok (.iconst 0, 1) := dk_3 (dk_at dksX0_leastRagged_2 23 rfl rfl)
theorem dX0_leastRagged_71 : decode cX0_leastRagged 71 = .ok (.iastore, 1) := dk_79 (dk_at dksX0_leastRagged_3 0 rfl rfl)
theorem dX0_leastRagged_72 : decode cX0_leastRagged 72 = .ok (.aload_n 1, 1) := dk_43 (dk_at dksX0_leastRagged_3 1 rfl rfl)
theorem dX0_leastRagged_73 : decode cX0_leastRagged 73 = .ok (.arraylength, 1) := dk_190 (dk_at dksX0_leastRagged_3 2 rfl rfl)
theorem dX0_leastRagged_74 : decode cX0_leastRagged 74 = .ok (.iconst 1, 1) := dk_4 (dk_at dksX0_leastRagged_3 3 rfl rfl)
theorem dX0_leastRagged_75 : decode cX0_leastRagged 75 = .ok (.isub, 1) := dk_100 (dk_at dksX0_leastRagged_3 4 rfl rfl)
theorem dX0_leastRagged_76 : decode cX0_leastRagged 76 = .ok (.istore_n 2, 1) := dk_61 (dk_at dksX0_leastRagged_3 5 rfl rfl)
theorem dX0_leastRagged_77 : decode cX0_leastRagged 77 = .ok (.iload_n 2, 1) := dk_28 (dk_at dksX0_leastRagged_3 6 rfl rfl)
theorem dX0_leastRagged_78 : decode cX0_leastRagged 78 = .ok (.ifCond .lt 21, 3) := dk_155 0 21 (dk_at dksX0_leastRagged_3 7 rfl rfl)
theorem dX0_leastRagged_81 : decode cX0_leastRagged 81 = .ok (.aload_n 0, 1) := dk_42 (dk_at dksX0_leastRagged_3 10 rfl rfl)
theorem dX0_leastRagged_82 : decode cX0_leastRagged 82 = .ok (.getfield 83, 3) := dk_180 0 83 (dk_at dksX0_leastRagged_3 11 rfl rfl)
theorem dX0_leastRagged_85 : decode cX0_leastRagged 85 = .ok (.iload_n 2, 1) := dk_28 (dk_at dksX0_leastRagged_3 14 rfl rfl)
theorem dX0_leastRagged_86 : decode cX0_leastRagged 86 = .ok (.aload_n 0, 1) := dk_42 (dk_at dksX0_leastRagged_3 15 rfl rfl)
theorem dX0_leastRagged_87 : decode cX0_leastRagged 87 = .ok (.aload_n 1, 1) := dk_43 (dk_at dksX0_leastRagged_3 16 rfl rfl)
theorem dX0_leastRagged_88 : decode cX0_leastRagged 88 = .ok (.iload_n 2, 1) := dk_28 (dk_at dksX0_leastRagged_3 17 rfl rfl)
theorem dX0_leastRagged_89 : decode cX0_leastRagged 89 = .ok (.invokevirtual 402, 3) := dk_182 1 146 (dk_at dksX0_leastRagged_3 18 rfl rfl)
theorem dX0_leastRagged_92 : decode cX0_leastRagged 92 = .ok (.iastore, 1) := dk_79 (dk_at dksX0_leastRagged_3 21 rfl rfl)
theorem dX0_leastRagged_93 : decode cX0_leastRagged 93 = .ok (.iinc 2 (-1), 3) := dk_132 2 255 (dk_at dksX0_leastRagged_4 0 rfl rfl)
theorem dX0_leastRagged_96 : decode cX0_leastRagged 96 = .ok (.goto (-19), 3) := dk_167 255 237 (dk_at dksX0_leastRagged_4 3 rfl rfl)
theorem dX0_leastRagged_99 : decode cX0_leastRagged 99 = .ok (.aload_n 0, 1) := dk_42 (dk_at dksX0_leastRagged_4 6 rfl rfl)
theorem dX0_leastRagged_100 : decode cX0_leastRagged 100 = .ok (.getfield 83, 3) := dk_180 0 83 (dk_at dksX0_leastRagged_4 7 rfl rfl)
theorem dX0_leastRagged_103 : decode cX0_leastRagged 103 = .ok (.iconst 0, 1) := dk_3 (dk_at dksX0_leastRagged_4 10 rfl rfl)
theorem dX0_leastRagged_104 : decode cX0_leastRagged 104 = .ok (.iaload, 1) := dk_46 (dk_at dksX0_leastRagged_4 11 rfl rfl)
theorem dX0_leastRagged_105 : decode cX0_leastRagged 105 = .ok (.ireturn, 1) := dk_172 (dk_at dksX0_leastRagged_4 12 rfl rfl)
abbrev cX0_leastFrom : ByteArray := prog_1_method_81_code
def yX0_leastFrom : MethodName := ⟨RX0, "leastFrom", "([II)I"⟩
def dkwX0_leastFrom_3 : List UInt8 := [184, 1, 122, 62, 132, 5, 1, 167, 255, 187, 29, 172]
abbrev dktX0_leastFrom_3 : List UInt8 := dkwX0_leastFrom_3 ++ []
def dkwX0_leastFrom_2 : List UInt8 := [190, 160, 0, 7, 3, 167, 0, 19, 42, 21, 4, 182, 1, 143, 42, 180, 0, 83, 21, 5, 4, 96, 46, 96]
abbrev dktX0_leastFrom_2 : List UInt8 := dkwX0_leastFrom_2 ++ dktX0_leastFrom_3
def dkwX0_leastFrom_1 : List UInt8 := [96, 96, 54, 4, 21, 4, 42, 182, 0, 187, 180, 1, 15, 164, 0, 5, 29, 172, 29, 21, 5, 4, 96, 43]
abbrev dktX0_leastFrom_1 : List UInt8 := dkwX0_leastFrom_1 ++ dktX0_leastFrom_2
def dkwX0_leastFrom_0 : List UInt8 := [19, 1, 150, 62, 2, 54, 4, 28, 54, 5, 21, 5, 43, 190, 162, 0, 68, 21, 4, 4, 43, 21, 5, 46]
abbrev dktX0_leastFrom_0 : List UInt8 := dkwX0_leastFrom_0 ++ dktX0_leastFrom_1
theorem dksX0_leastFrom_0 : cX0_leastFrom.data.toList.drop 0 = dktX0_leastFrom_0 := by decide +kernel
theorem dksX0_leastFrom_1 : cX0_leastFrom.data.toList.drop 24 = dktX0_leastFrom_1 := dk_seg dksX0_leastFrom_0 24 rfl rfl
theorem dksX0_leastFrom_2 : cX0_leastFrom.data.toList.drop 48 = dktX0_leastFrom_2 := dk_seg dksX0_leastFrom_1 24 rfl rfl
theorem dksX0_leastFrom_3 : cX0_leastFrom.data.toList.drop 72 = dktX0_leastFrom_3 := dk_seg dksX0_leastFrom_2 24 rfl rfl
theorem dX0_leastFrom_0 : decode cX0_leastFrom 0 = .ok (.ldc_w 406, 3) := dk_19 1 150 (dk_at dksX0_leastFrom_0 0 rfl rfl)
theorem dX0_leastFrom_3 : decode cX0_leastFrom 3 = .ok (.istore_n 3, 1) := dk_62 (dk_at dksX0_leastFrom_0 3 rfl rfl)
theorem dX0_leastFrom_4 : decode cX0_leastFrom 4 = .ok (.iconst (-1), 1) := dk_2 (dk_at dksX0_leastFrom_0 4 rfl rfl)
theorem dX0_leastFrom_5 : decode cX0_leastFrom 5 = .ok (.istore 4, 2) := dk_54 4 (dk_at dksX0_leastFrom_0 5 rfl rfl)
theorem dX0_leastFrom_7 : decode cX0_leastFrom 7 = .ok (.iload_n 2, 1) := dk_28 (dk_at dksX0_leastFrom_0 7 rfl rfl)
theorem dX0_leastFrom_8 : decode cX0_leastFrom 8 = .ok (.istore 5, 2) := dk_54 5 (dk_at dksX0_leastFrom_0 8 rfl rfl)
theorem dX0_leastFrom_10 : decode cX0_leastFrom 10 = .ok (.iload 5, 2) := dk_21 5 (dk_at dksX0_leastFrom_0 10 rfl rfl)
theorem dX0_leastFrom_12 : decode cX0_leastFrom 12 = .ok (.aload_n 1, 1) := dk_43 (dk_at dksX0_leastFrom_0 12 rfl rfl)
theorem dX0_leastFrom_13 : decode cX0_leastFrom 13 = .ok (.arraylength, 1) := dk_190 (dk_at dksX0_leastFrom_0 13 rfl rfl)
theorem dX0_leastFrom_14 : decode cX0_leastFrom 14 = .ok (.if_icmp .ge 68, 3) := dk_162 0 68 (dk_at dksX0_leastFrom_0 14 rfl rfl)
theorem dX0_leastFrom_17 : decode cX0_leastFrom 17 = .ok (.iload 4, 2) := dk_21 4 (dk_at dksX0_leastFrom_0 17 rfl rfl)
theorem dX0_leastFrom_19 : decode cX0_leastFrom 19 = .ok (.iconst 1, 1) := dk_4 (dk_at dksX0_leastFrom_0 19 rfl rfl)
theorem dX0_leastFrom_20 : decode cX0_leastFrom 20 = .ok (.aload_n 1, 1) := dk_43 (dk_at dksX0_leastFrom_0 20 rfl rfl)
theorem dX0_leastFrom_21 : decode cX0_leastFrom 21 = .ok (.iload 5, 2) := dk_21 5 (dk_at dksX0_leastFrom_0 21 rfl rfl)
theorem dX0_leastFrom_23 : decode cX0_leastFrom 23 = .ok (.iaload, 1) := dk_46 (dk_at dksX0_leastFrom_0 23 rfl rfl)
theorem dX0_leastFrom_24 : decode cX0_leastFrom 24 = .ok (.iadd, 1) := dk_96 (dk_at dksX0_leastFrom_1 0 rfl rfl)
theorem dX0_leastFrom_25 : decode cX0_leastFrom 25 = .ok (.iadd, 1) := dk_96 (dk_at dksX0_leastFrom_1 1 rfl rfl)
theorem dX0_leastFrom_26 : decode cX0_leastFrom 26 = .ok (.istore 4, 2) := dk_54 4 (dk_at dksX0_leastFrom_1 2 rfl rfl)
theorem dX0_leastFrom_28 : decode cX0_leastFrom 28 = .ok (.iload 4, 2) := dk_21 4 (dk_at dksX0_leastFrom_1 4 rfl rfl)
theorem dX0_leastFrom_30 : decode cX0_leastFrom 30 = .ok (.aload_n 0, 1) := dk_42 (dk_at dksX0_leastFrom_1 6 rfl rfl)
theorem dX0_leastFrom_31 : decode cX0_leastFrom 31 = .ok (.invokevirtual 187, 3) := dk_182 0 187 (dk_at dksX0_leastFrom_1 7 rfl rfl)
theorem dX0_leastFrom_34 : decode cX0_leastFrom 34 = .ok (.getfield 271, 3) := dk_180 1 15 (dk_at dksX0_leastFrom_1 10 rfl rfl)
theorem dX0_leastFrom_37 : decode cX0_leastFrom 37 = .ok (.if_icmp .le 5, 3) := dk_164 0 5 (dk_at dksX0_leastFrom_1 13 rfl rfl)
theorem dX0_leastFrom_40 : decode cX0_leastFrom 40 = .ok (.iload_n 3, 1) := dk_29 (dk_at dksX0_leastFrom_1 16 rfl rfl)
theorem dX0_leastFrom_41 : decode cX0_leastFrom 41 = .ok (.ireturn, 1) := dk_172 (dk_at dksX0_leastFrom_1 17 rfl rfl)
theorem dX0_leastFrom_42 : decode cX0_leastFrom 42 = .ok (.iload_n 3, 1) := dk_29 (dk_at dksX0_leastFrom_1 18 rfl rfl)
theorem dX0_leastFrom_43 : decode cX0_leastFrom 43 = .ok (.iload 5, 2) := dk_21 5 (dk_at dksX0_leastFrom_1 19 rfl rfl)
theorem dX0_leastFrom_45 : decode cX0_leastFrom 45 = .ok (.iconst 1, 1) := dk_4 (dk_at dksX0_leastFrom_1 21 rfl rfl)
theorem dX0_leastFrom_46 : decode cX0_leastFrom 46 = .ok (.iadd, 1) := dk_96 (dk_at dksX0_leastFrom_1 22 rfl rfl)
theorem dX0_leastFrom_47 : decode cX0_leastFrom 47 = .ok (.aload_n 1, 1) := dk_43 (dk_at dksX0_leastFrom_1 23 rfl rfl)
theorem dX0_leastFrom_48 : decode cX0_leastFrom 48 = .ok (.arraylength, 1) := dk_190 (dk_at dksX0_leastFrom_2 0 rfl rfl)
theorem dX0_leastFrom_49 : decode cX0_leastFrom 49 = .ok (.if_icmp .ne 7, 3) := dk_160 0 7 (dk_at dksX0_leastFrom_2 1 rfl rfl)
theorem dX0_leastFrom_52 : decode cX0_leastFrom 52 = .ok (.iconst 0, 1) := dk_3 (dk_at dksX0_leastFrom_2 4 rfl rfl)
theorem dX0_leastFrom_53 : decode cX0_leastFrom 53 = .ok (.goto 19, 3) := dk_167 0 19 (dk_at dksX0_leastFrom_2 5 rfl rfl)
theorem dX0_leastFrom_56 : decode cX0_leastFrom 56 = .ok (.aload_n 0, 1) := dk_42 (dk_at dksX0_leastFrom_2 8 rfl rfl)
theorem dX0_leastFrom_57 : decode cX0_leastFrom 57 = .ok (.iload 4, 2) := dk_21 4 (dk_at dksX0_leastFrom_2 9 rfl rfl)
theorem dX0_leastFrom_59 : decode cX0_leastFrom 59 = .ok (.invokevirtual 399, 3) := dk_182 1 143 (dk_at dksX0_leastFrom_2 11 rfl rfl)
theorem dX0_leastFrom_62 : decode cX0_leastFrom 62 = .ok (.aload_n 0, 1) := dk_42 (dk_at dksX0_leastFrom_2 14 rfl rfl)
theorem dX0_leastFrom_63 : decode cX0_leastFrom 63 = .ok (.getfield 83, 3) := dk_180 0 83 (dk_at dksX0_leastFrom_2 15 rfl rfl)
theorem dX0_leastFrom_66 : decode cX0_leastFrom 66 = .ok (.iload 5, 2) := dk_21 5 (dk_at dksX0_leastFrom_2 18 rfl rfl)
theorem dX0_leastFrom_68 : decode cX0_leastFrom 68 = .ok (.iconst 1, 1) := dk_4 (dk_at dksX0_leastFrom_2 20 rfl rfl)
theorem dX0_leastFrom_69 : decode cX0_leastFrom 69 = .ok (.iadd, 1) := dk_96 (dk_at dksX0_leastFrom_2 21 rfl rfl)
theorem dX0_leastFrom_70 : decode cX0_leastFrom 70 = .ok (.iaload, 1) := dk_46 (dk_at dksX0_leastFrom_2 22 rfl rfl)
theorem dX0_leastFrom_71 : decode cX0_leastFrom 71 = .ok (.iadd, 1) := dk_96 (dk_at dksX0_leastFrom_2 23 rfl rfl)
theorem dX0_leastFrom_72 : decode cX0_leastFrom 72 = .ok (.invokestatic 378, 3) := dk_184 1 122 (dk_at dksX0_leastFrom_3 0 rfl rfl)
theorem dX0_leastFrom_75 : decode cX0_leastFrom 75 = .ok (.istore_n 3, 1) := dk_62 (dk_at dksX0_leastFrom_3 3 rfl rfl)
theorem dX0_leastFrom_76 : decode cX0_leastFrom 76 = .ok (.iinc 5 1, 3) := dk_132 5 1 (dk_at dksX0_leastFrom_3 4 rfl rfl)
theorem dX0_leastFrom_79 : decode cX0_leastFrom 79 = .ok (.goto (-69), 3) := dk_167 255 187 (dk_at dksX0_leastFrom_3 7 rfl rfl)
theorem dX0_leastFrom_82 : decode cX0_leastFrom 82 = .ok (.iload_n 3, 1) := dk_29 (dk_at dksX0_leastFrom_3 10 rfl rfl)
theorem dX0_leastFrom_83 : decode cX0_leastFrom 83 = .ok (.ireturn, 1) := dk_172 (dk_at dksX0_leastFrom_3 11 rfl rfl)
abbrev cX0_ways : ByteArray := prog_1_method_86_code
def yX0_ways : MethodName := ⟨RX0, "ways", "(II)I"⟩
def dkwX0_ways_1 : List UInt8 := [182, 1, 174, 172, 78, 42, 45, 182, 0, 171, 172]
abbrev dktX0_ways_1 : List UInt8 := dkwX0_ways_1 ++ []
def dkwX0_ways_0 : List UInt8 := [42, 3, 181, 0, 114, 42, 27, 28, 4, 42, 180, 0, 86, 182, 1, 167, 42, 182, 1, 171, 42, 28]
abbrev dktX0_ways_0 : List UInt8 := dkwX0_ways_0 ++ dktX0_ways_1
theorem dksX0_ways_0 : cX0_ways.data.toList.drop 0 = dktX0_ways_0 := by decide +kernel
theorem dksX0_ways_1 : cX0_ways.data.toList.drop 22 = dktX0_ways_1 := dk_seg dksX0_ways_0 22 rfl rfl
theorem dX0_ways_0 : decode cX0_ways 0 = .ok (.aload_n 0, 1) := dk_42 (dk_at dksX0_ways_0 0 rfl rfl)
theorem dX0_ways_1 : decode cX0_ways 1 = .ok (.iconst 0, 1) := dk_3 (dk_at dksX0_ways_0 1 rfl rfl)
theorem dX0_ways_2 : decode cX0_ways 2 = .ok (.putfield 114, 3) := dk_181 0 114 (dk_at dksX0_ways_0 2 rfl rfl)
theorem dX0_ways_5 : decode cX0_ways 5 = .ok (.aload_n 0, 1) := dk_42 (dk_at dksX0_ways_0 5 rfl rfl)
theorem dX0_ways_6 : decode cX0_ways 6 = .ok (.iload_n 1, 1) := dk_27 (dk_at dksX0_ways_0 6 rfl rfl)
theorem dX0_ways_7 : decode cX0_ways 7 = .ok (.iload_n 2, 1) := dk_28 (dk_at dksX0_ways_0 7 rfl rfl)
theorem dX0_ways_8 : decode cX0_ways 8 = .ok (.iconst 1, 1) := dk_4 (dk_at dksX0_ways_0 8 rfl rfl)
theorem dX0_ways_9 : decode cX0_ways 9 = .ok (.aload_n 0, 1) := dk_42 (dk_at dksX0_ways_0 9 rfl rfl)
theorem dX0_ways_10 : decode cX0_ways 10 = .ok (.getfield 86, 3) := dk_180 0 86 (dk_at dksX0_ways_0 10 rfl rfl)
theorem dX0_ways_13 : decode cX0_ways 13 = .ok (.invokevirtual 423, 3) := dk_182 1 167 (dk_at dksX0_ways_0 13 rfl rfl)
theorem dX0_ways_16 : decode cX0_ways 16 = .ok (.aload_n 0, 1) := dk_42 (dk_at dksX0_ways_0 16 rfl rfl)
theorem dX0_ways_17 : decode cX0_ways 17 = .ok (.invokevirtual 427, 3) := dk_182 1 171 (dk_at dksX0_ways_0 17 rfl rfl)
theorem dX0_ways_20 : decode cX0_ways 20 = .ok (.aload_n 0, 1) := dk_42 (dk_at dksX0_ways_0 20 rfl rfl)
theorem dX0_ways_21 : decode cX0_ways 21 = .ok (.iload_n 2, 1) := dk_28 (dk_at dksX0_ways_0 21 rfl rfl)
theorem dX0_ways_22 : decode cX0_ways 22 = .ok (.invokevirtual 430, 3) := dk_182 1 174 (dk_at dksX0_ways_1 0 rfl rfl)
theorem dX0_ways_25 : decode cX0_ways 25 = .ok (.ireturn, 1) := dk_172 (dk_at dksX0_ways_1 3 rfl rfl)
theorem dX0_ways_26 : decode cX0_ways 26 = .ok (.astore_n 3, 1) := dk_78 (dk_at dksX0_ways_1 4 rfl rfl)
theorem dX0_ways_27 : decode cX0_ways 27 = .ok (.aload_n 0, 1) := dk_42 (dk_at dksX0_ways_1 5 rfl rfl)
theorem dX0_ways_28 : decode cX0_ways 28 = .ok (.aload_n 3, 1) := dk_45 (dk_at dksX0_ways_1 6 rfl rfl)
theorem dX0_ways_29 : decode cX0_ways 29 = .ok (.invokevirtual 171, 3) := dk_182 0 171 (dk_at dksX0_ways_1 7 rfl rfl)
theorem dX0_ways_32 : decode cX0_ways 32 = .ok (.ireturn, 1) := dk_172 (dk_at dksX0_ways_1 10 rfl rfl)
abbrev cX0_reads : ByteArray := prog_1_method_82_code
def yX0_reads : MethodName := ⟨RX0, "reads", "(III[I)V"⟩
def dkwX0_reads_4 : List UInt8 := [25, 4, 21, 6, 25, 5, 21, 6, 184, 0, 165, 136, 79, 132, 6, 1, 167, 255, 214, 177]
abbrev dktX0_reads_4 : List UInt8 := dkwX0_reads_4 ++ []
def dkwX0_reads_3 : List UInt8 := [162, 0, 42, 42, 25, 5, 21, 6, 184, 0, 165, 29, 133, 20, 1, 138, 184, 0, 195, 8, 182, 0, 139]
abbrev dktX0_reads_3 : List UInt8 := dkwX0_reads_3 ++ dktX0_reads_4
def dkwX0_reads_2 : List UInt8 := [184, 1, 155, 28, 161, 0, 7, 4, 167, 0, 4, 3, 6, 182, 0, 139, 3, 54, 6, 21, 6, 28]
abbrev dktX0_reads_2 : List UInt8 := dkwX0_reads_2 ++ dktX0_reads_3
def dkwX0_reads_1 : List UInt8 := [153, 0, 7, 4, 167, 0, 4, 3, 4, 182, 0, 139, 42, 27, 182, 0, 155, 58, 5, 42, 25, 5]
abbrev dktX0_reads_1 : List UInt8 := dkwX0_reads_1 ++ dktX0_reads_2
def dkwX0_reads_0 : List UInt8 := [42, 27, 133, 9, 20, 1, 151, 184, 0, 195, 153, 0, 19, 28, 133, 10, 20, 1, 153, 184, 0, 195]
abbrev dktX0_reads_0 : List UInt8 := dkwX0_reads_0 ++ dktX0_reads_1
theorem dksX0_reads_0 : cX0_reads.data.toList.drop 0 = dktX0_reads_0 := by decide +kernel
theorem dksX0_reads_1 : cX0_reads.data.toList.drop 22 = dktX0_reads_1 := dk_seg dksX0_reads_0 22 rfl rfl
theorem dksX0_reads_2 : cX0_reads.data.toList.drop 44 = dktX0_reads_2 := dk_seg dksX0_reads_1 22 rfl rfl
theorem dksX0_reads_3 : cX0_reads.data.toList.drop 66 = dktX0_reads_3 := dk_seg dksX0_reads_2 22 rfl rfl
theorem dksX0_reads_4 : cX0_reads.data.toList.drop 89 = dktX0_reads_4 := dk_seg dksX0_reads_3 23 rfl rfl
theorem dX0_reads_0 : decode cX0_reads 0 = .ok (.aload_n 0, 1) := dk_42 (dk_at dksX0_reads_0 0 rfl rfl)
theorem dX0_reads_1 : decode cX0_reads 1 = .ok (.iload_n 1, 1) := dk_27 (dk_at dksX0_reads_0 1 rfl rfl)
theorem dX0_reads_2 : decode cX0_reads 2 = .ok (.i2l, 1) := dk_133 (dk_at dksX0_reads_0 2 rfl rfl)
theorem dX0_reads_3 : decode cX0_reads 3 = .ok (.lconst 0, 1) := dk_9 (dk_at dksX0_reads_0 3 rfl rfl)
theorem dX0_reads_4 : decode cX0_reads 4 = .ok (.ldc2_w 407, 3) := dk_20 1 151 (dk_at dksX0_reads_0 4 rfl rfl)
theorem dX0_reads_7 : decode cX0_reads 7 = .ok (.invokestatic 195, 3) := dk_184 0 195 (dk_at dksX0_reads_0 7 rfl rfl)
theorem dX0_reads_10 : decode cX0_reads 10 = .ok (.ifCond .eq 19, 3) := dk_153 0 19 (dk_at dksX0_reads_0 10 rfl rfl)
theorem dX0_reads_13 : decode cX0_reads 13 = .ok (.iload_n 2, 1) := dk_28 (dk_at dksX0_reads_0 13 rfl rfl)
theorem dX0_reads_14 : decode cX0_reads 14 = .ok (.i2l, 1) := dk_133 (dk_at dksX0_reads_0 14 rfl rfl)
theorem dX0_reads_15 : decode cX0_reads 15 = .ok (.lconst 1, 1) := dk_10 (dk_at dksX0_reads_0 15 rfl rfl)
theorem dX0_reads_16 : decode cX0_reads 16 = .ok (.ldc2_w 409, 3) := dk_20 1 153 (dk_at dksX0_reads_0 16 rfl rfl)
theorem dX0_reads_19 : decode cX0_reads 19 = .ok (.invokestatic 195, 3) := dk_184 0 195 (dk_at dksX0_reads_0 19 rfl rfl)
theorem dX0_reads_22 : decode cX0_reads 22 = .ok (.ifCond .eq 7, 3) := dk_153 0 7 (dk_at dksX0_reads_1 0 rfl rfl)
theorem dX0_reads_25 : decode cX0_reads 25 = .ok (.iconst 1, 1) := dk_4 (dk_at dksX0_reads_1 3 rfl rfl)
theorem dX0_reads_26 : decode cX0_reads 26 = .ok (.goto 4, 3) := dk_167 0 4 (dk_at dksX0_reads_1 4 rfl rfl)
theorem dX0_reads_29 : decode cX0_reads 29 = .ok (.iconst 0, 1) := dk_3 (dk_at dksX0_reads_1 7 rfl rfl)
theorem dX0_reads_30 : decode cX0_reads 30 = .ok (.iconst 1, 1) := dk_4 (dk_at dksX0_reads_1 8 rfl rfl)
theorem dX0_reads_31 : decode cX0_reads 31 = .ok (.invokevirtual 139, 3) := dk_182 0 139 (dk_at dksX0_reads_1 9 rfl rfl)
theorem dX0_reads_34 : decode cX0_reads 34 = .ok (.aload_n 0, 1) := dk_42 (dk_at dksX0_reads_1 12 rfl rfl)
theorem dX0_reads_35 : decode cX0_reads 35 = .ok (.iload_n 1, 1) := dk_27 (dk_at dksX0_reads_1 13 rfl rfl)
theorem dX0_reads_36 : decode cX0_reads 36 = .ok (.invokevirtual 155, 3) := dk_182 0 155 (dk_at dksX0_reads_1 14 rfl rfl)
theorem dX0_reads_39 : decode cX0_reads 39 = .ok (.astore 5, 2) := dk_58 5 (dk_at dksX0_reads_1 17 rfl rfl)
theorem dX0_reads_41 : decode cX0_reads 41 = .ok (.aload_n 0, 1) := dk_42 (dk_at dksX0_reads_1 19 rfl rfl)
theorem dX0_reads_42 : decode cX0_reads 42 = .ok (.aload 5, 2) := dk_25 5 (dk_at dksX0_reads_1 20 rfl rfl)
theorem dX0_reads_44 : decode cX0_reads 44 = .ok (.invokestatic 411, 3) := dk_184 1 155 (dk_at dksX0_reads_2 0 rfl rfl)
theorem dX0_reads_47 : decode cX0_reads 47 = .ok (.iload_n 2, 1) := dk_28 (dk_at dksX0_reads_2 3 rfl rfl)
theorem dX0_reads_48 : decode cX0_reads 48 = .ok (.if_icmp .lt 7, 3) := dk_161 0 7 (dk_at dksX0_reads_2 4 rfl rfl)
theorem dX0_reads_51 : decode cX0_reads 51 = .ok (.iconst 1, 1) := dk_4 (dk_at dksX0_reads_2 7 rfl rfl)
theorem dX0_reads_52 : decode cX0_reads 52 = .ok (.goto 4, 3) := dk_167 0 4 (dk_at dksX0_reads_2 8 rfl rfl)
theorem dX0_reads_55 : decode cX0_reads 55 = .ok (.iconst 0, 1) := dk_3 (dk_at dksX0_reads_2 11 rfl rfl)
theorem dX0_reads_56 : decode cX0_reads 56 = .ok (.iconst 3, 1) := dk_6 (dk_at dksX0_reads_2 12 rfl rfl)
theorem dX0_reads_57 : decode cX0_reads 57 = .ok (.invokevirtual 139, 3) := dk_182 0 139 (dk_at dksX0_reads_2 13 rfl rfl)
theorem dX0_reads_60 : decode cX0_reads 60 = .ok (.iconst 0, 1) := dk_3 (dk_at dksX0_reads_2 16 rfl rfl)
theorem dX0_reads_61 : decode cX0_reads 61 = .ok (.istore 6, 2) := dk_54 6 (dk_at dksX0_reads_2 17 rfl rfl)
theorem dX0_reads_63 : decode cX0_reads 63 = .ok (.iload 6, 2) := dk_21 6 (dk_at dksX0_reads_2 19 rfl rfl)
theorem dX0_reads_65 : decode cX0_reads 65 = .ok (.iload_n 2, 1) := dk_28 (dk_at dksX0_reads_2 21 rfl rfl)
theorem dX0_reads_66 : decode cX0_reads 66 = .ok (.if_icmp .ge 42, 3) := dk_162 0 42 (dk_at dksX0_reads_3 0 rfl rfl)
theorem dX0_reads_69 : decode cX0_reads 69 = .ok (.aload_n 0, 1) := dk_42 (dk_at dksX0_reads_3 3 rfl rfl)
theorem dX0_reads_70 : decode cX0_reads 70 = .ok (.aload 5, 2) := dk_25 5 (dk_at dksX0_reads_3 4 rfl rfl)
theorem dX0_reads_72 : decode cX0_reads 72 = .ok (.iload 6, 2) := dk_21 6 (dk_at dksX0_reads_3 6 rfl rfl)
theorem dX0_reads_74 : decode cX0_reads 74 = .ok (.invokestatic 165, 3) := dk_184 0 165 (dk_at dksX0_reads_3 8 rfl rfl)
theorem dX0_reads_77 : decode cX0_reads 77 = .ok (.iload_n 3, 1) := dk_29 (dk_at dksX0_reads_3 11 rfl rfl)
theorem dX0_reads_78 : decode cX0_reads 78 = .ok (.i2l, 1) := dk_133 (dk_at dksX0_reads_3 12 rfl rfl)
theorem dX0_reads_79 : decode cX0_reads 79 = .ok (.ldc2_w 394, 3) := dk_20 1 138 (dk_at dksX0_reads_3 13 rfl rfl)
theorem dX0_reads_82 : decode cX0_reads 82 = .ok (.invokestatic 195, 3) := dk_184 0 195 (dk_at dksX0_reads_3 16 rfl rfl)
theorem dX0_reads_85 : decode cX0_reads 85 = .ok (.iconst 5, 1) := dk_8 (dk_at dksX0_reads_3 19 rfl rfl)
theorem dX0_reads_86 : decode cX0_reads 86 = .ok (.invokevirtual 139, 3) := dk_182 0 139 (dk_at dksX0_reads_3 20 rfl rfl)
theorem dX0_reads_89 : decode cX0_reads 89 = .ok (.aload 4, 2) := dk_25 4 (dk_at dksX0_reads_4 0 rfl rfl)
theorem dX0_reads_91 : decode cX0_reads 91 = .ok (.iload 6, 2) := dk_21 6 (dk_at dksX0_reads_4 2 rfl rfl)
theorem dX0_reads_93 : decode cX0_reads 93 = .ok (.aload 5, 2) := dk_25 5 (dk_at dksX0_reads_4 4 rfl rfl)
theorem dX0_reads_95 : decode cX0_reads 95 = .ok (.iload 6, 2) := dk_21 6 (dk_at dksX0_reads_4 6 rfl rfl)
theorem dX0_reads_97 : decode cX0_reads 97 = .ok (.invokestatic 165, 3) := dk_184 0 165 (dk_at dksX0_reads_4 8 rfl rfl)
theorem dX0_reads_100 : decode cX0_reads 100 = .ok (.l2i, 1) := dk_136 (dk_at dksX0_reads_4 11 rfl rfl)
theorem dX0_reads_101 : decode cX0_reads 101 = .ok (.iastore, 1) := dk_79 (dk_at dksX0_reads_4 12 rfl rfl)
theorem dX0_reads_102 : decode cX0_reads 102 = .ok (.iinc 6 1, 3) := dk_132 6 1 (dk_at dksX0_reads_4 13 rfl rfl)
theorem dX0_reads_105 : decode cX0_reads 105 = .ok (.goto (-42), 3) := dk_167 255 214 (dk_at dksX0_reads_4 16 rfl rfl)
theorem dX0_reads_108 : decode cX0_reads 108 = .ok (.return_, 1) := dk_177 (dk_at dksX0_reads_4 19 rfl rfl)
abbrev cX0_sizeOf : ByteArray := prog_1_method_3_code
def yX0_sizeOf : MethodName := ⟨RX0, "sizeOf", "(Ljava/lang/Object;)I"⟩
def dkwX0_sizeOf_2 : List UInt8 := [42, 192, 0, 7, 190, 172]
abbrev dktX0_sizeOf_2 : List UInt8 := dkwX0_sizeOf_2 ++ []
def dkwX0_sizeOf_1 : List UInt8 := [192, 0, 3, 76, 43, 190, 172, 42, 193, 0, 5, 153, 0, 13, 42, 192, 0, 5, 76, 43, 190, 167, 0, 8]
abbrev dktX0_sizeOf_1 : List UInt8 := dkwX0_sizeOf_1 ++ dktX0_sizeOf_2
def dkwX0_sizeOf_0 : List UInt8 := [42, 193, 0, 1, 153, 0, 11, 42, 192, 0, 1, 76, 43, 190, 172, 42, 193, 0, 3, 153, 0, 11, 42]
abbrev dktX0_sizeOf_0 : List UInt8 := dkwX0_sizeOf_0 ++ dktX0_sizeOf_1
theorem dksX0_sizeOf_0 : cX0_sizeOf.data.toList.drop 0 = dktX0_sizeOf_0 := by decide +kernel
theorem dksX0_sizeOf_1 : cX0_sizeOf.data.toList.drop 23 = dktX0_sizeOf_1 := dk_seg dksX0_sizeOf_0 23 rfl rfl
theorem dksX0_sizeOf_2 : cX0_sizeOf.data.toList.drop 47 = dktX0_sizeOf_2 := dk_seg dksX0_sizeOf_1 24 rfl rfl
theorem dX0_sizeOf_0 : decode cX0_sizeOf 0 = .ok (.aload_n 0, 1) := dk_42 (dk_at dksX0_sizeOf_0 0 rfl rfl)
theorem dX0_sizeOf_1 : decode cX0_sizeOf 1 = .ok (.instanceof 1, 3) := dk_193 0 1 (dk_at dksX0_sizeOf_0 1 rfl rfl)
theorem dX0_sizeOf_4 : decode cX0_sizeOf 4 = .ok (.ifCond .eq 11, 3) := dk_153 0 11 (dk_at dksX0_sizeOf_0 4 rfl rfl)
theorem dX0_sizeOf_7 : decode cX0_sizeOf 7 = .ok (.aload_n 0, 1) := dk_42 (dk_at dksX0_sizeOf_0 7 rfl rfl)
theorem dX0_sizeOf_8 : decode cX0_sizeOf 8 = .ok (.checkcast 1, 3) := dk_192 0 1 (dk_at dksX0_sizeOf_0 8 rfl rfl)
theorem dX0_sizeOf_11 : decode cX0_sizeOf 11 = .ok (.astore_n 1, 1) := dk_76 (dk_at dksX0_sizeOf_0 11 rfl rfl)
theorem dX0_sizeOf_12 : decode cX0_sizeOf 12 = .ok (.aload_n 1, 1) := dk_43 (dk_at dksX0_sizeOf_0 12 rfl rfl)
theorem dX0_sizeOf_13 : decode cX0_sizeOf 13 = .ok (.arraylength, 1) := dk_190 (dk_at dksX0_sizeOf_0 13 rfl rfl)
theorem dX0_sizeOf_14 : decode cX0_sizeOf 14 = .ok (.ireturn, 1) := dk_172 (dk_at dksX0_sizeOf_0 14 rfl rfl)
theorem dX0_sizeOf_15 : decode cX0_sizeOf 15 = .ok (.aload_n 0, 1) := dk_42 (dk_at dksX0_sizeOf_0 15 rfl rfl)
theorem dX0_sizeOf_16 : decode cX0_sizeOf 16 = .ok (.instanceof 3, 3) := dk_193 0 3 (dk_at dksX0_sizeOf_0 16 rfl rfl)
theorem dX0_sizeOf_19 : decode cX0_sizeOf 19 = .ok (.ifCond .eq 11, 3) := dk_153 0 11 (dk_at dksX0_sizeOf_0 19 rfl rfl)
theorem dX0_sizeOf_22 : decode cX0_sizeOf 22 = .ok (.aload_n 0, 1) := dk_42 (dk_at dksX0_sizeOf_0 22 rfl rfl)
theorem dX0_sizeOf_23 : decode cX0_sizeOf 23 = .ok (.checkcast 3, 3) := dk_192 0 3 (dk_at dksX0_sizeOf_1 0 rfl rfl)
theorem dX0_sizeOf_26 : decode cX0_sizeOf 26 = .ok (.astore_n 1, 1) := dk_76 (dk_at dksX0_sizeOf_1 3 rfl rfl)
theorem dX0_sizeOf_27 : decode cX0_sizeOf 27 = .ok (.aload_n 1, 1) := dk_43 (dk_at dksX0_sizeOf_1 4 rfl rfl)
theorem dX0_sizeOf_28 : decode cX0_sizeOf 28 = .ok (.arraylength, 1) := dk_190 (dk_at dksX0_sizeOf_1 5 rfl rfl)
theorem dX0_sizeOf_29 : decode cX0_sizeOf 29 = .ok (.ireturn, 1) := dk_172 (dk_at dksX0_sizeOf_1 6 rfl rfl)
theorem dX0_sizeOf_30 : decode cX0_sizeOf 30 = .ok (.aload_n 0, 1) := dk_42 (dk_at dksX0_sizeOf_1 7 rfl rfl)
theorem dX0_sizeOf_31 : decode cX0_sizeOf 31 = .ok (.instanceof 5, 3) := dk_193 0 5 (dk_at dksX0_sizeOf_1 8 rfl rfl)
theorem dX0_sizeOf_34 : decode cX0_sizeOf 34 = .ok (.ifCond .eq 13, 3) := dk_153 0 13 (dk_at dksX0_sizeOf_1 11 rfl rfl)
theorem dX0_sizeOf_37 : decode cX0_sizeOf 37 = .ok (.aload_n 0, 1) := dk_42 (dk_at dksX0_sizeOf_1 14 rfl rfl)
theorem dX0_sizeOf_38 : decode cX0_sizeOf 38 = .ok (.checkcast 5, 3) := dk_192 0 5 (dk_at dksX0_sizeOf_1 15 rfl rfl)
theorem dX0_sizeOf_41 : decode cX0_sizeOf 41 = .ok (.astore_n 1, 1) := dk_76 (dk_at dksX0_sizeOf_1 18 rfl rfl)
theorem dX0_sizeOf_42 : decode cX0_sizeOf 42 = .ok (.aload_n 1, 1) := dk_43 (dk_at dksX0_sizeOf_1 19 rfl rfl)
theorem dX0_sizeOf_43 : decode cX0_sizeOf 43 = .ok (.arraylength, 1) := dk_190 (dk_at dksX0_sizeOf_1 20 rfl rfl)
theorem dX0_sizeOf_44 : decode cX0_sizeOf 44 = .ok (.goto 8, 3) := dk_167 0 8 (dk_at dksX0_sizeOf_1 21 rfl rfl)
theorem dX0_sizeOf_47 : decode cX0_sizeOf 47 = .ok (.aload_n 0, 1) := dk_42 (dk_at dksX0_sizeOf_2 0 rfl rfl)
theorem dX0_sizeOf_48 : decode cX0_sizeOf 48 = .ok (.checkcast 7, 3) := dk_192 0 7 (dk_at dksX0_sizeOf_2 1 rfl rfl)
theorem dX0_sizeOf_51 : decode cX0_sizeOf 51 = .ok (.arraylength, 1) := dk_190 (dk_at dksX0_sizeOf_2 4 rfl rfl)
theorem dX0_sizeOf_52 : decode cX0_sizeOf 52 = .ok (.ireturn, 1) := dk_172 (dk_at dksX0_sizeOf_2 5 rfl rfl)
abbrev cX0_noneFails : ByteArray := prog_1_method_85_code
def yX0_noneFails : MethodName := ⟨RX0, "noneFails", "()V"⟩
def dkwX0_noneFails_0 : List UInt8 := [3, 60, 27, 16, 20, 162, 0, 16, 42, 180, 0, 89, 27, 3, 79, 132, 1, 1, 167, 255, 240, 177]
abbrev dktX0_noneFails_0 : List UInt8 := dkwX0_noneFails_0 ++ []
theorem dksX0_noneFails_0 : cX0_noneFails.data.toList.drop 0 = dktX0_noneFails_0 := by decide +kernel
theorem dX0_noneFails_0 : decode cX0_noneFails 0 = .ok (.iconst 0, 1) := dk_3 (dk_at dksX0_noneFails_0 0 rfl rfl)
theorem dX0_noneFails_1 : decode cX0_noneFails 1 = .ok (.istore_n 1, 1) := dk_60 (dk_at dksX0_noneFails_0 1 rfl rfl)
theorem dX0_noneFails_2 : decode cX0_noneFails 2 = .ok (.iload_n 1, 1) := dk_27 (dk_at dksX0_noneFails_0 2 rfl rfl)
theorem dX0_noneFails_3 : decode cX0_noneFails 3 = .ok (.bipush 20, 2) := dk_16 20 (dk_at dksX0_noneFails_0 3 rfl rfl)
theorem dX0_noneFails_5 : decode cX0_noneFails 5 = .ok (.if_icmp .ge 16, 3) := dk_162 0 16 (dk_at dksX0_noneFails_0 5 rfl rfl)
theorem dX0_noneFails_8 : decode cX0_noneFails 8 = .ok (.aload_n 0, 1) := dk_42 (dk_at dksX0_noneFails_0 8 rfl rfl)
theorem dX0_noneFails_9 : decode cX0_noneFails 9 = .ok (.getfield 89, 3) := dk_180 0 89 (dk_at dksX0_noneFails_0 9 rfl rfl)
theorem dX0_noneFails_12 : decode cX0_noneFails 12 = .ok (.iload_n 1, 1) := dk_27 (dk_at dksX0_noneFails_0 12 rfl rfl)
theorem dX0_noneFails_13 : decode cX0_noneFails 13 = .ok (.iconst 0, 1) := dk_3 (dk_at dksX0_noneFails_0 13 rfl rfl)
theorem dX0_noneFails_14 : decode cX0_noneFails 14 = .ok (.iastore, 1) := dk_79 (dk_at dksX0_noneFails_0 14 rfl rfl)
theorem dX0_noneFails_15 : decode cX0_noneFails 15 = .ok (.iinc 1 1, 3) := dk_132 1 1 (dk_at dksX0_noneFails_0 15 rfl rfl)
theorem dX0_noneFails_18 : decode cX0_noneFails 18 = .ok (.goto (-16), 3) := dk_167 255 240 (dk_at dksX0_noneFails_0 18 rfl rfl)
theorem dX0_noneFails_21 : decode cX0_noneFails 21 = .ok (.return_, 1) := dk_177 (dk_at dksX0_noneFails_0 21 rfl rfl)
abbrev cX0_countWays : ByteArray := prog_1_method_84_code
def yX0_countWays : MethodName := ⟨RX0, "countWays", "(I)I"⟩
def dkwX0_countWays_4 : List UInt8 := [46, 172]
abbrev dktX0_countWays_4 : List UInt8 := dkwX0_countWays_4 ++ []
def dkwX0_countWays_3 : List UInt8 := [132, 4, 1, 167, 255, 204, 42, 180, 0, 92, 28, 29, 79, 132, 2, 255, 167, 255, 182, 42, 180, 0, 92, 3]
abbrev dktX0_countWays_3 : List UInt8 := dkwX0_countWays_3 ++ dktX0_countWays_4
def dkwX0_countWays_2 : List UInt8 := [42, 180, 0, 92, 28, 42, 21, 4, 182, 1, 26, 180, 1, 35, 190, 96, 46, 96, 184, 1, 122, 62]
abbrev dktX0_countWays_2 : List UInt8 := dkwX0_countWays_2 ++ dktX0_countWays_3
def dkwX0_countWays_1 : List UInt8 := [182, 0, 187, 180, 0, 190, 162, 0, 46, 42, 21, 4, 28, 27, 182, 1, 162, 153, 0, 29, 19, 1, 166, 29]
abbrev dktX0_countWays_1 : List UInt8 := dkwX0_countWays_1 ++ dktX0_countWays_2
def dkwX0_countWays_0 : List UInt8 := [42, 180, 0, 92, 27, 4, 79, 27, 4, 100, 61, 28, 155, 0, 76, 3, 62, 3, 54, 4, 21, 4, 42]
abbrev dktX0_countWays_0 : List UInt8 := dkwX0_countWays_0 ++ dktX0_countWays_1
theorem dksX0_countWays_0 : cX0_countWays.data.toList.drop 0 = dktX0_countWays_0 := by decide +kernel
theorem dksX0_countWays_1 : cX0_countWays.data.toList.drop 23 = dktX0_countWays_1 := dk_seg dksX0_countWays_0 23 rfl rfl
theorem dksX0_countWays_2 : cX0_countWays.data.toList.drop 47 = dktX0_countWays_2 := dk_seg dksX0_countWays_1 24 rfl rfl
theorem dksX0_countWays_3 : cX0_countWays.data.toList.drop 69 = dktX0_countWays_3 := dk_seg dksX0_countWays_2 22 rfl rfl
theorem dksX0_countWays_4 : cX0_countWays.data.toList.drop 93 = dktX0_countWays_4 := dk_seg dksX0_countWays_3 24 rfl rfl
theorem dX0_countWays_0 : decode cX0_countWays 0 = .ok (.aload_n 0, 1) := dk_42 (dk_at dksX0_countWays_0 0 rfl rfl)
theorem dX0_countWays_1 : decode cX0_countWays 1 = .ok (.getfield 92, 3) := dk_180 0 92 (dk_at dksX0_countWays_0 1 rfl rfl)
theorem dX0_countWays_4 : decode cX0_countWays 4 = .ok (.iload_n 1, 1) := dk_27 (dk_at dksX0_countWays_0 4 rfl rfl)
theorem dX0_countWays_5 : decode cX0_countWays 5 = .ok (.iconst 1, 1) := dk_4 (dk_at dksX0_countWays_0 5 rfl rfl)
theorem dX0_countWays_6 : decode cX0_countWays 6 = .ok (.iastore, 1) := dk_79 (dk_at dksX0_countWays_0 6 rfl rfl)
theorem dX0_countWays_7 : decode cX0_countWays 7 = .ok (.iload_n 1, 1) := dk_27 (dk_at dksX0_countWays_0 7 rfl rfl)
theorem dX0_countWays_8 : decode cX0_countWays 8 = .ok (.iconst 1, 1) := dk_4 (dk_at dksX0_countWays_0 8 rfl rfl)
theorem dX0_countWays_9 : decode cX0_countWays 9 = .ok (.isub, 1) := dk_100 (dk_at dksX0_countWays_0 9 rfl rfl)
theorem dX0_countWays_10 : decode cX0_countWays 10 = .ok (.istore_n 2, 1) := dk_61 (dk_at dksX0_countWays_0 10 rfl rfl)
theorem dX0_countWays_11 : decode cX0_countWays 11 = .ok (.iload_n 2, 1) := dk_28 (dk_at dksX0_countWays_0 11 rfl rfl)
theorem dX0_countWays_12 : decode cX0_countWays 12 = .ok (.ifCond .lt 76, 3) := dk_155 0 76 (dk_at dksX0_countWays_0 12 rfl rfl)
theorem dX0_countWays_15 : decode cX0_countWays 15 = .ok (.iconst 0, 1) := dk_3 (dk_at dksX0_countWays_0 15 rfl rfl)
theorem dX0_countWays_16 : decode cX0_countWays 16 = .ok (.istore_n 3, 1) := dk_62 (dk_at dksX0_countWays_0 16 rfl rfl)
theorem dX0_countWays_17 : decode cX0_countWays 17 = .ok (.iconst 0, 1) := dk_3 (dk_at dksX0_countWays_0 17 rfl rfl)
theorem dX0_countWays_18 : decode cX0_countWays 18 = .ok (.istore 4, 2) := dk_54 4 (dk_at dksX0_countWays_0 18 rfl rfl)
theorem dX0_countWays_20 : decode cX0_countWays 20 = .ok (.iload 4, 2) := dk_21 4 (dk_at dksX0_countWays_0 20 rfl rfl)
theorem dX0_countWays_22 : decode cX0_countWays 22 = .ok (.aload_n 0, 1) := dk_42 (dk_at dksX0_countWays_0 22 rfl rfl)
theorem dX0_countWays_23 : decode cX0_countWays 23 = .ok (.invokevirtual 187, 3) := dk_182 0 187 (dk_at dksX0_countWays_1 0 rfl rfl)
theorem dX0_countWays_26 : decode cX0_countWays 26 = .ok (.getfield 190, 3) := dk_180 0 190 (dk_at dksX0_countWays_1 3 rfl rfl)
theorem dX0_countWays_29 : decode cX0_countWays 29 = .ok (.if_icmp .ge 46, 3) := dk_162 0 46 (dk_at dksX0_countWays_1 6 rfl rfl)
theorem dX0_countWays_32 : decode cX0_countWays 32 = .ok (.aload_n 0, 1) := dk_42 (dk_at dksX0_countWays_1 9 rfl rfl)
theorem dX0_countWays_33 : decode cX0_countWays 33 = .ok (.iload 4, 2) := dk_21 4 (dk_at dksX0_countWays_1 10 rfl rfl)
theorem dX0_countWays_35 : decode cX0_countWays 35 = .ok (.iload_n 2, 1) := dk_28 (dk_at dksX0_countWays_1 12 rfl rfl)
theorem dX0_countWays_36 : decode cX0_countWays 36 = .ok (.iload_n 1, 1) := dk_27 (dk_at dksX0_countWays_1 13 rfl rfl)
theorem dX0_countWays_37 : decode cX0_countWays 37 = .ok (.invokevirtual 418, 3) := dk_182 1 162 (dk_at dksX0_countWays_1 14 rfl rfl)
theorem dX0_countWays_40 : decode cX0_countWays 40 = .ok (.ifCond .eq 29, 3) := dk_153 0 29 (dk_at dksX0_countWays_1 17 rfl rfl)
theorem dX0_countWays_43 : decode cX0_countWays 43 = .ok (.ldc_w 422, 3) := dk_19 1 166 (dk_at dksX0_countWays_1 20 rfl rfl)
theorem dX0_countWays_46 : decode cX0_countWays 46 = .ok (.iload_n 3, 1) := dk_29 (dk_at dksX0_countWays_1 23 rfl rfl)
theorem dX0_countWays_47 : decode cX0_countWays 47 = .ok (.aload_n 0, 1) := dk_42 (dk_at dksX0_countWays_2 0 rfl rfl)
theorem dX0_countWays_48 : decode cX0_countWays 48 = .ok (.getfield 92, 3) := dk_180 0 92 (dk_at dksX0_countWays_2 1 rfl rfl)
theorem dX0_countWays_51 : decode cX0_countWays 51 = .ok (.iload_n 2, 1) := dk_28 (dk_at dksX0_countWays_2 4 rfl rfl)
theorem dX0_countWays_52 : decode cX0_countWays 52 = .ok (.aload_n 0, 1) := dk_42 (dk_at dksX0_countWays_2 5 rfl rfl)
theorem dX0_countWays_53 : decode cX0_countWays 53 = .ok (.iload 4, 2) := dk_21 4 (dk_at dksX0_countWays_2 6 rfl rfl)
theorem dX0_countWays_55 : decode cX0_countWays 55 = .ok (.invokevirtual 282, 3) := dk_182 1 26 (dk_at dksX0_countWays_2 8 rfl rfl)
theorem dX0_countWays_58 : decode cX0_countWays 58 = .ok (.getfield 291, 3) := dk_180 1 35 (dk_at dksX0_countWays_2 11 rfl rfl)
theorem dX0_countWays_61 : decode cX0_countWays 61 = .ok (.arraylength, 1) := dk_190 (dk_at dksX0_countWays_2 14 rfl rfl)
theorem dX0_countWays_62 : decode cX0_countWays 62 = .ok (.iadd, 1) := dk_96 (dk_at dksX0_countWays_2 15 rfl rfl)
theorem dX0_countWays_63 : decode cX0_countWays 63 = .ok (.iaload, 1) := dk_46 (dk_at dksX0_countWays_2 16 rfl rfl)
theorem dX0_countWays_64 : decode cX0_countWays 64 = .ok (.iadd, 1) := dk_96 (dk_at dksX0_countWays_2 17 rfl rfl)
theorem dX0_countWays_65 : decode cX0_countWays 65 = .ok (.invokestatic 378, 3) := dk_184 1 122 (dk_at dksX0_countWays_2 18 rfl rfl)
theorem dX0_countWays_68 : decode cX0_countWays 68 = .ok (.istore_n 3, 1) := dk_62 (dk_at dksX0_countWays_2 21 rfl rfl)
theorem dX0_countWays_69 : decode cX0_countWays 69 = .ok (.iinc 4 1, 3) := dk_132 4 1 (dk_at dksX0_countWays_3 0 rfl rfl)
theorem dX0_countWays_72 : decode cX0_countWays 72 = .ok (.goto (-52), 3) := dk_167 255 204 (dk_at dksX0_countWays_3 3 rfl rfl)
theorem dX0_countWays_75 : decode cX0_countWays 75 = .ok (.aload_n 0, 1) := dk_42 (dk_at dksX0_countWays_3 6 rfl rfl)
theorem dX0_countWays_76 : decode cX0_countWays 76 = .ok (.getfield 92, 3) := dk_180 0 92 (dk_at dksX0_countWays_3 7 rfl rfl)
theorem dX0_countWays_79 : decode cX0_countWays 79 = .ok (.iload_n 2, 1) := dk_28 (dk_at dksX0_countWays_3 10 rfl rfl)
theorem dX0_countWays_80 : decode cX0_countWays 80 = .ok (.iload_n 3, 1) := dk_29 (dk_at dksX0_countWays_3 11 rfl rfl)
theorem dX0_countWays_81 : decode cX0_countWays 81 = .ok (.iastore, 1) := dk_79 (dk_at dksX0_countWays_3 12 rfl rfl)
theorem dX0_countWays_82 : decode cX0_countWays 82 = .ok (.iinc 2 (-1), 3) := dk_132 2 255 (dk_at dksX0_countWays_3 13 rfl rfl)
theorem dX0_countWays_85 : decode cX0_countWays 85 = .ok (.goto (-74), 3) := dk_167 255 182 (dk_at dksX0_countWays_3 16 rfl rfl)
theorem dX0_countWays_88 : decode cX0_countWays 88 = .ok (.aload_n 0, 1) := dk_42 (dk_at dksX0_countWays_3 19 rfl rfl)
theorem dX0_countWays_89 : decode cX0_countWays 89 = .ok (.getfield 92, 3) := dk_180 0 92 (dk_at dksX0_countWays_3 20 rfl rfl)
theorem dX0_countWays_92 : decode cX0_countWays 92 = .ok (.iconst 0, 1) := dk_3 (dk_at dksX0_countWays_3 23 rfl rfl)
theorem dX0_countWays_93 : decode cX0_countWays 93 = .ok (.iaload, 1) := dk_46 (dk_at dksX0_countWays_4 0 rfl rfl)
theorem dX0_countWays_94 : decode cX0_countWays 94 = .ok (.ireturn, 1) := dk_172 (dk_at dksX0_countWays_4 1 rfl rfl)
abbrev cX0_stands : ByteArray := prog_1_method_83_code
def yX0_stands : MethodName := ⟨RX0, "stands", "(III)Z"⟩
def dkwX0_stands_4 : List UInt8 := [21, 5, 96, 46, 2, 130, 126, 153, 0, 5, 3, 172, 132, 5, 1, 167, 255, 213, 4, 172]
abbrev dktX0_stands_4 : List UInt8 := dkwX0_stands_4 ++ []
def dkwX0_stands_3 : List UInt8 := [162, 0, 41, 25, 4, 21, 5, 46, 42, 180, 0, 86, 28, 21, 5, 96, 46, 130, 42, 180, 0, 89, 28]
abbrev dktX0_stands_3 : List UInt8 := dkwX0_stands_3 ++ dktX0_stands_4
def dkwX0_stands_2 : List UInt8 := [160, 0, 7, 4, 167, 0, 4, 3, 182, 1, 158, 154, 0, 5, 3, 172, 3, 54, 5, 21, 5, 25, 4, 190]
abbrev dktX0_stands_2 : List UInt8 := dkwX0_stands_2 ++ dktX0_stands_3
def dkwX0_stands_1 : List UInt8 := [163, 0, 37, 42, 27, 182, 1, 26, 28, 154, 0, 7, 4, 167, 0, 4, 3, 28, 25, 4, 190, 96, 29]
abbrev dktX0_stands_1 : List UInt8 := dkwX0_stands_1 ++ dktX0_stands_2
def dkwX0_stands_0 : List UInt8 := [42, 27, 182, 1, 26, 180, 1, 35, 58, 4, 42, 27, 182, 1, 87, 153, 0, 46, 28, 25, 4, 190, 96, 29]
abbrev dktX0_stands_0 : List UInt8 := dkwX0_stands_0 ++ dktX0_stands_1
theorem dksX0_stands_0 : cX0_stands.data.toList.drop 0 = dktX0_stands_0 := by decide +kernel
theorem dksX0_stands_1 : cX0_stands.data.toList.drop 24 = dktX0_stands_1 := dk_seg dksX0_stands_0 24 rfl rfl
theorem dksX0_stands_2 : cX0_stands.data.toList.drop 47 = dktX0_stands_2 := dk_seg dksX0_stands_1 23 rfl rfl
theorem dksX0_stands_3 : cX0_stands.data.toList.drop 71 = dktX0_stands_3 := dk_seg dksX0_stands_2 24 rfl rfl
theorem dksX0_stands_4 : cX0_stands.data.toList.drop 94 = dktX0_stands_4 := dk_seg dksX0_stands_3 23 rfl rfl
theorem dX0_stands_0 : decode cX0_stands 0 = .ok (.aload_n 0, 1) := dk_42 (dk_at dksX0_stands_0 0 rfl rfl)
theorem dX0_stands_1 : decode cX0_stands 1 = .ok (.iload_n 1, 1) := dk_27 (dk_at dksX0_stands_0 1 rfl rfl)
theorem dX0_stands_2 : decode cX0_stands 2 = .ok (.invokevirtual 282, 3) := dk_182 1 26 (dk_at dksX0_stands_0 2 rfl rfl)
theorem dX0_stands_5 : decode cX0_stands 5 = .ok (.getfield 291, 3) := dk_180 1 35 (dk_at dksX0_stands_0 5 rfl rfl)
theorem dX0_stands_8 : decode cX0_stands 8 = .ok (.astore 4, 2) := dk_58 4 (dk_at dksX0_stands_0 8 rfl rfl)
theorem dX0_stands_10 : decode cX0_stands 10 = .ok (.aload_n 0, 1) := dk_42 (dk_at dksX0_stands_0 10 rfl rfl)
theorem dX0_stands_11 : decode cX0_stands 11 = .ok (.iload_n 1, 1) := dk_27 (dk_at dksX0_stands_0 11 rfl rfl)
theorem dX0_stands_12 : decode cX0_stands 12 = .ok (.invokevirtual 343, 3) := dk_182 1 87 (dk_at dksX0_stands_0 12 rfl rfl)
theorem dX0_stands_15 : decode cX0_stands 15 = .ok (.ifCond .eq 46, 3) := dk_153 0 46 (dk_at dksX0_stands_0 15 rfl rfl)
theorem dX0_stands_18 : decode cX0_stands 18 = .ok (.iload_n 2, 1) := dk_28 (dk_at dksX0_stands_0 18 rfl rfl)
theorem dX0_stands_19 : decode cX0_stands 19 = .ok (.aload 4, 2) := dk_25 4 (dk_at dksX0_stands_0 19 rfl rfl)
theorem dX0_stands_21 : decode cX0_stands 21 = .ok (.arraylength, 1) := dk_190 (dk_at dksX0_stands_0 21 rfl rfl)
theorem dX0_stands_22 : decode cX0_stands 22 = .ok (.iadd, 1) := dk_96 (dk_at dksX0_stands_0 22 rfl rfl)
theorem dX0_stands_23 : decode cX0_stands 23 = .ok (.iload_n 3, 1) := dk_29 (dk_at dksX0_stands_0 23 rfl rfl)
theorem dX0_stands_24 : decode cX0_stands 24 = .ok (.if_icmp .gt 37, 3) := dk_163 0 37 (dk_at dksX0_stands_1 0 rfl rfl)
theorem dX0_stands_27 : decode cX0_stands 27 = .ok (.aload_n 0, 1) := dk_42 (dk_at dksX0_stands_1 3 rfl rfl)
theorem dX0_stands_28 : decode cX0_stands 28 = .ok (.iload_n 1, 1) := dk_27 (dk_at dksX0_stands_1 4 rfl rfl)
theorem dX0_stands_29 : decode cX0_stands 29 = .ok (.invokevirtual 282, 3) := dk_182 1 26 (dk_at dksX0_stands_1 5 rfl rfl)
theorem dX0_stands_32 : decode cX0_stands 32 = .ok (.iload_n 2, 1) := dk_28 (dk_at dksX0_stands_1 8 rfl rfl)
theorem dX0_stands_33 : decode cX0_stands 33 = .ok (.ifCond .ne 7, 3) := dk_154 0 7 (dk_at dksX0_stands_1 9 rfl rfl)
theorem dX0_stands_36 : decode cX0_stands 36 = .ok (.iconst 1, 1) := dk_4 (dk_at dksX0_stands_1 12 rfl rfl)
theorem dX0_stands_37 : decode cX0_stands 37 = .ok (.goto 4, 3) := dk_167 0 4 (dk_at dksX0_stands_1 13 rfl rfl)
theorem dX0_stands_40 : decode cX0_stands 40 = .ok (.iconst 0, 1) := dk_3 (dk_at dksX0_stands_1 16 rfl rfl)
theorem dX0_stands_41 : decode cX0_stands 41 = .ok (.iload_n 2, 1) := dk_28 (dk_at dksX0_stands_1 17 rfl rfl)
theorem dX0_stands_42 : decode cX0_stands 42 = .ok (.aload 4, 2) := dk_25 4 (dk_at dksX0_stands_1 18 rfl rfl)
theorem dX0_stands_44 : decode cX0_stands 44 = .ok (.arraylength, 1) := dk_190 (dk_at dksX0_stands_1 20 rfl rfl)
theorem dX0_stands_45 : decode cX0_stands 45 = .ok (.iadd, 1) := dk_96 (dk_at dksX0_stands_1 21 rfl rfl)
theorem dX0_stands_46 : decode cX0_stands 46 = .ok (.iload_n 3, 1) := dk_29 (dk_at dksX0_stands_1 22 rfl rfl)
theorem dX0_stands_47 : decode cX0_stands 47 = .ok (.if_icmp .ne 7, 3) := dk_160 0 7 (dk_at dksX0_stands_2 0 rfl rfl)
theorem dX0_stands_50 : decode cX0_stands 50 = .ok (.iconst 1, 1) := dk_4 (dk_at dksX0_stands_2 3 rfl rfl)
theorem dX0_stands_51 : decode cX0_stands 51 = .ok (.goto 4, 3) := dk_167 0 4 (dk_at dksX0_stands_2 4 rfl rfl)
theorem dX0_stands_54 : decode cX0_stands 54 = .ok (.iconst 0, 1) := dk_3 (dk_at dksX0_stands_2 7 rfl rfl)
theorem dX0_stands_55 : decode cX0_stands 55 = .ok (.invokevirtual 414, 3) := dk_182 1 158 (dk_at dksX0_stands_2 8 rfl rfl)
theorem dX0_stands_58 : decode cX0_stands 58 = .ok (.ifCond .ne 5, 3) := dk_154 0 5 (dk_at dksX0_stands_2 11 rfl rfl)
theorem dX0_stands_61 : decode cX0_stands 61 = .ok (.iconst 0, 1) := dk_3 (dk_at dksX0_stands_2 14 rfl rfl)
theorem dX0_stands_62 : decode cX0_stands 62 = .ok (.ireturn, 1) := dk_172 (dk_at dksX0_stands_2 15 rfl rfl)
theorem dX0_stands_63 : decode cX0_stands 63 = .ok (.iconst 0, 1) := dk_3 (dk_at dksX0_stands_2 16 rfl rfl)
theorem dX0_stands_64 : decode cX0_stands 64 = .ok (.istore 5, 2) := dk_54 5 (dk_at dksX0_stands_2 17 rfl rfl)
theorem dX0_stands_66 : decode cX0_stands 66 = .ok (.iload 5, 2) := dk_21 5 (dk_at dksX0_stands_2 19 rfl rfl)
theorem dX0_stands_68 : decode cX0_stands 68 = .ok (.aload 4, 2) := dk_25 4 (dk_at dksX0_stands_2 21 rfl rfl)
theorem dX0_stands_70 : decode cX0_stands 70 = .ok (.arraylength, 1) := dk_190 (dk_at dksX0_stands_2 23 rfl rfl)
theorem dX0_stands_71 : decode cX0_stands 71 = .ok (.if_icmp .ge 41, 3) := dk_162 0 41 (dk_at dksX0_stands_3 0 rfl rfl)
theorem dX0_stands_74 : decode cX0_stands 74 = .ok (.aload 4, 2) := dk_25 4 (dk_at dksX0_stands_3 3 rfl rfl)
theorem dX0_stands_76 : decode cX0_stands 76 = .ok (.iload 5, 2) := dk_21 5 (dk_at dksX0_stands_3 5 rfl rfl)
theorem dX0_stands_78 : decode cX0_stands 78 = .ok (.iaload, 1) := dk_46 (dk_at dksX0_stands_3 7 rfl rfl)
theorem dX0_stands_79 : decode cX0_stands 79 = .ok (.aload_n 0, 1) := dk_42 (dk_at dksX0_stands_3 8 rfl rfl)
theorem dX0_stands_80 : decode cX0_stands 80 = .ok (.getfield 86, 3) := dk_180 0 86 (dk_at dksX0_stands_3 9 rfl rfl)
theorem dX0_stands_83 : decode cX0_stands 83 = .ok (.iload_n 2, 1) := dk_28 (dk_at dksX0_stands_3 12 rfl rfl)
theorem dX0_stands_84 : decode cX0_stands 84 = .ok (.iload 5, 2) := dk_21 5 (dk_at dksX0_stands_3 13 rfl rfl)
theorem dX0_stands_86 : decode cX0_stands 86 = .ok (.iadd, 1) := dk_96 (dk_at dksX0_stands_3 15 rfl rfl)
theorem dX0_stands_87 : decode cX0_stands 87 = .ok (.iaload, 1) := dk_46 (dk_at dksX0_stands_3 16 rfl rfl)
theorem dX0_stands_88 : decode cX0_stands 88 = .ok (.ixor, 1) := dk_130 (dk_at dksX0_stands_3 17 rfl rfl)
theorem dX0_stands_89 : decode cX0_stands 89 = .ok (.aload_n 0, 1) := dk_42 (dk_at dksX0_stands_3 18 rfl rfl)
theorem dX0_stands_90 : decode cX0_stands 90 = .ok (.getfield 89, 3) := dk_180 0 89 (dk_at dksX0_stands_3 19 rfl rfl)
theorem dX0_stands_93 : decode cX0_stands 93 = .ok (.iload_n 2, 1) := dk_28 (dk_at dksX0_stands_3 22 rfl rfl)
theorem dX0_stands_94 : decode cX0_stands 94 = .ok (.iload 5, 2) := dk_21 5 (dk_at dksX0_stands_4 0 rfl rfl)
theorem dX0_stands_96 : decode cX0_stands 96 = .ok (.iadd, 1) := dk_96 (dk_at dksX0_stands_4 2 rfl rfl)
theorem dX0_stands_97 : decode cX0_stands 97 = .ok (.iaload, 1) := dk_46 (dk_at dksX0_stands_4 3 rfl rfl)
theorem dX0_stands_98 : decode cX0_stands 98 = .ok (.iconst (-1), 1) := dk_2 (dk_at dksX0_stands_4 4 rfl rfl)
theorem dX0_stands_99 : decode cX0_stands 99 = .ok (.ixor, 1) := dk_130 (dk_at dksX0_stands_4 5 rfl rfl)
theorem dX0_stands_100 : decode cX0_stands 100 = .ok (.iand, 1) := dk_126 (dk_at dksX0_stands_4 6 rfl rfl)
theorem dX0_stands_101 : decode cX0_stands 101 = .ok (.ifCond .eq 5, 3) := dk_153 0 5 (dk_at dksX0_stands_4 7 rfl rfl)
theorem dX0_stands_104 : decode cX0_stands 104 = .ok (.iconst 0, 1) := dk_3 (dk_at dksX0_stands_4 10 rfl rfl)
theorem dX0_stands_105 : decode cX0_stands 105 = .ok (.ireturn, 1) := dk_172 (dk_at dksX0_stands_4 11 rfl rfl)
theorem dX0_stands_106 : decode cX0_stands 106 = .ok (.iinc 5 1, 3) := dk_132 5 1 (dk_at dksX0_stands_4 12 rfl rfl)
theorem dX0_stands_109 : decode cX0_stands 109 = .ok (.goto (-43), 3) := dk_167 255 213 (dk_at dksX0_stands_4 15 rfl rfl)
theorem dX0_stands_112 : decode cX0_stands 112 = .ok (.iconst 1, 1) := dk_4 (dk_at dksX0_stands_4 18 rfl rfl)
theorem dX0_stands_113 : decode cX0_stands 113 = .ok (.ireturn, 1) := dk_172 (dk_at dksX0_stands_4 19 rfl rfl)
abbrev cX0_first : ByteArray := prog_1_method_87_code
def yX0_first : MethodName := ⟨RX0, "first", "(II)I"⟩
def dkwX0_first_6 : List UInt8 := [182, 1, 26, 180, 1, 35, 190, 96, 62, 167, 255, 158, 42, 180, 1, 177, 172, 78, 42, 45, 182, 0, 171, 172]
abbrev dktX0_first_6 : List UInt8 := dkwX0_first_6 ++ []
def dkwX0_first_5 : List UInt8 := [42, 89, 180, 1, 180, 42, 21, 4, 182, 1, 26, 180, 1, 30, 190, 96, 181, 1, 180, 29, 42, 21, 4]
abbrev dktX0_first_5 : List UInt8 := dkwX0_first_5 ++ dktX0_first_6
def dkwX0_first_4 : List UInt8 := [167, 255, 222, 42, 180, 0, 95, 42, 180, 1, 177, 21, 4, 79, 42, 89, 180, 1, 177, 4, 96, 181, 1, 177]
abbrev dktX0_first_4 : List UInt8 := dkwX0_first_4 ++ dktX0_first_5
def dkwX0_first_3 : List UInt8 := [42, 180, 0, 92, 29, 42, 21, 4, 182, 1, 26, 180, 1, 35, 190, 96, 46, 154, 0, 9, 132, 4, 1]
abbrev dktX0_first_3 : List UInt8 := dkwX0_first_3 ++ dktX0_first_4
def dkwX0_first_2 : List UInt8 := [181, 1, 180, 3, 62, 29, 28, 162, 0, 99, 3, 54, 4, 42, 21, 4, 29, 28, 182, 1, 162, 153, 0, 23]
abbrev dktX0_first_2 : List UInt8 := dkwX0_first_2 ++ dktX0_first_3
def dkwX0_first_1 : List UInt8 := [182, 1, 174, 158, 0, 7, 4, 167, 0, 4, 3, 16, 6, 182, 0, 139, 42, 3, 181, 1, 177, 42, 3]
abbrev dktX0_first_1 : List UInt8 := dkwX0_first_1 ++ dktX0_first_2
def dkwX0_first_0 : List UInt8 := [42, 3, 181, 0, 114, 42, 27, 28, 4, 42, 180, 0, 86, 182, 1, 167, 42, 182, 1, 171, 42, 42, 28]
abbrev dktX0_first_0 : List UInt8 := dkwX0_first_0 ++ dktX0_first_1
theorem dksX0_first_0 : cX0_first.data.toList.drop 0 = dktX0_first_0 := by decide +kernel
theorem dksX0_first_1 : cX0_first.data.toList.drop 23 = dktX0_first_1 := dk_seg dksX0_first_0 23 rfl rfl
theorem dksX0_first_2 : cX0_first.data.toList.drop 46 = dktX0_first_2 := dk_seg dksX0_first_1 23 rfl rfl
theorem dksX0_first_3 : cX0_first.data.toList.drop 70 = dktX0_first_3 := dk_seg dksX0_first_2 24 rfl rfl
theorem dksX0_first_4 : cX0_first.data.toList.drop 93 = dktX0_first_4 := dk_seg dksX0_first_3 23 rfl rfl
theorem dksX0_first_5 : cX0_first.data.toList.drop 117 = dktX0_first_5 := dk_seg dksX0_first_4 24 rfl rfl
theorem dksX0_first_6 : cX0_first.data.toList.drop 140 = dktX0_first_6 := dk_seg dksX0_first_5 23 rfl rfl
theorem dX0_first_0 : decode cX0_first 0 = .ok (.aload_n 0, 1) := dk_42 (dk_at dksX0_first_0 0 rfl rfl)
theorem dX0_first_1 : decode cX0_first 1 = .ok (.iconst 0, 1) := dk_3 (dk_at dksX0_first_0 1 rfl rfl)
theorem dX0_first_2 : decode cX0_first 2 = .ok (.putfield 114, 3) := dk_181 0 114 (dk_at dksX0_first_0 2 rfl rfl)
theorem dX0_first_5 : decode cX0_first 5 = .ok (.aload_n 0, 1) := dk_42 (dk_at dksX0_first_0 5 rfl rfl)
theorem dX0_first_6 : decode cX0_first 6 = .ok (.iload_n 1, 1) := dk_27 (dk_at dksX0_first_0 6 rfl rfl)
theorem dX0_first_7 : decode cX0_first 7 = .ok (.iload_n 2, 1) := dk_28 (dk_at dksX0_first_0 7 rfl rfl)
theorem dX0_first_8 : decode cX0_first 8 = .ok (.iconst 1, 1) := dk_4 (dk_at dksX0_first_0 8 rfl rfl)
theorem dX0_first_9 : decode cX0_first 9 = .ok (.aload_n 0, 1) := dk_42 (dk_at dksX0_first_0 9 rfl rfl)
theorem dX0_first_10 : decode cX0_first 10 = .ok (.getfield 86, 3) := dk_180 0 86 (dk_at dksX0_first_0 10 rfl rfl)
theorem dX0_first_13 : decode cX0_first 13 = .ok (.invokevirtual 423, 3) := dk_182 1 167 (dk_at dksX0_first_0 13 rfl rfl)
theorem dX0_first_16 : decode cX0_first 16 = .ok (.aload_n 0, 1) := dk_42 (dk_at dksX0_first_0 16 rfl rfl)
theorem dX0_first_17 : decode cX0_first 17 = .ok (.invokevirtual 427, 3) := dk_182 1 171 (dk_at dksX0_first_0 17 rfl rfl)
theorem dX0_first_20 : decode cX0_first 20 = .ok (.aload_n 0, 1) := dk_42 (dk_at dksX0_first_0 20 rfl rfl)
theorem dX0_first_21 : decode cX0_first 21 = .ok (.aload_n 0, 1) := dk_42 (dk_at dksX0_first_0 21 rfl rfl)
theorem dX0_first_22 : decode cX0_first 22 = .ok (.iload_n 2, 1) := dk_28 (dk_at dksX0_first_0 22 rfl rfl)
theorem dX0_first_23 : decode cX0_first 23 = .ok (.invokevirtual 430, 3) := dk_182 1 174 (dk_at dksX0_first_1 0 rfl rfl)
theorem dX0_first_26 : decode cX0_first 26 = .ok (.ifCond .le 7, 3) := dk_158 0 7 (dk_at dksX0_first_1 3 rfl rfl)
theorem dX0_first_29 : decode cX0_first 29 = .ok (.iconst 1, 1) := dk_4 (dk_at dksX0_first_1 6 rfl rfl)
theorem dX0_first_30 : decode cX0_first 30 = .ok (.goto 4, 3) := dk_167 0 4 (dk_at dksX0_first_1 7 rfl rfl)
theorem dX0_first_33 : decode cX0_first 33 = .ok (.iconst 0, 1) := dk_3 (dk_at dksX0_first_1 10 rfl rfl)
theorem dX0_first_34 : decode cX0_first 34 = .ok (.bipush 6, 2) := dk_16 6 (dk_at dksX0_first_1 11 rfl rfl)
theorem dX0_first_36 : decode cX0_first 36 = .ok (.invokevirtual 139, 3) := dk_182 0 139 (dk_at dksX0_first_1 13 rfl rfl)
theorem dX0_first_39 : decode cX0_first 39 = .ok (.aload_n 0, 1) := dk_42 (dk_at dksX0_first_1 16 rfl rfl)
theorem dX0_first_40 : decode cX0_first 40 = .ok (.iconst 0, 1) := dk_3 (dk_at dksX0_first_1 17 rfl rfl)
theorem dX0_first_41 : decode cX0_first 41 = .ok (.putfield 433, 3) := dk_181 1 177 (dk_at dksX0_first_1 18 rfl rfl)
theorem dX0_first_44 : decode cX0_first 44 = .ok (.aload_n 0, 1) := dk_42 (dk_at dksX0_first_1 21 rfl rfl)
theorem dX0_first_45 : decode cX0_first 45 = .ok (.iconst 0, 1) := dk_3 (dk_at dksX0_first_1 22 rfl rfl)
theorem dX0_first_46 : decode cX0_first 46 = .ok (.putfield 436, 3) := dk_181 1 180 (dk_at dksX0_first_2 0 rfl rfl)
theorem dX0_first_49 : decode cX0_first 49 = .ok (.iconst 0, 1) := dk_3 (dk_at dksX0_first_2 3 rfl rfl)
theorem dX0_first_50 : decode cX0_first 50 = .ok (.istore_n 3, 1) := dk_62 (dk_at dksX0_first_2 4 rfl rfl)
theorem dX0_first_51 : decode cX0_first 51 = .ok (.iload_n 3, 1) := dk_29 (dk_at dksX0_first_2 5 rfl rfl)
theorem dX0_first_52 : decode cX0_first 52 = .ok (.iload_n 2, 1) := dk_28 (dk_at dksX0_first_2 6 rfl rfl)
theorem dX0_first_53 : decode cX0_first 53 = .ok (.if_icmp .ge 99, 3) := dk_162 0 99 (dk_at dksX0_first_2 7 rfl rfl)
theorem dX0_first_56 : decode cX0_first 56 = .ok (.iconst 0, 1) := dk_3 (dk_at dksX0_first_2 10 rfl rfl)
theorem dX0_first_57 : decode cX0_first 57 = .ok (.istore 4, 2) := dk_54 4 (dk_at dksX0_first_2 11 rfl rfl)
theorem dX0_first_59 : decode cX0_first 59 = .ok (.aload_n 0, 1) := dk_42 (dk_at dksX0_first_2 13 rfl rfl)
theorem dX0_first_60 : decode cX0_first 60 = .ok (.iload 4, 2) := dk_21 4 (dk_at dksX0_first_2 14 rfl rfl)
theorem dX0_first_62 : decode cX0_first 62 = .ok (.iload_n 3, 1) := dk_29 (dk_at dksX0_first_2 16 rfl rfl)
theorem dX0_first_63 : decode cX0_first 63 = .ok (.iload_n 2, 1) := dk_28 (dk_at dksX0_first_2 17 rfl rfl)
theorem dX0_first_64 : decode cX0_first 64 = .ok (.invokevirtual 418, 3) := dk_182 1 162 (dk_at dksX0_first_2 18 rfl rfl)
theorem dX0_first_67 : decode cX0_first 67 = .ok (.ifCond .eq 23, 3) := dk_153 0 23 (dk_at dksX0_first_2 21 rfl rfl)
theorem dX0_first_70 : decode cX0_first 70 = .ok (.aload_n 0, 1) := dk_42 (dk_at dksX0_first_3 0 rfl rfl)
theorem dX0_first_71 : decode cX0_first 71 = .ok (.getfield 92, 3) := dk_180 0 92 (dk_at dksX0_first_3 1 rfl rfl)
theorem dX0_first_74 : decode cX0_first 74 = .ok (.iload_n 3, 1) := dk_29 (dk_at dksX0_first_3 4 rfl rfl)
theorem dX0_first_75 : decode cX0_first 75 = .ok (.aload_n 0, 1) := dk_42 (dk_at dksX0_first_3 5 rfl rfl)
theorem dX0_first_76 : decode cX0_first 76 = .ok (.iload 4, 2) := dk_21 4 (dk_at dksX0_first_3 6 rfl rfl)
theorem dX0_first_78 : decode cX0_first 78 = .ok (.invokevirtual 282, 3) := dk_182 1 26 (dk_at dksX0_first_3 8 rfl rfl)
theorem dX0_first_81 : decode cX0_first 81 = .ok (.getfield 291, 3) := dk_180 1 35 (dk_at dksX0_first_3 11 rfl rfl)
theorem dX0_first_84 : decode cX0_first 84 = .ok (.arraylength, 1) := dk_190 (dk_at dksX0_first_3 14 rfl rfl)
theorem dX0_first_85 : decode cX0_first 85 = .ok (.iadd, 1) := dk_96 (dk_at dksX0_first_3 15 rfl rfl)
theorem dX0_first_86 : decode cX0_first 86 = .ok (.iaload, 1) := dk_46 (dk_at dksX0_first_3 16 rfl rfl)
theorem dX0_first_87 : decode cX0_first 87 = .ok (.ifCond .ne 9, 3) := dk_154 0 9 (dk_at dksX0_first_3 17 rfl rfl)
theorem dX0_first_90 : decode cX0_first 90 = .ok (.iinc 4 1, 3) := dk_132 4 1 (dk_at dksX0_first_3 20 rfl rfl)
theorem dX0_first_93 : decode cX0_first 93 = .ok (.goto (-34), 3) := dk_167 255 222 (dk_at dksX0_first_4 0 rfl rfl)
theorem dX0_first_96 : decode cX0_first 96 = .ok (.aload_n 0, 1) := dk_42 (dk_at dksX0_first_4 3 rfl rfl)
theorem dX0_first_97 : decode cX0_first 97 = .ok (.getfield 95, 3) := dk_180 0 95 (dk_at dksX0_first_4 4 rfl rfl)
theorem dX0_first_100 : decode cX0_first 100 = .ok (.aload_n 0, 1) := dk_42 (dk_at dksX0_first_4 7 rfl rfl)
theorem dX0_first_101 : decode cX0_first 101 = .ok (.getfield 433, 3) := dk_180 1 177 (dk_at dksX0_first_4 8 rfl rfl)
theorem dX0_first_104 : decode cX0_first 104 = .ok (.iload 4, 2) := dk_21 4 (dk_at dksX0_first_4 11 rfl rfl)
theorem dX0_first_106 : decode cX0_first 106 = .ok (.iastore, 1) := dk_79 (dk_at dksX0_first_4 13 rfl rfl)
theorem dX0_first_107 : decode cX0_first 107 = .ok (.aload_n 0, 1) := dk_42 (dk_at dksX0_first_4 14 rfl rfl)
theorem dX0_first_108 : decode cX0_first 108 = .ok (.dup, 1) := dk_89 (dk_at dksX0_first_4 15 rfl rfl)
theorem dX0_first_109 : decode cX0_first 109 = .ok (.getfield 433, 3) := dk_180 1 177 (dk_at dksX0_first_4 16 rfl rfl)
theorem dX0_first_112 : decode cX0_first 112 = .ok (.iconst 1, 1) := dk_4 (dk_at dksX0_first_4 19 rfl rfl)
theorem dX0_first_113 : decode cX0_first 113 = .ok (.iadd, 1) := dk_96 (dk_at dksX0_first_4 20 rfl rfl)
theorem dX0_first_114 : decode cX0_first 114 = .ok (.putfield 433, 3) := dk_181 1 177 (dk_at dksX0_first_4 21 rfl rfl)
theorem dX0_first_117 : decode cX0_first 117 = .ok (.aload_n 0, 1) := dk_42 (dk_at dksX0_first_5 0 rfl rfl)
theorem dX0_first_118 : decode cX0_first 118 = .ok (.dup, 1) := dk_89 (dk_at dksX0_first_5 1 rfl rfl)
theorem dX0_first_119 : decode cX0_first 119 = .ok (.getfield 436, 3) := dk_180 1 180 (dk_at dksX0_first_5 2 rfl rfl)
theorem dX0_first_122 : decode cX0_first 122 = .ok (.aload_n 0, 1) := dk_42 (dk_at dksX0_first_5 5 rfl rfl)
theorem dX0_first_123 : decode cX0_first 123 = .ok (.iload 4, 2) := dk_21 4 (dk_at dksX0_first_5 6 rfl rfl)
theorem dX0_first_125 : decode cX0_first 125 = .ok (.invokevirtual 282, 3) := dk_182 1 26 (dk_at dksX0_first_5 8 rfl rfl)
theorem dX0_first_128 : decode cX0_first 128 = .ok (.getfield 286, 3) := dk_180 1 30 (dk_at dksX0_first_5 11 rfl rfl)
theorem dX0_first_131 : decode cX0_first 131 = .ok (.arraylength, 1) := dk_190 (dk_at dksX0_first_5 14 rfl rfl)
theorem dX0_first_132 : decode cX0_first 132 = .ok (.iadd, 1) := dk_96 (dk_at dksX0_first_5 15 rfl rfl)
theorem dX0_first_133 : decode cX0_first 133 = .ok (.putfield 436, 3) := dk_181 1 180 (dk_at dksX0_first_5 16 rfl rfl)
theorem dX0_first_136 : decode cX0_first 136 = .ok (.iload_n 3, 1) := dk_29 (dk_at dksX0_first_5 19 rfl rfl)
theorem dX0_first_137 : decode cX0_first 137 = .ok (.aload_n 0, 1) := dk_42 (dk_at dksX0_first_5 20 rfl rfl)
theorem dX0_first_138 : decode cX0_first 138 = .ok (.iload 4, 2) := dk_21 4 (dk_at dksX0_first_5 21 rfl rfl)
theorem dX0_first_140 : decode cX0_first 140 = .ok (.invokevirtual 282, 3) := dk_182 1 26 (dk_at dksX0_first_6 0 rfl rfl)
theorem dX0_first_143 : decode cX0_first 143 = .ok (.getfield 291, 3) := dk_180 1 35 (dk_at dksX0_first_6 3 rfl rfl)
theorem dX0_first_146 : decode cX0_first 146 = .ok (.arraylength, 1) := dk_190 (dk_at dksX0_first_6 6 rfl rfl)
theorem dX0_first_147 : decode cX0_first 147 = .ok (.iadd, 1) := dk_96 (dk_at dksX0_first_6 7 rfl rfl)
theorem dX0_first_148 : decode cX0_first 148 = .ok (.istore_n 3, 1) := dk_62 (dk_at dksX0_first_6 8 rfl rfl)
theorem dX0_first_149 : decode cX0_first 149 = .ok (.goto (-98), 3) := dk_167 255 158 (dk_at dksX0_first_6 9 rfl rfl)
theorem dX0_first_152 : decode cX0_first 152 = .ok (.aload_n 0, 1) := dk_42 (dk_at dksX0_first_6 12 rfl rfl)
theorem dX0_first_153 : decode cX0_first 153 = .ok (.getfield 433, 3) := dk_180 1 177 (dk_at dksX0_first_6 13 rfl rfl)
theorem dX0_first_156 : decode cX0_first 156 = .ok (.ireturn, 1) := dk_172 (dk_at dksX0_first_6 16 rfl rfl)
theorem dX0_first_157 : decode cX0_first 157 = .ok (.astore_n 3, 1) := dk_78 (dk_at dksX0_first_6 17 rfl rfl)
theorem dX0_first_158 : decode cX0_first 158 = .ok (.aload_n 0, 1) := dk_42 (dk_at dksX0_first_6 18 rfl rfl)
theorem dX0_first_159 : decode cX0_first 159 = .ok (.aload_n 3, 1) := dk_45 (dk_at dksX0_first_6 19 rfl rfl)
theorem dX0_first_160 : decode cX0_first 160 = .ok (.invokevirtual 171, 3) := dk_182 0 171 (dk_at dksX0_first_6 20 rfl rfl)
theorem dX0_first_163 : decode cX0_first 163 = .ok (.ireturn, 1) := dk_172 (dk_at dksX0_first_6 23 rfl rfl)
abbrev cX0_firstAt : ByteArray := prog_1_method_88_code
def yX0_firstAt : MethodName := ⟨RX0, "firstAt", "(I)I"⟩
def dkwX0_firstAt_1 : List UInt8 := [167, 0, 4, 2, 182, 1, 6, 172]
abbrev dktX0_firstAt_1 : List UInt8 := dkwX0_firstAt_1 ++ []
def dkwX0_firstAt_0 : List UInt8 := [42, 27, 133, 9, 42, 180, 1, 177, 4, 100, 133, 184, 0, 195, 153, 0, 12, 42, 180, 0, 95, 27, 46]
abbrev dktX0_firstAt_0 : List UInt8 := dkwX0_firstAt_0 ++ dktX0_firstAt_1
theorem dksX0_firstAt_0 : cX0_firstAt.data.toList.drop 0 = dktX0_firstAt_0 := by decide +kernel
theorem dksX0_firstAt_1 : cX0_firstAt.data.toList.drop 23 = dktX0_firstAt_1 := dk_seg dksX0_firstAt_0 23 rfl rfl
theorem dX0_firstAt_0 : decode cX0_firstAt 0 = .ok (.aload_n 0, 1) := dk_42 (dk_at dksX0_firstAt_0 0 rfl rfl)
theorem dX0_firstAt_1 : decode cX0_firstAt 1 = .ok (.iload_n 1, 1) := dk_27 (dk_at dksX0_firstAt_0 1 rfl rfl)
theorem dX0_firstAt_2 : decode cX0_firstAt 2 = .ok (.i2l, 1) := dk_133 (dk_at dksX0_firstAt_0 2 rfl rfl)
theorem dX0_firstAt_3 : decode cX0_firstAt 3 = .ok (.lconst 0, 1) := dk_9 (dk_at dksX0_firstAt_0 3 rfl rfl)
theorem dX0_firstAt_4 : decode cX0_firstAt 4 = .ok (.aload_n 0, 1) := dk_42 (dk_at dksX0_firstAt_0 4 rfl rfl)
theorem dX0_firstAt_5 : decode cX0_firstAt 5 = .ok (.getfield 433, 3) := dk_180 1 177 (dk_at dksX0_firstAt_0 5 rfl rfl)
theorem dX0_firstAt_8 : decode cX0_firstAt 8 = .ok (.iconst 1, 1) := dk_4 (dk_at dksX0_firstAt_0 8 rfl rfl)
theorem dX0_firstAt_9 : decode cX0_firstAt 9 = .ok (.isub, 1) := dk_100 (dk_at dksX0_firstAt_0 9 rfl rfl)
theorem dX0_firstAt_10 : decode cX0_firstAt 10 = .ok (.i2l, 1) := dk_133 (dk_at dksX0_firstAt_0 10 rfl rfl)
theorem dX0_firstAt_11 : decode cX0_firstAt 11 = .ok (.invokestatic 195, 3) := dk_184 0 195 (dk_at dksX0_firstAt_0 11 rfl rfl)
theorem dX0_firstAt_14 : decode cX0_firstAt 14 = .ok (.ifCond .eq 12, 3) := dk_153 0 12 (dk_at dksX0_firstAt_0 14 rfl rfl)
theorem dX0_firstAt_17 : decode cX0_firstAt 17 = .ok (.aload_n 0, 1) := dk_42 (dk_at dksX0_firstAt_0 17 rfl rfl)
theorem dX0_firstAt_18 : decode cX0_firstAt 18 = .ok (.getfield 95, 3) := dk_180 0 95 (dk_at dksX0_firstAt_0 18 rfl rfl)
theorem dX0_firstAt_21 : decode cX0_firstAt 21 = .ok (.iload_n 1, 1) := dk_27 (dk_at dksX0_firstAt_0 21 rfl rfl)
theorem dX0_firstAt_22 : decode cX0_firstAt 22 = .ok (.iaload, 1) := dk_46 (dk_at dksX0_firstAt_0 22 rfl rfl)
theorem dX0_firstAt_23 : decode cX0_firstAt 23 = .ok (.goto 4, 3) := dk_167 0 4 (dk_at dksX0_firstAt_1 0 rfl rfl)
theorem dX0_firstAt_26 : decode cX0_firstAt 26 = .ok (.iconst (-1), 1) := dk_2 (dk_at dksX0_firstAt_1 3 rfl rfl)
theorem dX0_firstAt_27 : decode cX0_firstAt 27 = .ok (.invokevirtual 262, 3) := dk_182 1 6 (dk_at dksX0_firstAt_1 4 rfl rfl)
theorem dX0_firstAt_30 : decode cX0_firstAt 30 = .ok (.ireturn, 1) := dk_172 (dk_at dksX0_firstAt_1 7 rfl rfl)
abbrev cX0_letters : ByteArray := prog_1_method_89_code
def yX0_letters : MethodName := ⟨RX0, "letters", "()I"⟩
def dkwX0_letters_0 : List UInt8 := [42, 42, 180, 1, 177, 154, 0, 7, 2, 167, 0, 7, 42, 180, 1, 180, 182, 1, 6, 172]
abbrev dktX0_letters_0 : List UInt8 := dkwX0_letters_0 ++ []
theorem dksX0_letters_0 : cX0_letters.data.toList.drop 0 = dktX0_letters_0 := by decide +kernel
theorem dX0_letters_0 : decode cX0_letters 0 = .ok (.aload_n 0, 1) := dk_42 (dk_at dksX0_letters_0 0 rfl rfl)
theorem dX0_letters_1 : decode cX0_letters 1 = .ok (.aload_n 0, 1) := dk_42 (dk_at dksX0_letters_0 1 rfl rfl)
theorem dX0_letters_2 : decode cX0_letters 2 = .ok (.getfield 433, 3) := dk_180 1 177 (dk_at dksX0_letters_0 2 rfl rfl)
theorem dX0_letters_5 : decode cX0_letters 5 = .ok (.ifCond .ne 7, 3) := dk_154 0 7 (dk_at dksX0_letters_0 5 rfl rfl)
theorem dX0_letters_8 : decode cX0_letters 8 = .ok (.iconst (-1), 1) := dk_2 (dk_at dksX0_letters_0 8 rfl rfl)
theorem dX0_letters_9 : decode cX0_letters 9 = .ok (.goto 7, 3) := dk_167 0 7 (dk_at dksX0_letters_0 9 rfl rfl)
theorem dX0_letters_12 : decode cX0_letters 12 = .ok (.aload_n 0, 1) := dk_42 (dk_at dksX0_letters_0 12 rfl rfl)
theorem dX0_letters_13 : decode cX0_letters 13 = .ok (.getfield 436, 3) := dk_180 1 180 (dk_at dksX0_letters_0 13 rfl rfl)
theorem dX0_letters_16 : decode cX0_letters 16 = .ok (.invokevirtual 262, 3) := dk_182 1 6 (dk_at dksX0_letters_0 16 rfl rfl)
theorem dX0_letters_19 : decode cX0_letters 19 = .ok (.ireturn, 1) := dk_172 (dk_at dksX0_letters_0 19 rfl rfl)
abbrev cX0_truths : ByteArray := prog_1_method_92_code
def yX0_truths : MethodName := ⟨RX0, "truths", "(II)I"⟩
def dkwX0_truths_2 : List UInt8 := [182, 1, 186, 172, 78, 42, 45, 182, 0, 171, 172]
abbrev dktX0_truths_2 : List UInt8 := dkwX0_truths_2 ++ []
def dkwX0_truths_1 : List UInt8 := [182, 1, 174, 17, 39, 15, 163, 0, 7, 4, 167, 0, 4, 3, 16, 7, 182, 0, 139, 42, 3, 3, 28]
abbrev dktX0_truths_1 : List UInt8 := dkwX0_truths_1 ++ dktX0_truths_2
def dkwX0_truths_0 : List UInt8 := [42, 3, 181, 0, 114, 42, 27, 28, 4, 42, 180, 0, 86, 182, 1, 167, 42, 182, 1, 171, 42, 42, 28]
abbrev dktX0_truths_0 : List UInt8 := dkwX0_truths_0 ++ dktX0_truths_1
theorem dksX0_truths_0 : cX0_truths.data.toList.drop 0 = dktX0_truths_0 := by decide +kernel
theorem dksX0_truths_1 : cX0_truths.data.toList.drop 23 = dktX0_truths_1 := dk_seg dksX0_truths_0 23 rfl rfl
theorem dksX0_truths_2 : cX0_truths.data.toList.drop 46 = dktX0_truths_2 := dk_seg dksX0_truths_1 23 rfl rfl
theorem dX0_truths_0 : decode cX0_truths 0 = .ok (.aload_n 0, 1) := dk_42 (dk_at dksX0_truths_0 0 rfl rfl)
theorem dX0_truths_1 : decode cX0_truths 1 = .ok (.iconst 0, 1) := dk_3 (dk_at dksX0_truths_0 1 rfl rfl)
theorem dX0_truths_2 : decode cX0_truths 2 = .ok (.putfield 114, 3) := dk_181 0 114 (dk_at dksX0_truths_0 2 rfl rfl)
theorem dX0_truths_5 : decode cX0_truths 5 = .ok (.aload_n 0, 1) := dk_42 (dk_at dksX0_truths_0 5 rfl rfl)
theorem dX0_truths_6 : decode cX0_truths 6 = .ok (.iload_n 1, 1) := dk_27 (dk_at dksX0_truths_0 6 rfl rfl)
theorem dX0_truths_7 : decode cX0_truths 7 = .ok (.iload_n 2, 1) := dk_28 (dk_at dksX0_truths_0 7 rfl rfl)
theorem dX0_truths_8 : decode cX0_truths 8 = .ok (.iconst 1, 1) := dk_4 (dk_at dksX0_truths_0 8 rfl rfl)
theorem dX0_truths_9 : decode cX0_truths 9 = .ok (.aload_n 0, 1) := dk_42 (dk_at dksX0_truths_0 9 rfl rfl)
theorem dX0_truths_10 : decode cX0_truths 10 = .ok (.getfield 86, 3) := dk_180 0 86 (dk_at dksX0_truths_0 10 rfl rfl)
theorem dX0_truths_13 : decode cX0_truths 13 = .ok (.invokevirtual 423, 3) := dk_182 1 167 (dk_at dksX0_truths_0 13 rfl rfl)
theorem dX0_truths_16 : decode cX0_truths 16 = .ok (.aload_n 0, 1) := dk_42 (dk_at dksX0_truths_0 16 rfl rfl)
theorem dX0_truths_17 : decode cX0_truths 17 = .ok (.invokevirtual 427, 3) := dk_182 1 171 (dk_at dksX0_truths_0 17 rfl rfl)
theorem dX0_truths_20 : decode cX0_truths 20 = .ok (.aload_n 0, 1) := dk_42 (dk_at dksX0_truths_0 20 rfl rfl)
theorem dX0_truths_21 : decode cX0_truths 21 = .ok (.aload_n 0, 1) := dk_42 (dk_at dksX0_truths_0 21 rfl rfl)
theorem dX0_truths_22 : decode cX0_truths 22 = .ok (.iload_n 2, 1) := dk_28 (dk_at dksX0_truths_0 22 rfl rfl)
theorem dX0_truths_23 : decode cX0_truths 23 = .ok (.invokevirtual 430, 3) := dk_182 1 174 (dk_at dksX0_truths_1 0 rfl rfl)
theorem dX0_truths_26 : decode cX0_truths 26 = .ok (.sipush 9999, 3) := dk_17 39 15 (dk_at dksX0_truths_1 3 rfl rfl)
theorem dX0_truths_29 : decode cX0_truths 29 = .ok (.if_icmp .gt 7, 3) := dk_163 0 7 (dk_at dksX0_truths_1 6 rfl rfl)
theorem dX0_truths_32 : decode cX0_truths 32 = .ok (.iconst 1, 1) := dk_4 (dk_at dksX0_truths_1 9 rfl rfl)
theorem dX0_truths_33 : decode cX0_truths 33 = .ok (.goto 4, 3) := dk_167 0 4 (dk_at dksX0_truths_1 10 rfl rfl)
theorem dX0_truths_36 : decode cX0_truths 36 = .ok (.iconst 0, 1) := dk_3 (dk_at dksX0_truths_1 13 rfl rfl)
theorem dX0_truths_37 : decode cX0_truths 37 = .ok (.bipush 7, 2) := dk_16 7 (dk_at dksX0_truths_1 14 rfl rfl)
theorem dX0_truths_39 : decode cX0_truths 39 = .ok (.invokevirtual 139, 3) := dk_182 0 139 (dk_at dksX0_truths_1 16 rfl rfl)
theorem dX0_truths_42 : decode cX0_truths 42 = .ok (.aload_n 0, 1) := dk_42 (dk_at dksX0_truths_1 19 rfl rfl)
theorem dX0_truths_43 : decode cX0_truths 43 = .ok (.iconst 0, 1) := dk_3 (dk_at dksX0_truths_1 20 rfl rfl)
theorem dX0_truths_44 : decode cX0_truths 44 = .ok (.iconst 0, 1) := dk_3 (dk_at dksX0_truths_1 21 rfl rfl)
theorem dX0_truths_45 : decode cX0_truths 45 = .ok (.iload_n 2, 1) := dk_28 (dk_at dksX0_truths_1 22 rfl rfl)
theorem dX0_truths_46 : decode cX0_truths 46 = .ok (.invokevirtual 442, 3) := dk_182 1 186 (dk_at dksX0_truths_2 0 rfl rfl)
theorem dX0_truths_49 : decode cX0_truths 49 = .ok (.ireturn, 1) := dk_172 (dk_at dksX0_truths_2 3 rfl rfl)
theorem dX0_truths_50 : decode cX0_truths 50 = .ok (.astore_n 3, 1) := dk_78 (dk_at dksX0_truths_2 4 rfl rfl)
theorem dX0_truths_51 : decode cX0_truths 51 = .ok (.aload_n 0, 1) := dk_42 (dk_at dksX0_truths_2 5 rfl rfl)
theorem dX0_truths_52 : decode cX0_truths 52 = .ok (.aload_n 3, 1) := dk_45 (dk_at dksX0_truths_2 6 rfl rfl)
theorem dX0_truths_53 : decode cX0_truths 53 = .ok (.invokevirtual 171, 3) := dk_182 0 171 (dk_at dksX0_truths_2 7 rfl rfl)
theorem dX0_truths_56 : decode cX0_truths 56 = .ok (.ireturn, 1) := dk_172 (dk_at dksX0_truths_2 10 rfl rfl)
abbrev cX0_truthsFrom : ByteArray := prog_1_method_90_code
def yX0_truthsFrom : MethodName := ⟨RX0, "truthsFrom", "(III)I"⟩
def dkwX0_truthsFrom_6 : List UInt8 := [21, 4, 172]
abbrev dktX0_truthsFrom_6 : List UInt8 := dkwX0_truthsFrom_6 ++ []
def dkwX0_truthsFrom_5 : List UInt8 := [21, 5, 182, 1, 26, 180, 1, 30, 190, 96, 29, 182, 1, 186, 96, 54, 4, 132, 5, 1, 167, 255, 145]
abbrev dktX0_truthsFrom_5 : List UInt8 := dkwX0_truthsFrom_5 ++ dktX0_truthsFrom_6
def dkwX0_truthsFrom_4 : List UInt8 := [180, 1, 30, 190, 184, 0, 179, 21, 4, 42, 27, 42, 21, 5, 182, 1, 26, 180, 1, 35, 190, 96, 28, 42]
abbrev dktX0_truthsFrom_4 : List UInt8 := dkwX0_truthsFrom_4 ++ dktX0_truthsFrom_5
def dkwX0_truthsFrom_3 : List UInt8 := [167, 0, 65, 42, 21, 5, 182, 1, 26, 180, 1, 30, 3, 42, 180, 0, 98, 28, 42, 21, 5, 182, 1, 26]
abbrev dktX0_truthsFrom_3 : List UInt8 := dkwX0_truthsFrom_3 ++ dktX0_truthsFrom_4
def dkwX0_truthsFrom_2 : List UInt8 := [153, 0, 88, 42, 180, 0, 92, 27, 42, 21, 5, 182, 1, 26, 180, 1, 35, 190, 96, 46, 154, 0, 6]
abbrev dktX0_truthsFrom_2 : List UInt8 := dkwX0_truthsFrom_2 ++ dktX0_truthsFrom_3
def dkwX0_truthsFrom_1 : List UInt8 := [54, 5, 21, 5, 42, 182, 0, 187, 180, 0, 190, 162, 0, 105, 42, 21, 5, 27, 29, 182, 1, 162]
abbrev dktX0_truthsFrom_1 : List UInt8 := dkwX0_truthsFrom_1 ++ dktX0_truthsFrom_2
def dkwX0_truthsFrom_0 : List UInt8 := [27, 29, 160, 0, 18, 42, 28, 29, 182, 1, 183, 153, 0, 7, 4, 167, 0, 4, 3, 172, 3, 54, 4, 3]
abbrev dktX0_truthsFrom_0 : List UInt8 := dkwX0_truthsFrom_0 ++ dktX0_truthsFrom_1
theorem dksX0_truthsFrom_0 : cX0_truthsFrom.data.toList.drop 0 = dktX0_truthsFrom_0 := by decide +kernel
theorem dksX0_truthsFrom_1 : cX0_truthsFrom.data.toList.drop 24 = dktX0_truthsFrom_1 := dk_seg dksX0_truthsFrom_0 24 rfl rfl
theorem dksX0_truthsFrom_2 : cX0_truthsFrom.data.toList.drop 46 = dktX0_truthsFrom_2 := dk_seg dksX0_truthsFrom_1 22 rfl rfl
theorem dksX0_truthsFrom_3 : cX0_truthsFrom.data.toList.drop 69 = dktX0_truthsFrom_3 := dk_seg dksX0_truthsFrom_2 23 rfl rfl
theorem dksX0_truthsFrom_4 : cX0_truthsFrom.data.toList.drop 93 = dktX0_truthsFrom_4 := dk_seg dksX0_truthsFrom_3 24 rfl rfl
theorem dksX0_truthsFrom_5 : cX0_truthsFrom.data.toList.drop 117 = dktX0_truthsFrom_5 := dk_seg dksX0_truthsFrom_4 24 rfl rfl
theorem dksX0_truthsFrom_6 : cX0_truthsFrom.data.toList.drop 140 = dktX0_truthsFrom_6 := dk_seg dksX0_truthsFrom_5 23 rfl rfl
theorem dX0_truthsFrom_0 : decode cX0_truthsFrom 0 = .ok (.iload_n 1, 1) := dk_27 (dk_at dksX0_truthsFrom_0 0 rfl rfl)
theorem dX0_truthsFrom_1 : decode cX0_truthsFrom 1 = .ok (.iload_n 3, 1) := dk_29 (dk_at dksX0_truthsFrom_0 1 rfl rfl)
theorem dX0_truthsFrom_2 : decode cX0_truthsFrom 2 = .ok (.if_icmp .ne 18, 3) := dk_160 0 18 (dk_at dksX0_truthsFrom_0 2 rfl rfl)
theorem dX0_truthsFrom_5 : decode cX0_truthsFrom 5 = .ok (.aload_n 0, 1) := dk_42 (dk_at dksX0_truthsFrom_0 5 rfl rfl)
theorem dX0_truthsFrom_6 : decode cX0_truthsFrom 6 = .ok (.iload_n 2, 1) := dk_28 (dk_at dksX0_truthsFrom_0 6 rfl rfl)
theorem dX0_truthsFrom_7 : decode cX0_truthsFrom 7 = .ok (.iload_n 3, 1) := dk_29 (dk_at dksX0_truthsFrom_0 7 rfl rfl)
theorem dX0_truthsFrom_8 : decode cX0_truthsFrom 8 = .ok (.invokevirtual 439, 3) := dk_182 1 183 (dk_at dksX0_truthsFrom_0 8 rfl rfl)
theorem dX0_truthsFrom_11 : decode cX0_truthsFrom 11 = .ok (.ifCond .eq 7, 3) := dk_153 0 7 (dk_at dksX0_truthsFrom_0 11 rfl rfl)
theorem dX0_truthsFrom_14 : decode cX0_truthsFrom 14 = .ok (.iconst 1, 1) := dk_4 (dk_at dksX0_truthsFrom_0 14 rfl rfl)
theorem dX0_truthsFrom_15 : decode cX0_truthsFrom 15 = .ok (.goto 4, 3) := dk_167 0 4 (dk_at dksX0_truthsFrom_0 15 rfl rfl)
theorem dX0_truthsFrom_18 : decode cX0_truthsFrom 18 = .ok (.iconst 0, 1) := dk_3 (dk_at dksX0_truthsFrom_0 18 rfl rfl)
theorem dX0_truthsFrom_19 : decode cX0_truthsFrom 19 = .ok (.ireturn, 1) := dk_172 (dk_at dksX0_truthsFrom_0 19 rfl rfl)
theorem dX0_truthsFrom_20 : decode cX0_truthsFrom 20 = .ok (.iconst 0, 1) := dk_3 (dk_at dksX0_truthsFrom_0 20 rfl rfl)
theorem dX0_truthsFrom_21 : decode cX0_truthsFrom 21 = .ok (.istore 4, 2) := dk_54 4 (dk_at dksX0_truthsFrom_0 21 rfl rfl)
theorem dX0_truthsFrom_23 : decode cX0_truthsFrom 23 = .ok (.iconst 0, 1) := dk_3 (dk_at dksX0_truthsFrom_0 23 rfl rfl)
theorem dX0_truthsFrom_24 : decode cX0_truthsFrom 24 = .ok (.istore 5, 2) := dk_54 5 (dk_at dksX0_truthsFrom_1 0 rfl rfl)
theorem dX0_truthsFrom_26 : decode cX0_truthsFrom 26 = .ok (.iload 5, 2) := dk_21 5 (dk_at dksX0_truthsFrom_1 2 rfl rfl)
theorem dX0_truthsFrom_28 : decode cX0_truthsFrom 28 = .ok (.aload_n 0, 1) := dk_42 (dk_at dksX0_truthsFrom_1 4 rfl rfl)
theorem dX0_truthsFrom_29 : decode cX0_truthsFrom 29 = .ok (.invokevirtual 187, 3) := dk_182 0 187 (dk_at dksX0_truthsFrom_1 5 rfl rfl)
theorem dX0_truthsFrom_32 : decode cX0_truthsFrom 32 = .ok (.getfield 190, 3) := dk_180 0 190 (dk_at dksX0_truthsFrom_1 8 rfl rfl)
theorem dX0_truthsFrom_35 : decode cX0_truthsFrom 35 = .ok (.if_icmp .ge 105, 3) := dk_162 0 105 (dk_at dksX0_truthsFrom_1 11 rfl rfl)
theorem dX0_truthsFrom_38 : decode cX0_truthsFrom 38 = .ok (.aload_n 0, 1) := dk_42 (dk_at dksX0_truthsFrom_1 14 rfl rfl)
theorem dX0_truthsFrom_39 : decode cX0_truthsFrom 39 = .ok (.iload 5, 2) := dk_21 5 (dk_at dksX0_truthsFrom_1 15 rfl rfl)
theorem dX0_truthsFrom_41 : decode cX0_truthsFrom 41 = .ok (.iload_n 1, 1) := dk_27 (dk_at dksX0_truthsFrom_1 17 rfl rfl)
theorem dX0_truthsFrom_42 : decode cX0_truthsFrom 42 = .ok (.iload_n 3, 1) := dk_29 (dk_at dksX0_truthsFrom_1 18 rfl rfl)
theorem dX0_truthsFrom_43 : decode cX0_truthsFrom 43 = .ok (.invokevirtual 418, 3) := dk_182 1 162 (dk_at dksX0_truthsFrom_1 19 rfl rfl)
theorem dX0_truthsFrom_46 : decode cX0_truthsFrom 46 = .ok (.ifCond .eq 88, 3) := dk_153 0 88 (dk_at dksX0_truthsFrom_2 0 rfl rfl)
theorem dX0_truthsFrom_49 : decode cX0_truthsFrom 49 = .ok (.aload_n 0, 1) := dk_42 (dk_at dksX0_truthsFrom_2 3 rfl rfl)
theorem dX0_truthsFrom_50 : decode cX0_truthsFrom 50 = .ok (.getfield 92, 3) := dk_180 0 92 (dk_at dksX0_truthsFrom_2 4 rfl rfl)
theorem dX0_truthsFrom_53 : decode cX0_truthsFrom 53 = .ok (.iload_n 1, 1) := dk_27 (dk_at dksX0_truthsFrom_2 7 rfl rfl)
theorem dX0_truthsFrom_54 : decode cX0_truthsFrom 54 = .ok (.aload_n 0, 1) := dk_42 (dk_at dksX0_truthsFrom_2 8 rfl rfl)
theorem dX0_truthsFrom_55 : decode cX0_truthsFrom 55 = .ok (.iload 5, 2) := dk_21 5 (dk_at dksX0_truthsFrom_2 9 rfl rfl)
theorem dX0_truthsFrom_57 : decode cX0_truthsFrom 57 = .ok (.invokevirtual 282, 3) := dk_182 1 26 (dk_at dksX0_truthsFrom_2 11 rfl rfl)
theorem dX0_truthsFrom_60 : decode cX0_truthsFrom 60 = .ok (.getfield 291, 3) := dk_180 1 35 (dk_at dksX0_truthsFrom_2 14 rfl rfl)
theorem dX0_truthsFrom_63 : decode cX0_truthsFrom 63 = .ok (.arraylength, 1) := dk_190 (dk_at dksX0_truthsFrom_2 17 rfl rfl)
theorem dX0_truthsFrom_64 : decode cX0_truthsFrom 64 = .ok (.iadd, 1) := dk_96 (dk_at dksX0_truthsFrom_2 18 rfl rfl)
theorem dX0_truthsFrom_65 : decode cX0_truthsFrom 65 = .ok (.iaload, 1) := dk_46 (dk_at dksX0_truthsFrom_2 19 rfl rfl)
theorem dX0_truthsFrom_66 : decode cX0_truthsFrom 66 = .ok (.ifCond .ne 6, 3) := dk_154 0 6 (dk_at dksX0_truthsFrom_2 20 rfl rfl)
theorem dX0_truthsFrom_69 : decode cX0_truthsFrom 69 = .ok (.goto 65, 3) := dk_167 0 65 (dk_at dksX0_truthsFrom_3 0 rfl rfl)
theorem dX0_truthsFrom_72 : decode cX0_truthsFrom 72 = .ok (.aload_n 0, 1) := dk_42 (dk_at dksX0_truthsFrom_3 3 rfl rfl)
theorem dX0_truthsFrom_73 : decode cX0_truthsFrom 73 = .ok (.iload 5, 2) := dk_21 5 (dk_at dksX0_truthsFrom_3 4 rfl rfl)
theorem dX0_truthsFrom_75 : decode cX0_truthsFrom 75 = .ok (.invokevirtual 282, 3) := dk_182 1 26 (dk_at dksX0_truthsFrom_3 6 rfl rfl)
theorem dX0_truthsFrom_78 : decode cX0_truthsFrom 78 = .ok (.getfield 286, 3) := dk_180 1 30 (dk_at dksX0_truthsFrom_3 9 rfl rfl)
theorem dX0_truthsFrom_81 : decode cX0_truthsFrom 81 = .ok (.iconst 0, 1) := dk_3 (dk_at dksX0_truthsFrom_3 12 rfl rfl)
theorem dX0_truthsFrom_82 : decode cX0_truthsFrom 82 = .ok (.aload_n 0, 1) := dk_42 (dk_at dksX0_truthsFrom_3 13 rfl rfl)
theorem dX0_truthsFrom_83 : decode cX0_truthsFrom 83 = .ok (.getfield 98, 3) := dk_180 0 98 (dk_at dksX0_truthsFrom_3 14 rfl rfl)
theorem dX0_truthsFrom_86 : decode cX0_truthsFrom 86 = .ok (.iload_n 2, 1) := dk_28 (dk_at dksX0_truthsFrom_3 17 rfl rfl)
theorem dX0_truthsFrom_87 : decode cX0_truthsFrom 87 = .ok (.aload_n 0, 1) := dk_42 (dk_at dksX0_truthsFrom_3 18 rfl rfl)
theorem dX0_truthsFrom_88 : decode cX0_truthsFrom 88 = .ok (.iload 5, 2) := dk_21 5 (dk_at dksX0_truthsFrom_3 19 rfl rfl)
theorem dX0_truthsFrom_90 : decode cX0_truthsFrom 90 = .ok (.invokevirtual 282, 3) := dk_182 1 26 (dk_at dksX0_truthsFrom_3 21 rfl rfl)
theorem dX0_truthsFrom_93 : decode cX0_truthsFrom 93 = .ok (.getfield 286, 3) := dk_180 1 30 (dk_at dksX0_truthsFrom_4 0 rfl rfl)
theorem dX0_truthsFrom_96 : decode cX0_truthsFrom 96 = .ok (.arraylength, 1) := dk_190 (dk_at dksX0_truthsFrom_4 3 rfl rfl)
theorem dX0_truthsFrom_97 : decode cX0_truthsFrom 97 = .ok (.invokestatic 179, 3) := dk_184 0 179 (dk_at dksX0_truthsFrom_4 4 rfl rfl)
theorem dX0_truthsFrom_100 : decode cX0_truthsFrom 100 = .ok (.iload 4, 2) := dk_21 4 (dk_at dksX0_truthsFrom_4 7 rfl rfl)
theorem dX0_truthsFrom_102 : decode cX0_truthsFrom 102 = .ok (.aload_n 0, 1) := dk_42 (dk_at dksX0_truthsFrom_4 9 rfl rfl)
theorem dX0_truthsFrom_103 : decode cX0_truthsFrom 103 = .ok (.iload_n 1, 1) := dk_27 (dk_at dksX0_truthsFrom_4 10 rfl rfl)
theorem dX0_truthsFrom_104 : decode cX0_truthsFrom 104 = .ok (.aload_n 0, 1) := dk_42 (dk_at dksX0_truthsFrom_4 11 rfl rfl)
theorem dX0_truthsFrom_105 : decode cX0_truthsFrom 105 = .ok (.iload 5, 2) := dk_21 5 (dk_at dksX0_truthsFrom_4 12 rfl rfl)
theorem dX0_truthsFrom_107 : decode cX0_truthsFrom 107 = .ok (.invokevirtual 282, 3) := dk_182 1 26 (dk_at dksX0_truthsFrom_4 14 rfl rfl)
theorem dX0_truthsFrom_110 : decode cX0_truthsFrom 110 = .ok (.getfield 291, 3) := dk_180 1 35 (dk_at dksX0_truthsFrom_4 17 rfl rfl)
theorem dX0_truthsFrom_113 : decode cX0_truthsFrom 113 = .ok (.arraylength, 1) := dk_190 (dk_at dksX0_truthsFrom_4 20 rfl rfl)
theorem dX0_truthsFrom_114 : decode cX0_truthsFrom 114 = .ok (.iadd, 1) := dk_96 (dk_at dksX0_truthsFrom_4 21 rfl rfl)
theorem dX0_truthsFrom_115 : decode cX0_truthsFrom 115 = .ok (.iload_n 2, 1) := dk_28 (dk_at dksX0_truthsFrom_4 22 rfl rfl)
theorem dX0_truthsFrom_116 : decode cX0_truthsFrom 116 = .ok (.aload_n 0, 1) := dk_42 (dk_at dksX0_truthsFrom_4 23 rfl rfl)
theorem dX0_truthsFrom_117 : decode cX0_truthsFrom 117 = .ok (.iload 5, 2) := dk_21 5 (dk_at dksX0_truthsFrom_5 0 rfl rfl)
theorem dX0_truthsFrom_119 : decode cX0_truthsFrom 119 = .ok (.invokevirtual 282, 3) := dk_182 1 26 (dk_at dksX0_truthsFrom_5 2 rfl rfl)
theorem dX0_truthsFrom_122 : decode cX0_truthsFrom 122 = .ok (.getfield 286, 3) := dk_180 1 30 (dk_at dksX0_truthsFrom_5 5 rfl rfl)
theorem dX0_truthsFrom_125 : decode cX0_truthsFrom 125 = .ok (.arraylength, 1) := dk_190 (dk_at dksX0_truthsFrom_5 8 rfl rfl)
theorem dX0_truthsFrom_126 : decode cX0_truthsFrom 126 = .ok (.iadd, 1) := dk_96 (dk_at dksX0_truthsFrom_5 9 rfl rfl)
theorem dX0_truthsFrom_127 : decode cX0_truthsFrom 127 = .ok (.iload_n 3, 1) := dk_29 (dk_at dksX0_truthsFrom_5 10 rfl rfl)
theorem dX0_truthsFrom_128 : decode cX0_truthsFrom 128 = .ok (.invokevirtual 442, 3) := dk_182 1 186 (dk_at dksX0_truthsFrom_5 11 rfl rfl)
theorem dX0_truthsFrom_131 : decode cX0_truthsFrom 131 = .ok (.iadd, 1) := dk_96 (dk_at dksX0_truthsFrom_5 14 rfl rfl)
theorem dX0_truthsFrom_132 : decode cX0_truthsFrom 132 = .ok (.istore 4, 2) := dk_54 4 (dk_at dksX0_truthsFrom_5 15 rfl rfl)
theorem dX0_truthsFrom_134 : decode cX0_truthsFrom 134 = .ok (.iinc 5 1, 3) := dk_132 5 1 (dk_at dksX0_truthsFrom_5 17 rfl rfl)
theorem dX0_truthsFrom_137 : decode cX0_truthsFrom 137 = .ok (.goto (-111), 3) := dk_167 255 145 (dk_at dksX0_truthsFrom_5 20 rfl rfl)
theorem dX0_truthsFrom_140 : decode cX0_truthsFrom 140 = .ok (.iload 4, 2) := dk_21 4 (dk_at dksX0_truthsFrom_6 0 rfl rfl)
theorem dX0_truthsFrom_142 : decode cX0_truthsFrom 142 = .ok (.ireturn, 1) := dk_172 (dk_at dksX0_truthsFrom_6 2 rfl rfl)
abbrev cX0_isTrue : ByteArray := prog_1_method_91_code
def yX0_isTrue : MethodName := ⟨RX0, "isTrue", "(II)Z"⟩
def dkwX0_isTrue_3 : List UInt8 := [167, 255, 228, 4, 172]
abbrev dktX0_isTrue_3 : List UInt8 := dkwX0_isTrue_3 ++ []
def dkwX0_isTrue_2 : List UInt8 := [182, 0, 241, 180, 1, 190, 29, 46, 42, 180, 0, 86, 29, 46, 159, 0, 5, 3, 172, 132, 3, 1]
abbrev dktX0_isTrue_2 : List UInt8 := dkwX0_isTrue_2 ++ dktX0_isTrue_3
def dkwX0_isTrue_1 : List UInt8 := [172, 42, 182, 0, 241, 180, 1, 46, 28, 159, 0, 5, 3, 172, 3, 62, 29, 28, 162, 0, 29, 42]
abbrev dktX0_isTrue_1 : List UInt8 := dkwX0_isTrue_1 ++ dktX0_isTrue_2
def dkwX0_isTrue_0 : List UInt8 := [42, 182, 0, 241, 42, 180, 0, 98, 27, 42, 180, 0, 62, 180, 0, 199, 182, 0, 244, 167, 0, 6, 78, 3]
abbrev dktX0_isTrue_0 : List UInt8 := dkwX0_isTrue_0 ++ dktX0_isTrue_1
theorem dksX0_isTrue_0 : cX0_isTrue.data.toList.drop 0 = dktX0_isTrue_0 := by decide +kernel
theorem dksX0_isTrue_1 : cX0_isTrue.data.toList.drop 24 = dktX0_isTrue_1 := dk_seg dksX0_isTrue_0 24 rfl rfl
theorem dksX0_isTrue_2 : cX0_isTrue.data.toList.drop 46 = dktX0_isTrue_2 := dk_seg dksX0_isTrue_1 22 rfl rfl
theorem dksX0_isTrue_3 : cX0_isTrue.data.toList.drop 68 = dktX0_isTrue_3 := dk_seg dksX0_isTrue_2 22 rfl rfl
theorem dX0_isTrue_0 : decode cX0_isTrue 0 = .ok (.aload_n 0, 1) := dk_42 (dk_at dksX0_isTrue_0 0 rfl rfl)
theorem dX0_isTrue_1 : decode cX0_isTrue 1 = .ok (.invokevirtual 241, 3) := dk_182 0 241 (dk_at dksX0_isTrue_0 1 rfl rfl)
theorem dX0_isTrue_4 : decode cX0_isTrue 4 = .ok (.aload_n 0, 1) := dk_42 (dk_at dksX0_isTrue_0 4 rfl rfl)
theorem dX0_isTrue_5 : decode cX0_isTrue 5 = .ok (.getfield 98, 3) := dk_180 0 98 (dk_at dksX0_isTrue_0 5 rfl rfl)
theorem dX0_isTrue_8 : decode cX0_isTrue 8 = .ok (.iload_n 1, 1) := dk_27 (dk_at dksX0_isTrue_0 8 rfl rfl)
theorem dX0_isTrue_9 : decode cX0_isTrue 9 = .ok (.aload_n 0, 1) := dk_42 (dk_at dksX0_isTrue_0 9 rfl rfl)
theorem dX0_isTrue_10 : decode cX0_isTrue 10 = .ok (.getfield 62, 3) := dk_180 0 62 (dk_at dksX0_isTrue_0 10 rfl rfl)
theorem dX0_isTrue_13 : decode cX0_isTrue 13 = .ok (.getfield 199, 3) := dk_180 0 199 (dk_at dksX0_isTrue_0 13 rfl rfl)
theorem dX0_isTrue_16 : decode cX0_isTrue 16 = .ok (.invokevirtual 244, 3) := dk_182 0 244 (dk_at dksX0_isTrue_0 16 rfl rfl)
theorem dX0_isTrue_19 : decode cX0_isTrue 19 = .ok (.goto 6, 3) := dk_167 0 6 (dk_at dksX0_isTrue_0 19 rfl rfl)
theorem dX0_isTrue_22 : decode cX0_isTrue 22 = .ok (.astore_n 3, 1) := dk_78 (dk_at dksX0_isTrue_0 22 rfl rfl)
theorem dX0_isTrue_23 : decode cX0_isTrue 23 = .ok (.iconst 0, 1) := dk_3 (dk_at dksX0_isTrue_0 23 rfl rfl)
theorem dX0_isTrue_24 : decode cX0_isTrue 24 = .ok (.ireturn, 1) := dk_172 (dk_at dksX0_isTrue_1 0 rfl rfl)
theorem dX0_isTrue_25 : decode cX0_isTrue 25 = .ok (.aload_n 0, 1) := dk_42 (dk_at dksX0_isTrue_1 1 rfl rfl)
theorem dX0_isTrue_26 : decode cX0_isTrue 26 = .ok (.invokevirtual 241, 3) := dk_182 0 241 (dk_at dksX0_isTrue_1 2 rfl rfl)
theorem dX0_isTrue_29 : decode cX0_isTrue 29 = .ok (.getfield 302, 3) := dk_180 1 46 (dk_at dksX0_isTrue_1 5 rfl rfl)
theorem dX0_isTrue_32 : decode cX0_isTrue 32 = .ok (.iload_n 2, 1) := dk_28 (dk_at dksX0_isTrue_1 8 rfl rfl)
theorem dX0_isTrue_33 : decode cX0_isTrue 33 = .ok (.if_icmp .eq 5, 3) := dk_159 0 5 (dk_at dksX0_isTrue_1 9 rfl rfl)
theorem dX0_isTrue_36 : decode cX0_isTrue 36 = .ok (.iconst 0, 1) := dk_3 (dk_at dksX0_isTrue_1 12 rfl rfl)
theorem dX0_isTrue_37 : decode cX0_isTrue 37 = .ok (.ireturn, 1) := dk_172 (dk_at dksX0_isTrue_1 13 rfl rfl)
theorem dX0_isTrue_38 : decode cX0_isTrue 38 = .ok (.iconst 0, 1) := dk_3 (dk_at dksX0_isTrue_1 14 rfl rfl)
theorem dX0_isTrue_39 : decode cX0_isTrue 39 = .ok (.istore_n 3, 1) := dk_62 (dk_at dksX0_isTrue_1 15 rfl rfl)
theorem dX0_isTrue_40 : decode cX0_isTrue 40 = .ok (.iload_n 3, 1) := dk_29 (dk_at dksX0_isTrue_1 16 rfl rfl)
theorem dX0_isTrue_41 : decode cX0_isTrue 41 = .ok (.iload_n 2, 1) := dk_28 (dk_at dksX0_isTrue_1 17 rfl rfl)
theorem dX0_isTrue_42 : decode cX0_isTrue 42 = .ok (.if_icmp .ge 29, 3) := dk_162 0 29 (dk_at dksX0_isTrue_1 18 rfl rfl)
theorem dX0_isTrue_45 : decode cX0_isTrue 45 = .ok (.aload_n 0, 1) := dk_42 (dk_at dksX0_isTrue_1 21 rfl rfl)
theorem dX0_isTrue_46 : decode cX0_isTrue 46 = .ok (.invokevirtual 241, 3) := dk_182 0 241 (dk_at dksX0_isTrue_2 0 rfl rfl)
theorem dX0_isTrue_49 : decode cX0_isTrue 49 = .ok (.getfield 446, 3) := dk_180 1 190 (dk_at dksX0_isTrue_2 3 rfl rfl)
theorem dX0_isTrue_52 : decode cX0_isTrue 52 = .ok (.iload_n 3, 1) := dk_29 (dk_at dksX0_isTrue_2 6 rfl rfl)
theorem dX0_isTrue_53 : decode cX0_isTrue 53 = .ok (.iaload, 1) := dk_46 (dk_at dksX0_isTrue_2 7 rfl rfl)
theorem dX0_isTrue_54 : decode cX0_isTrue 54 = .ok (.aload_n 0, 1) := dk_42 (dk_at dksX0_isTrue_2 8 rfl rfl)
theorem dX0_isTrue_55 : decode cX0_isTrue 55 = .ok (.getfield 86, 3) := dk_180 0 86 (dk_at dksX0_isTrue_2 9 rfl rfl)
theorem dX0_isTrue_58 : decode cX0_isTrue 58 = .ok (.iload_n 3, 1) := dk_29 (dk_at dksX0_isTrue_2 12 rfl rfl)
theorem dX0_isTrue_59 : decode cX0_isTrue 59 = .ok (.iaload, 1) := dk_46 (dk_at dksX0_isTrue_2 13 rfl rfl)
theorem dX0_isTrue_60 : decode cX0_isTrue 60 = .ok (.if_icmp .eq 5, 3) := dk_159 0 5 (dk_at dksX0_isTrue_2 14 rfl rfl)
theorem dX0_isTrue_63 : decode cX0_isTrue 63 = .ok (.iconst 0, 1) := dk_3 (dk_at dksX0_isTrue_2 17 rfl rfl)
theorem dX0_isTrue_64 : decode cX0_isTrue 64 = .ok (.ireturn, 1) := dk_172 (dk_at dksX0_isTrue_2 18 rfl rfl)
theorem dX0_isTrue_65 : decode cX0_isTrue 65 = .ok (.iinc 3 1, 3) := dk_132 3 1 (dk_at dksX0_isTrue_2 19 rfl rfl)
theorem dX0_isTrue_68 : decode cX0_isTrue 68 = .ok (.goto (-28), 3) := dk_167 255 228 (dk_at dksX0_isTrue_3 0 rfl rfl)
theorem dX0_isTrue_71 : decode cX0_isTrue 71 = .ok (.iconst 1, 1) := dk_4 (dk_at dksX0_isTrue_3 3 rfl rfl)
theorem dX0_isTrue_72 : decode cX0_isTrue 72 = .ok (.ireturn, 1) := dk_172 (dk_at dksX0_isTrue_3 4 rfl rfl)
abbrev cX0_failed : ByteArray := prog_1_method_93_code
def yX0_failed : MethodName := ⟨RX0, "failed", "(III)I"⟩
def dkwX0_failed_5 : List UInt8 := [182, 1, 167, 42, 29, 182, 1, 174, 172, 58, 4, 42, 25, 4, 182, 0, 171, 172]
abbrev dktX0_failed_5 : List UInt8 := dkwX0_failed_5 ++ []
def dkwX0_failed_4 : List UInt8 := [182, 0, 139, 42, 27, 29, 4, 42, 180, 0, 86, 182, 1, 167, 42, 28, 29, 3, 42, 180, 0, 89]
abbrev dktX0_failed_4 : List UInt8 := dkwX0_failed_4 ++ dktX0_failed_5
def dkwX0_failed_3 : List UInt8 := [25, 4, 184, 1, 155, 29, 161, 0, 16, 25, 5, 184, 1, 155, 29, 161, 0, 7, 4, 167, 0, 4, 3, 6]
abbrev dktX0_failed_3 : List UInt8 := dkwX0_failed_3 ++ dktX0_failed_4
def dkwX0_failed_2 : List UInt8 := [180, 0, 114, 158, 0, 5, 2, 172, 42, 27, 182, 0, 155, 58, 4, 42, 28, 182, 0, 155, 58, 5, 42]
abbrev dktX0_failed_2 : List UInt8 := dkwX0_failed_2 ++ dktX0_failed_3
def dkwX0_failed_1 : List UInt8 := [153, 0, 19, 29, 133, 10, 20, 1, 153, 184, 0, 195, 153, 0, 7, 3, 167, 0, 4, 4, 181, 0, 114, 42]
abbrev dktX0_failed_1 : List UInt8 := dkwX0_failed_1 ++ dktX0_failed_2
def dkwX0_failed_0 : List UInt8 := [42, 27, 133, 9, 20, 1, 151, 184, 0, 195, 153, 0, 31, 28, 133, 9, 20, 1, 151, 184, 0, 195]
abbrev dktX0_failed_0 : List UInt8 := dkwX0_failed_0 ++ dktX0_failed_1
theorem dksX0_failed_0 : cX0_failed.data.toList.drop 0 = dktX0_failed_0 := by decide +kernel
theorem dksX0_failed_1 : cX0_failed.data.toList.drop 22 = dktX0_failed_1 := dk_seg dksX0_failed_0 22 rfl rfl
theorem dksX0_failed_2 : cX0_failed.data.toList.drop 46 = dktX0_failed_2 := dk_seg dksX0_failed_1 24 rfl rfl
theorem dksX0_failed_3 : cX0_failed.data.toList.drop 69 = dktX0_failed_3 := dk_seg dksX0_failed_2 23 rfl rfl
theorem dksX0_failed_4 : cX0_failed.data.toList.drop 93 = dktX0_failed_4 := dk_seg dksX0_failed_3 24 rfl rfl
theorem dksX0_failed_5 : cX0_failed.data.toList.drop 115 = dktX0_failed_5 := dk_seg dksX0_failed_4 22 rfl rfl
theorem dX0_failed_0 : decode cX0_failed 0 = .ok (.aload_n 0, 1) := dk_42 (dk_at dksX0_failed_0 0 rfl rfl)
theorem dX0_failed_1 : decode cX0_failed 1 = .ok (.iload_n 1, 1) := dk_27 (dk_at dksX0_failed_0 1 rfl rfl)
theorem dX0_failed_2 : decode cX0_failed 2 = .ok (.i2l, 1) := dk_133 (dk_at dksX0_failed_0 2 rfl rfl)
theorem dX0_failed_3 : decode cX0_failed 3 = .ok (.lconst 0, 1) := dk_9 (dk_at dksX0_failed_0 3 rfl rfl)
theorem dX0_failed_4 : decode cX0_failed 4 = .ok (.ldc2_w 407, 3) := dk_20 1 151 (dk_at dksX0_failed_0 4 rfl rfl)
theorem dX0_failed_7 : decode cX0_failed 7 = .ok (.invokestatic 195, 3) := dk_184 0 195 (dk_at dksX0_failed_0 7 rfl rfl)
theorem dX0_failed_10 : decode cX0_failed 10 = .ok (.ifCond .eq 31, 3) := dk_153 0 31 (dk_at dksX0_failed_0 10 rfl rfl)
theorem dX0_failed_13 : decode cX0_failed 13 = .ok (.iload_n 2, 1) := dk_28 (dk_at dksX0_failed_0 13 rfl rfl)
theorem dX0_failed_14 : decode cX0_failed 14 = .ok (.i2l, 1) := dk_133 (dk_at dksX0_failed_0 14 rfl rfl)
theorem dX0_failed_15 : decode cX0_failed 15 = .ok (.lconst 0, 1) := dk_9 (dk_at dksX0_failed_0 15 rfl rfl)
theorem dX0_failed_16 : decode cX0_failed 16 = .ok (.ldc2_w 407, 3) := dk_20 1 151 (dk_at dksX0_failed_0 16 rfl rfl)
theorem dX0_failed_19 : decode cX0_failed 19 = .ok (.invokestatic 195, 3) := dk_184 0 195 (dk_at dksX0_failed_0 19 rfl rfl)
theorem dX0_failed_22 : decode cX0_failed 22 = .ok (.ifCond .eq 19, 3) := dk_153 0 19 (dk_at dksX0_failed_1 0 rfl rfl)
theorem dX0_failed_25 : decode cX0_failed 25 = .ok (.iload_n 3, 1) := dk_29 (dk_at dksX0_failed_1 3 rfl rfl)
theorem dX0_failed_26 : decode cX0_failed 26 = .ok (.i2l, 1) := dk_133 (dk_at dksX0_failed_1 4 rfl rfl)
theorem dX0_failed_27 : decode cX0_failed 27 = .ok (.lconst 1, 1) := dk_10 (dk_at dksX0_failed_1 5 rfl rfl)
theorem dX0_failed_28 : decode cX0_failed 28 = .ok (.ldc2_w 409, 3) := dk_20 1 153 (dk_at dksX0_failed_1 6 rfl rfl)
theorem dX0_failed_31 : decode cX0_failed 31 = .ok (.invokestatic 195, 3) := dk_184 0 195 (dk_at dksX0_failed_1 9 rfl rfl)
theorem dX0_failed_34 : decode cX0_failed 34 = .ok (.ifCond .eq 7, 3) := dk_153 0 7 (dk_at dksX0_failed_1 12 rfl rfl)
theorem dX0_failed_37 : decode cX0_failed 37 = .ok (.iconst 0, 1) := dk_3 (dk_at dksX0_failed_1 15 rfl rfl)
theorem dX0_failed_38 : decode cX0_failed 38 = .ok (.goto 4, 3) := dk_167 0 4 (dk_at dksX0_failed_1 16 rfl rfl)
theorem dX0_failed_41 : decode cX0_failed 41 = .ok (.iconst 1, 1) := dk_4 (dk_at dksX0_failed_1 19 rfl rfl)
theorem dX0_failed_42 : decode cX0_failed 42 = .ok (.putfield 114, 3) := dk_181 0 114 (dk_at dksX0_failed_1 20 rfl rfl)
theorem dX0_failed_45 : decode cX0_failed 45 = .ok (.aload_n 0, 1) := dk_42 (dk_at dksX0_failed_1 23 rfl rfl)
theorem dX0_failed_46 : decode cX0_failed 46 = .ok (.getfield 114, 3) := dk_180 0 114 (dk_at dksX0_failed_2 0 rfl rfl)
theorem dX0_failed_49 : decode cX0_failed 49 = .ok (.ifCond .le 5, 3) := dk_158 0 5 (dk_at dksX0_failed_2 3 rfl rfl)
theorem dX0_failed_52 : decode cX0_failed 52 = .ok (.iconst (-1), 1) := dk_2 (dk_at dksX0_failed_2 6 rfl rfl)
theorem dX0_failed_53 : decode cX0_failed 53 = .ok (.ireturn, 1) := dk_172 (dk_at dksX0_failed_2 7 rfl rfl)
theorem dX0_failed_54 : decode cX0_failed 54 = .ok (.aload_n 0, 1) := dk_42 (dk_at dksX0_failed_2 8 rfl rfl)
theorem dX0_failed_55 : decode cX0_failed 55 = .ok (.iload_n 1, 1) := dk_27 (dk_at dksX0_failed_2 9 rfl rfl)
theorem dX0_failed_56 : decode cX0_failed 56 = .ok (.invokevirtual 155, 3) := dk_182 0 155 (dk_at dksX0_failed_2 10 rfl rfl)
theorem dX0_failed_59 : decode cX0_failed 59 = .ok (.astore 4, 2) := dk_58 4 (dk_at dksX0_failed_2 13 rfl rfl)
theorem dX0_failed_61 : decode cX0_failed 61 = .ok (.aload_n 0, 1) := dk_42 (dk_at dksX0_failed_2 15 rfl rfl)
theorem dX0_failed_62 : decode cX0_failed 62 = .ok (.iload_n 2, 1) := dk_28 (dk_at dksX0_failed_2 16 rfl rfl)
theorem dX0_failed_63 : decode cX0_failed 63 = .ok (.invokevirtual 155, 3) := dk_182 0 155 (dk_at dksX0_failed_2 17 rfl rfl)
theorem dX0_failed_66 : decode cX0_failed 66 = .ok (.astore 5, 2) := dk_58 5 (dk_at dksX0_failed_2 20 rfl rfl)
theorem dX0_failed_68 : decode cX0_failed 68 = .ok (.aload_n 0, 1) := dk_42 (dk_at dksX0_failed_2 22 rfl rfl)
theorem dX0_failed_69 : decode cX0_failed 69 = .ok (.aload 4, 2) := dk_25 4 (dk_at dksX0_failed_3 0 rfl rfl)
theorem dX0_failed_71 : decode cX0_failed 71 = .ok (.invokestatic 411, 3) := dk_184 1 155 (dk_at dksX0_failed_3 2 rfl rfl)
theorem dX0_failed_74 : decode cX0_failed 74 = .ok (.iload_n 3, 1) := dk_29 (dk_at dksX0_failed_3 5 rfl rfl)
theorem dX0_failed_75 : decode cX0_failed 75 = .ok (.if_icmp .lt 16, 3) := dk_161 0 16 (dk_at dksX0_failed_3 6 rfl rfl)
theorem dX0_failed_78 : decode cX0_failed 78 = .ok (.aload 5, 2) := dk_25 5 (dk_at dksX0_failed_3 9 rfl rfl)
theorem dX0_failed_80 : decode cX0_failed 80 = .ok (.invokestatic 411, 3) := dk_184 1 155 (dk_at dksX0_failed_3 11 rfl rfl)
theorem dX0_failed_83 : decode cX0_failed 83 = .ok (.iload_n 3, 1) := dk_29 (dk_at dksX0_failed_3 14 rfl rfl)
theorem dX0_failed_84 : decode cX0_failed 84 = .ok (.if_icmp .lt 7, 3) := dk_161 0 7 (dk_at dksX0_failed_3 15 rfl rfl)
theorem dX0_failed_87 : decode cX0_failed 87 = .ok (.iconst 1, 1) := dk_4 (dk_at dksX0_failed_3 18 rfl rfl)
theorem dX0_failed_88 : decode cX0_failed 88 = .ok (.goto 4, 3) := dk_167 0 4 (dk_at dksX0_failed_3 19 rfl rfl)
theorem dX0_failed_91 : decode cX0_failed 91 = .ok (.iconst 0, 1) := dk_3 (dk_at dksX0_failed_3 22 rfl rfl)
theorem dX0_failed_92 : decode cX0_failed 92 = .ok (.iconst 3, 1) := dk_6 (dk_at dksX0_failed_3 23 rfl rfl)
theorem dX0_failed_93 : decode cX0_failed 93 = .ok (.invokevirtual 139, 3) := dk_182 0 139 (dk_at dksX0_failed_4 0 rfl rfl)
theorem dX0_failed_96 : decode cX0_failed 96 = .ok (.aload_n 0, 1) := dk_42 (dk_at dksX0_failed_4 3 rfl rfl)
theorem dX0_failed_97 : decode cX0_failed 97 = .ok (.iload_n 1, 1) := dk_27 (dk_at dksX0_failed_4 4 rfl rfl)
theorem dX0_failed_98 : decode cX0_failed 98 = .ok (.iload_n 3, 1) := dk_29 (dk_at dksX0_failed_4 5 rfl rfl)
theorem dX0_failed_99 : decode cX0_failed 99 = .ok (.iconst 1, 1) := dk_4 (dk_at dksX0_failed_4 6 rfl rfl)
theorem dX0_failed_100 : decode cX0_failed 100 = .ok (.aload_n 0, 1) := dk_42 (dk_at dksX0_failed_4 7 rfl rfl)
theorem dX0_failed_101 : decode cX0_failed 101 = .ok (.getfield 86, 3) := dk_180 0 86 (dk_at dksX0_failed_4 8 rfl rfl)
theorem dX0_failed_104 : decode cX0_failed 104 = .ok (.invokevirtual 423, 3) := dk_182 1 167 (dk_at dksX0_failed_4 11 rfl rfl)
theorem dX0_failed_107 : decode cX0_failed 107 = .ok (.aload_n 0, 1) := dk_42 (dk_at dksX0_failed_4 14 rfl rfl)
theorem dX0_failed_108 : decode cX0_failed 108 = .ok (.iload_n 2, 1) := dk_28 (dk_at dksX0_failed_4 15 rfl rfl)
theorem dX0_failed_109 : decode cX0_failed 109 = .ok (.iload_n 3, 1) := dk_29 (dk_at dksX0_failed_4 16 rfl rfl)
theorem dX0_failed_110 : decode cX0_failed 110 = .ok (.iconst 0, 1) := dk_3 (dk_at dksX0_failed_4 17 rfl rfl)
theorem dX0_failed_111 : decode cX0_failed 111 = .ok (.aload_n 0, 1) := dk_42 (dk_at dksX0_failed_4 18 rfl rfl)
theorem dX0_failed_112 : decode cX0_failed 112 = .ok (.getfield 89, 3) := dk_180 0 89 (dk_at dksX0_failed_4 19 rfl rfl)
theorem dX0_failed_115 : decode cX0_failed 115 = .ok (.invokevirtual 423, 3) := dk_182 1 167 (dk_at dksX0_failed_5 0 rfl rfl)
theorem dX0_failed_118 : decode cX0_failed 118 = .ok (.aload_n 0, 1) := dk_42 (dk_at dksX0_failed_5 3 rfl rfl)
theorem dX0_failed_119 : decode cX0_failed 119 = .ok (.iload_n 3, 1) := dk_29 (dk_at dksX0_failed_5 4 rfl rfl)
theorem dX0_failed_120 : decode cX0_failed 120 = .ok (.invokevirtual 430, 3) := dk_182 1 174 (dk_at dksX0_failed_5 5 rfl rfl)
theorem dX0_failed_123 : decode cX0_failed 123 = .ok (.ireturn, 1) := dk_172 (dk_at dksX0_failed_5 8 rfl rfl)
theorem dX0_failed_124 : decode cX0_failed 124 = .ok (.astore 4, 2) := dk_58 4 (dk_at dksX0_failed_5 9 rfl rfl)
theorem dX0_failed_126 : decode cX0_failed 126 = .ok (.aload_n 0, 1) := dk_42 (dk_at dksX0_failed_5 11 rfl rfl)
theorem dX0_failed_127 : decode cX0_failed 127 = .ok (.aload 4, 2) := dk_25 4 (dk_at dksX0_failed_5 12 rfl rfl)
theorem dX0_failed_129 : decode cX0_failed 129 = .ok (.invokevirtual 171, 3) := dk_182 0 171 (dk_at dksX0_failed_5 14 rfl rfl)
theorem dX0_failed_132 : decode cX0_failed 132 = .ok (.ireturn, 1) := dk_172 (dk_at dksX0_failed_5 17 rfl rfl)
abbrev cX0_mirror : ByteArray := prog_1_method_94_code
def yX0_mirror : MethodName := ⟨RX0, "mirror", "(I)I"⟩
def dkwX0_mirror_1 : List UInt8 := [180, 0, 114, 158, 0, 7, 2, 167, 0, 7, 27, 184, 1, 193, 172]
abbrev dktX0_mirror_1 : List UInt8 := dkwX0_mirror_1 ++ []
def dkwX0_mirror_0 : List UInt8 := [42, 27, 133, 9, 20, 1, 138, 184, 0, 195, 153, 0, 7, 3, 167, 0, 4, 4, 181, 0, 114, 42]
abbrev dktX0_mirror_0 : List UInt8 := dkwX0_mirror_0 ++ dktX0_mirror_1
theorem dksX0_mirror_0 : cX0_mirror.data.toList.drop 0 = dktX0_mirror_0 := by decide +kernel
theorem dksX0_mirror_1 : cX0_mirror.data.toList.drop 22 = dktX0_mirror_1 := dk_seg dksX0_mirror_0 22 rfl rfl
theorem dX0_mirror_0 : decode cX0_mirror 0 = .ok (.aload_n 0, 1) := dk_42 (dk_at dksX0_mirror_0 0 rfl rfl)
theorem dX0_mirror_1 : decode cX0_mirror 1 = .ok (.iload_n 1, 1) := dk_27 (dk_at dksX0_mirror_0 1 rfl rfl)
theorem dX0_mirror_2 : decode cX0_mirror 2 = .ok (.i2l, 1) := dk_133 (dk_at dksX0_mirror_0 2 rfl rfl)
theorem dX0_mirror_3 : decode cX0_mirror 3 = .ok (.lconst 0, 1) := dk_9 (dk_at dksX0_mirror_0 3 rfl rfl)
theorem dX0_mirror_4 : decode cX0_mirror 4 = .ok (.ldc2_w 394, 3) := dk_20 1 138 (dk_at dksX0_mirror_0 4 rfl rfl)
theorem dX0_mirror_7 : decode cX0_mirror 7 = .ok (.invokestatic 195, 3) := dk_184 0 195 (dk_at dksX0_mirror_0 7 rfl rfl)
theorem dX0_mirror_10 : decode cX0_mirror 10 = .ok (.ifCond .eq 7, 3) := dk_153 0 7 (dk_at dksX0_mirror_0 10 rfl rfl)
theorem dX0_mirror_13 : decode cX0_mirror 13 = .ok (.iconst 0, 1) := dk_3 (dk_at dksX0_mirror_0 13 rfl rfl)
theorem dX0_mirror_14 : decode cX0_mirror 14 = .ok (.goto 4, 3) := dk_167 0 4 (dk_at dksX0_mirror_0 14 rfl rfl)
theorem dX0_mirror_17 : decode cX0_mirror 17 = .ok (.iconst 1, 1) := dk_4 (dk_at dksX0_mirror_0 17 rfl rfl)
theorem dX0_mirror_18 : decode cX0_mirror 18 = .ok (.putfield 114, 3) := dk_181 0 114 (dk_at dksX0_mirror_0 18 rfl rfl)
theorem dX0_mirror_21 : decode cX0_mirror 21 = .ok (.aload_n 0, 1) := dk_42 (dk_at dksX0_mirror_0 21 rfl rfl)
theorem dX0_mirror_22 : decode cX0_mirror 22 = .ok (.getfield 114, 3) := dk_180 0 114 (dk_at dksX0_mirror_1 0 rfl rfl)
theorem dX0_mirror_25 : decode cX0_mirror 25 = .ok (.ifCond .le 7, 3) := dk_158 0 7 (dk_at dksX0_mirror_1 3 rfl rfl)
theorem dX0_mirror_28 : decode cX0_mirror 28 = .ok (.iconst (-1), 1) := dk_2 (dk_at dksX0_mirror_1 6 rfl rfl)
theorem dX0_mirror_29 : decode cX0_mirror 29 = .ok (.goto 7, 3) := dk_167 0 7 (dk_at dksX0_mirror_1 7 rfl rfl)
theorem dX0_mirror_32 : decode cX0_mirror 32 = .ok (.iload_n 1, 1) := dk_27 (dk_at dksX0_mirror_1 10 rfl rfl)
theorem dX0_mirror_33 : decode cX0_mirror 33 = .ok (.invokestatic 449, 3) := dk_184 1 193 (dk_at dksX0_mirror_1 11 rfl rfl)
theorem dX0_mirror_36 : decode cX0_mirror 36 = .ok (.ireturn, 1) := dk_172 (dk_at dksX0_mirror_1 14 rfl rfl)
abbrev cX0_mirrored : ByteArray := prog_1_method_95_code
def yX0_mirrored : MethodName := ⟨RX0, "mirrored", "(I)I"⟩
def dkwX0_mirrored_0 : List UInt8 := [26, 16, 7, 126, 6, 120, 26, 6, 122, 128, 172]
abbrev dktX0_mirrored_0 : List UInt8 := dkwX0_mirrored_0 ++ []
theorem dksX0_mirrored_0 : cX0_mirrored.data.toList.drop 0 = dktX0_mirrored_0 := by decide +kernel
theorem dX0_mirrored_0 : decode cX0_mirrored 0 = .ok (.iload_n 0, 1) := dk_26 (dk_at dksX0_mirrored_0 0 rfl rfl)
theorem dX0_mirrored_1 : decode cX0_mirrored 1 = .ok (.bipush 7, 2) := dk_16 7 (dk_at dksX0_mirrored_0 1 rfl rfl)
theorem dX0_mirrored_3 : decode cX0_mirrored 3 = .ok (.iand, 1) := dk_126 (dk_at dksX0_mirrored_0 3 rfl rfl)
theorem dX0_mirrored_4 : decode cX0_mirrored 4 = .ok (.iconst 3, 1) := dk_6 (dk_at dksX0_mirrored_0 4 rfl rfl)
theorem dX0_mirrored_5 : decode cX0_mirrored 5 = .ok (.ishl, 1) := dk_120 (dk_at dksX0_mirrored_0 5 rfl rfl)
theorem dX0_mirrored_6 : decode cX0_mirrored 6 = .ok (.iload_n 0, 1) := dk_26 (dk_at dksX0_mirrored_0 6 rfl rfl)
theorem dX0_mirrored_7 : decode cX0_mirrored 7 = .ok (.iconst 3, 1) := dk_6 (dk_at dksX0_mirrored_0 7 rfl rfl)
theorem dX0_mirrored_8 : decode cX0_mirrored 8 = .ok (.ishr, 1) := dk_122 (dk_at dksX0_mirrored_0 8 rfl rfl)
theorem dX0_mirrored_9 : decode cX0_mirrored 9 = .ok (.ior, 1) := dk_128 (dk_at dksX0_mirrored_0 9 rfl rfl)
theorem dX0_mirrored_10 : decode cX0_mirrored 10 = .ok (.ireturn, 1) := dk_172 (dk_at dksX0_mirrored_0 10 rfl rfl)
abbrev cX0_turned : ByteArray := prog_1_method_97_code
def yX0_turned : MethodName := ⟨RX0, "turned", "(I)I"⟩
def dkwX0_turned_2 : List UInt8 := [28, 172, 132, 2, 1, 167, 255, 231, 42, 2, 182, 1, 6, 172]
abbrev dktX0_turned_2 : List UInt8 := dkwX0_turned_2 ++ []
def dkwX0_turned_1 : List UInt8 := [2, 172, 3, 61, 28, 42, 182, 0, 187, 180, 0, 190, 162, 0, 20, 42, 27, 28, 182, 1, 196, 153, 0, 5]
abbrev dktX0_turned_1 : List UInt8 := dkwX0_turned_1 ++ dktX0_turned_2
def dkwX0_turned_0 : List UInt8 := [42, 42, 27, 182, 1, 21, 153, 0, 7, 3, 167, 0, 4, 4, 181, 0, 114, 42, 180, 0, 114, 158, 0, 5]
abbrev dktX0_turned_0 : List UInt8 := dkwX0_turned_0 ++ dktX0_turned_1
theorem dksX0_turned_0 : cX0_turned.data.toList.drop 0 = dktX0_turned_0 := by decide +kernel
theorem dksX0_turned_1 : cX0_turned.data.toList.drop 24 = dktX0_turned_1 := dk_seg dksX0_turned_0 24 rfl rfl
theorem dksX0_turned_2 : cX0_turned.data.toList.drop 48 = dktX0_turned_2 := dk_seg dksX0_turned_1 24 rfl rfl
theorem dX0_turned_0 : decode cX0_turned 0 = .ok (.aload_n 0, 1) := dk_42 (dk_at dksX0_turned_0 0 rfl rfl)
theorem dX0_turned_1 : decode cX0_turned 1 = .ok (.aload_n 0, 1) := dk_42 (dk_at dksX0_turned_0 1 rfl rfl)
theorem dX0_turned_2 : decode cX0_turned 2 = .ok (.iload_n 1, 1) := dk_27 (dk_at dksX0_turned_0 2 rfl rfl)
theorem dX0_turned_3 : decode cX0_turned 3 = .ok (.invokevirtual 277, 3) := dk_182 1 21 (dk_at dksX0_turned_0 3 rfl rfl)
theorem dX0_turned_6 : decode cX0_turned 6 = .ok (.ifCond .eq 7, 3) := dk_153 0 7 (dk_at dksX0_turned_0 6 rfl rfl)
theorem dX0_turned_9 : decode cX0_turned 9 = .ok (.iconst 0, 1) := dk_3 (dk_at dksX0_turned_0 9 rfl rfl)
theorem dX0_turned_10 : decode cX0_turned 10 = .ok (.goto 4, 3) := dk_167 0 4 (dk_at dksX0_turned_0 10 rfl rfl)
theorem dX0_turned_13 : decode cX0_turned 13 = .ok (.iconst 1, 1) := dk_4 (dk_at dksX0_turned_0 13 rfl rfl)
theorem dX0_turned_14 : decode cX0_turned 14 = .ok (.putfield 114, 3) := dk_181 0 114 (dk_at dksX0_turned_0 14 rfl rfl)
theorem dX0_turned_17 : decode cX0_turned 17 = .ok (.aload_n 0, 1) := dk_42 (dk_at dksX0_turned_0 17 rfl rfl)
theorem dX0_turned_18 : decode cX0_turned 18 = .ok (.getfield 114, 3) := dk_180 0 114 (dk_at dksX0_turned_0 18 rfl rfl)
theorem dX0_turned_21 : decode cX0_turned 21 = .ok (.ifCond .le 5, 3) := dk_158 0 5 (dk_at dksX0_turned_0 21 rfl rfl)
theorem dX0_turned_24 : decode cX0_turned 24 = .ok (.iconst (-1), 1) := dk_2 (dk_at dksX0_turned_1 0 rfl rfl)
theorem dX0_turned_25 : decode cX0_turned 25 = .ok (.ireturn, 1) := dk_172 (dk_at dksX0_turned_1 1 rfl rfl)
theorem dX0_turned_26 : decode cX0_turned 26 = .ok (.iconst 0, 1) := dk_3 (dk_at dksX0_turned_1 2 rfl rfl)
theorem dX0_turned_27 : decode cX0_turned 27 = .ok (.istore_n 2, 1) := dk_61 (dk_at dksX0_turned_1 3 rfl rfl)
theorem dX0_turned_28 : decode cX0_turned 28 = .ok (.iload_n 2, 1) := dk_28 (dk_at dksX0_turned_1 4 rfl rfl)
theorem dX0_turned_29 : decode cX0_turned 29 = .ok (.aload_n 0, 1) := dk_42 (dk_at dksX0_turned_1 5 rfl rfl)
theorem dX0_turned_30 : decode cX0_turned 30 = .ok (.invokevirtual 187, 3) := dk_182 0 187 (dk_at dksX0_turned_1 6 rfl rfl)
theorem dX0_turned_33 : decode cX0_turned 33 = .ok (.getfield 190, 3) := dk_180 0 190 (dk_at dksX0_turned_1 9 rfl rfl)
theorem dX0_turned_36 : decode cX0_turned 36 = .ok (.if_icmp .ge 20, 3) := dk_162 0 20 (dk_at dksX0_turned_1 12 rfl rfl)
theorem dX0_turned_39 : decode cX0_turned 39 = .ok (.aload_n 0, 1) := dk_42 (dk_at dksX0_turned_1 15 rfl rfl)
theorem dX0_turned_40 : decode cX0_turned 40 = .ok (.iload_n 1, 1) := dk_27 (dk_at dksX0_turned_1 16 rfl rfl)
theorem dX0_turned_41 : decode cX0_turned 41 = .ok (.iload_n 2, 1) := dk_28 (dk_at dksX0_turned_1 17 rfl rfl)
theorem dX0_turned_42 : decode cX0_turned 42 = .ok (.invokevirtual 452, 3) := dk_182 1 196 (dk_at dksX0_turned_1 18 rfl rfl)
theorem dX0_turned_45 : decode cX0_turned 45 = .ok (.ifCond .eq 5, 3) := dk_153 0 5 (dk_at dksX0_turned_1 21 rfl rfl)
theorem dX0_turned_48 : decode cX0_turned 48 = .ok (.iload_n 2, 1) := dk_28 (dk_at dksX0_turned_2 0 rfl rfl)
theorem dX0_turned_49 : decode cX0_turned 49 = .ok (.ireturn, 1) := dk_172 (dk_at dksX0_turned_2 1 rfl rfl)
theorem dX0_turned_50 : decode cX0_turned 50 = .ok (.iinc 2 1, 3) := dk_132 2 1 (dk_at dksX0_turned_2 2 rfl rfl)
theorem dX0_turned_53 : decode cX0_turned 53 = .ok (.goto (-25), 3) := dk_167 255 231 (dk_at dksX0_turned_2 5 rfl rfl)
theorem dX0_turned_56 : decode cX0_turned 56 = .ok (.aload_n 0, 1) := dk_42 (dk_at dksX0_turned_2 8 rfl rfl)
theorem dX0_turned_57 : decode cX0_turned 57 = .ok (.iconst (-1), 1) := dk_2 (dk_at dksX0_turned_2 9 rfl rfl)
theorem dX0_turned_58 : decode cX0_turned 58 = .ok (.invokevirtual 262, 3) := dk_182 1 6 (dk_at dksX0_turned_2 10 rfl rfl)
theorem dX0_turned_61 : decode cX0_turned 61 = .ok (.ireturn, 1) := dk_172 (dk_at dksX0_turned_2 13 rfl rfl)
abbrev cX0_isTurned : ByteArray := prog_1_method_96_code
def yX0_isTurned : MethodName := ⟨RX0, "isTurned", "(II)Z"⟩
def dkwX0_isTurned_3 : List UInt8 := [4, 172]
abbrev dktX0_isTurned_3 : List UInt8 := dkwX0_isTurned_3 ++ []
def dkwX0_isTurned_2 : List UInt8 := [42, 27, 182, 1, 26, 180, 1, 35, 29, 46, 184, 1, 193, 159, 0, 5, 3, 172, 132, 3, 1, 167, 255, 212]
abbrev dktX0_isTurned_2 : List UInt8 := dkwX0_isTurned_2 ++ dktX0_isTurned_3
def dkwX0_isTurned_1 : List UInt8 := [62, 29, 42, 27, 182, 1, 26, 180, 1, 35, 190, 162, 0, 37, 42, 28, 182, 1, 26, 180, 1, 35, 29, 46]
abbrev dktX0_isTurned_1 : List UInt8 := dkwX0_isTurned_1 ++ dktX0_isTurned_2
def dkwX0_isTurned_0 : List UInt8 := [42, 27, 182, 1, 26, 180, 1, 35, 190, 42, 28, 182, 1, 26, 180, 1, 35, 190, 159, 0, 5, 3, 172, 3]
abbrev dktX0_isTurned_0 : List UInt8 := dkwX0_isTurned_0 ++ dktX0_isTurned_1
theorem dksX0_isTurned_0 : cX0_isTurned.data.toList.drop 0 = dktX0_isTurned_0 := by decide +kernel
theorem dksX0_isTurned_1 : cX0_isTurned.data.toList.drop 24 = dktX0_isTurned_1 := dk_seg dksX0_isTurned_0 24 rfl rfl
theorem dksX0_isTurned_2 : cX0_isTurned.data.toList.drop 48 = dktX0_isTurned_2 := dk_seg dksX0_isTurned_1 24 rfl rfl
theorem dksX0_isTurned_3 : cX0_isTurned.data.toList.drop 72 = dktX0_isTurned_3 := dk_seg dksX0_isTurned_2 24 rfl rfl
theorem dX0_isTurned_0 : decode cX0_isTurned 0 = .ok (.aload_n 0, 1) := dk_42 (dk_at dksX0_isTurned_0 0 rfl rfl)
theorem dX0_isTurned_1 : decode cX0_isTurned 1 = .ok (.iload_n 1, 1) := dk_27 (dk_at dksX0_isTurned_0 1 rfl rfl)
theorem dX0_isTurned_2 : decode cX0_isTurned 2 = .ok (.invokevirtual 282, 3) := dk_182 1 26 (dk_at dksX0_isTurned_0 2 rfl rfl)
theorem dX0_isTurned_5 : decode cX0_isTurned 5 = .ok (.getfield 291, 3) := dk_180 1 35 (dk_at dksX0_isTurned_0 5 rfl rfl)
theorem dX0_isTurned_8 : decode cX0_isTurned 8 = .ok (.arraylength, 1) := dk_190 (dk_at dksX0_isTurned_0 8 rfl rfl)
theorem dX0_isTurned_9 : decode cX0_isTurned 9 = .ok (.aload_n 0, 1) := dk_42 (dk_at dksX0_isTurned_0 9 rfl rfl)
theorem dX0_isTurned_10 : decode cX0_isTurned 10 = .ok (.iload_n 2, 1) := dk_28 (dk_at dksX0_isTurned_0 10 rfl rfl)
theorem dX0_isTurned_11 : decode cX0_isTurned 11 = .ok (.invokevirtual 282, 3) := dk_182 1 26 (dk_at dksX0_isTurned_0 11 rfl rfl)
theorem dX0_isTurned_14 : decode cX0_isTurned 14 = .ok (.getfield 291, 3) := dk_180 1 35 (dk_at dksX0_isTurned_0 14 rfl rfl)
theorem dX0_isTurned_17 : decode cX0_isTurned 17 = .ok (.arraylength, 1) := dk_190 (dk_at dksX0_isTurned_0 17 rfl rfl)
theorem dX0_isTurned_18 : decode cX0_isTurned 18 = .ok (.if_icmp .eq 5, 3) := dk_159 0 5 (dk_at dksX0_isTurned_0 18 rfl rfl)
theorem dX0_isTurned_21 : decode cX0_isTurned 21 = .ok (.iconst 0, 1) := dk_3 (dk_at dksX0_isTurned_0 21 rfl rfl)
theorem dX0_isTurned_22 : decode cX0_isTurned 22 = .ok (.ireturn, 1) := dk_172 (dk_at dksX0_isTurned_0 22 rfl rfl)
theorem dX0_isTurned_23 : decode cX0_isTurned 23 = .ok (.iconst 0, 1) := dk_3 (dk_at dksX0_isTurned_0 23 rfl rfl)
theorem dX0_isTurned_24 : decode cX0_isTurned 24 = .ok (.istore_n 3, 1) := dk_62 (dk_at dksX0_isTurned_1 0 rfl rfl)
theorem dX0_isTurned_25 : decode cX0_isTurned 25 = .ok (.iload_n 3, 1) := dk_29 (dk_at dksX0_isTurned_1 1 rfl rfl)
theorem dX0_isTurned_26 : decode cX0_isTurned 26 = .ok (.aload_n 0, 1) := dk_42 (dk_at dksX0_isTurned_1 2 rfl rfl)
theorem dX0_isTurned_27 : decode cX0_isTurned 27 = .ok (.iload_n 1, 1) := dk_27 (dk_at dksX0_isTurned_1 3 rfl rfl)
theorem dX0_isTurned_28 : decode cX0_isTurned 28 = .ok (.invokevirtual 282, 3) := dk_182 1 26 (dk_at dksX0_isTurned_1 4 rfl rfl)
theorem dX0_isTurned_31 : decode cX0_isTurned 31 = .ok (.getfield 291, 3) := dk_180 1 35 (dk_at dksX0_isTurned_1 7 rfl rfl)
theorem dX0_isTurned_34 : decode cX0_isTurned 34 = .ok (.arraylength, 1) := dk_190 (dk_at dksX0_isTurned_1 10 rfl rfl)
theorem dX0_isTurned_35 : decode cX0_isTurned 35 = .ok (.if_icmp .ge 37, 3) := dk_162 0 37 (dk_at dksX0_isTurned_1 11 rfl rfl)
theorem dX0_isTurned_38 : decode cX0_isTurned 38 = .ok (.aload_n 0, 1) := dk_42 (dk_at dksX0_isTurned_1 14 rfl rfl)
theorem dX0_isTurned_39 : decode cX0_isTurned 39 = .ok (.iload_n 2, 1) := dk_28 (dk_at dksX0_isTurned_1 15 rfl rfl)
theorem dX0_isTurned_40 : decode cX0_isTurned 40 = .ok (.invokevirtual 282, 3) := dk_182 1 26 (dk_at dksX0_isTurned_1 16 rfl rfl)
theorem dX0_isTurned_43 : decode cX0_isTurned 43 = .ok (.getfield 291, 3) := dk_180 1 35 (dk_at dksX0_isTurned_1 19 rfl rfl)
theorem dX0_isTurned_46 : decode cX0_isTurned 46 = .ok (.iload_n 3, 1) := dk_29 (dk_at dksX0_isTurned_1 22 rfl rfl)
theorem dX0_isTurned_47 : decode cX0_isTurned 47 = .ok (.iaload, 1) := dk_46 (dk_at dksX0_isTurned_1 23 rfl rfl)
theorem dX0_isTurned_48 : decode cX0_isTurned 48 = .ok (.aload_n 0, 1) := dk_42 (dk_at dksX0_isTurned_2 0 rfl rfl)
theorem dX0_isTurned_49 : decode cX0_isTurned 49 = .ok (.iload_n 1, 1) := dk_27 (dk_at dksX0_isTurned_2 1 rfl rfl)
theorem dX0_isTurned_50 : decode cX0_isTurned 50 = .ok (.invokevirtual 282, 3) := dk_182 1 26 (dk_at dksX0_isTurned_2 2 rfl rfl)
theorem dX0_isTurned_53 : decode cX0_isTurned 53 = .ok (.getfield 291, 3) := dk_180 1 35 (dk_at dksX0_isTurned_2 5 rfl rfl)
theorem dX0_isTurned_56 : decode cX0_isTurned 56 = .ok (.iload_n 3, 1) := dk_29 (dk_at dksX0_isTurned_2 8 rfl rfl)
theorem dX0_isTurned_57 : decode cX0_isTurned 57 = .ok (.iaload, 1) := dk_46 (dk_at dksX0_isTurned_2 9 rfl rfl)
theorem dX0_isTurned_58 : decode cX0_isTurned 58 = .ok (.invokestatic 449, 3) := dk_184 1 193 (dk_at dksX0_isTurned_2 10 rfl rfl)
theorem dX0_isTurned_61 : decode cX0_isTurned 61 = .ok (.if_icmp .eq 5, 3) := dk_159 0 5 (dk_at dksX0_isTurned_2 13 rfl rfl)
theorem dX0_isTurned_64 : decode cX0_isTurned 64 = .ok (.iconst 0, 1) := dk_3 (dk_at dksX0_isTurned_2 16 rfl rfl)
theorem dX0_isTurned_65 : decode cX0_isTurned 65 = .ok (.ireturn, 1) := dk_172 (dk_at dksX0_isTurned_2 17 rfl rfl)
theorem dX0_isTurned_66 : decode cX0_isTurned 66 = .ok (.iinc 3 1, 3) := dk_132 3 1 (dk_at dksX0_isTurned_2 18 rfl rfl)
theorem dX0_isTurned_69 : decode cX0_isTurned 69 = .ok (.goto (-44), 3) := dk_167 255 212 (dk_at dksX0_isTurned_2 21 rfl rfl)
theorem dX0_isTurned_72 : decode cX0_isTurned 72 = .ok (.iconst 1, 1) := dk_4 (dk_at dksX0_isTurned_3 0 rfl rfl)
theorem dX0_isTurned_73 : decode cX0_isTurned 73 = .ok (.ireturn, 1) := dk_172 (dk_at dksX0_isTurned_3 1 rfl rfl)
abbrev cX0_near : ByteArray := prog_1_method_98_code
def yX0_near : MethodName := ⟨RX0, "near", "(II)I"⟩
def dkwX0_near_4 : List UInt8 := [182, 1, 26, 180, 1, 35, 21, 4, 46, 130, 184, 1, 90, 96, 62, 132, 4, 1, 167, 255, 210, 29, 172]
abbrev dktX0_near_4 : List UInt8 := dkwX0_near_4 ++ []
def dkwX0_near_3 : List UInt8 := [182, 1, 26, 180, 1, 35, 190, 162, 0, 38, 29, 42, 27, 182, 1, 26, 180, 1, 35, 21, 4, 46, 42, 28]
abbrev dktX0_near_3 : List UInt8 := dkwX0_near_3 ++ dktX0_near_4
def dkwX0_near_2 : List UInt8 := [3, 181, 0, 114, 42, 180, 0, 114, 158, 0, 5, 2, 172, 3, 62, 3, 54, 4, 21, 4, 42, 27]
abbrev dktX0_near_2 : List UInt8 := dkwX0_near_2 ++ dktX0_near_3
def dkwX0_near_1 : List UInt8 := [182, 1, 26, 180, 1, 35, 190, 42, 28, 182, 1, 26, 180, 1, 35, 190, 159, 0, 8, 16, 7, 167, 0, 4]
abbrev dktX0_near_1 : List UInt8 := dkwX0_near_1 ++ dktX0_near_2
def dkwX0_near_0 : List UInt8 := [42, 42, 27, 182, 1, 21, 153, 0, 11, 42, 28, 182, 1, 21, 154, 0, 7, 4, 167, 0, 30, 42, 27]
abbrev dktX0_near_0 : List UInt8 := dkwX0_near_0 ++ dktX0_near_1
theorem dksX0_near_0 : cX0_near.data.toList.drop 0 = dktX0_near_0 := by decide +kernel
theorem dksX0_near_1 : cX0_near.data.toList.drop 23 = dktX0_near_1 := dk_seg dksX0_near_0 23 rfl rfl
theorem dksX0_near_2 : cX0_near.data.toList.drop 47 = dktX0_near_2 := dk_seg dksX0_near_1 24 rfl rfl
theorem dksX0_near_3 : cX0_near.data.toList.drop 69 = dktX0_near_3 := dk_seg dksX0_near_2 22 rfl rfl
theorem dksX0_near_4 : cX0_near.data.toList.drop 93 = dktX0_near_4 := dk_seg dksX0_near_3 24 rfl rfl
theorem dX0_near_0 : decode cX0_near 0 = .ok (.aload_n 0, 1) := dk_42 (dk_at dksX0_near_0 0 rfl rfl)
theorem dX0_near_1 : decode cX0_near 1 = .ok (.aload_n 0, 1) := dk_42 (dk_at dksX0_near_0 1 rfl rfl)
theorem dX0_near_2 : decode cX0_near 2 = .ok (.iload_n 1, 1) := dk_27 (dk_at dksX0_near_0 2 rfl rfl)
theorem dX0_near_3 : decode cX0_near 3 = .ok (.invokevirtual 277, 3) := dk_182 1 21 (dk_at dksX0_near_0 3 rfl rfl)
theorem dX0_near_6 : decode cX0_near 6 = .ok (.ifCond .eq 11, 3) := dk_153 0 11 (dk_at dksX0_near_0 6 rfl rfl)
theorem dX0_near_9 : decode cX0_near 9 = .ok (.aload_n 0, 1) := dk_42 (dk_at dksX0_near_0 9 rfl rfl)
theorem dX0_near_10 : decode cX0_near 10 = .ok (.iload_n 2, 1) := dk_28 (dk_at dksX0_near_0 10 rfl rfl)
theorem dX0_near_11 : decode cX0_near 11 = .ok (.invokevirtual 277, 3) := dk_182 1 21 (dk_at dksX0_near_0 11 rfl rfl)
theorem dX0_near_14 : decode cX0_near 14 = .ok (.ifCond .ne 7, 3) := dk_154 0 7 (dk_at dksX0_near_0 14 rfl rfl)
theorem dX0_near_17 : decode cX0_near 17 = .ok (.iconst 1, 1) := dk_4 (dk_at dksX0_near_0 17 rfl rfl)
theorem dX0_near_18 : decode cX0_near 18 = .ok (.goto 30, 3) := dk_167 0 30 (dk_at dksX0_near_0 18 rfl rfl)
theorem dX0_near_21 : decode cX0_near 21 = .ok (.aload_n 0, 1) := dk_42 (dk_at dksX0_near_0 21 rfl rfl)
theorem dX0_near_22 : decode cX0_near 22 = .ok (.iload_n 1, 1) := dk_27 (dk_at dksX0_near_0 22 rfl rfl)
theorem dX0_near_23 : decode cX0_near 23 = .ok (.invokevirtual 282, 3) := dk_182 1 26 (dk_at dksX0_near_1 0 rfl rfl)
theorem dX0_near_26 : decode cX0_near 26 = .ok (.getfield 291, 3) := dk_180 1 35 (dk_at dksX0_near_1 3 rfl rfl)
theorem dX0_near_29 : decode cX0_near 29 = .ok (.arraylength, 1) := dk_190 (dk_at dksX0_near_1 6 rfl rfl)
theorem dX0_near_30 : decode cX0_near 30 = .ok (.aload_n 0, 1) := dk_42 (dk_at dksX0_near_1 7 rfl rfl)
theorem dX0_near_31 : decode cX0_near 31 = .ok (.iload_n 2, 1) := dk_28 (dk_at dksX0_near_1 8 rfl rfl)
theorem dX0_near_32 : decode cX0_near 32 = .ok (.invokevirtual 282, 3) := dk_182 1 26 (dk_at dksX0_near_1 9 rfl rfl)
theorem dX0_near_35 : decode cX0_near 35 = .ok (.getfield 291, 3) := dk_180 1 35 (dk_at dksX0_near_1 12 rfl rfl)
theorem dX0_near_38 : decode cX0_near 38 = .ok (.arraylength, 1) := dk_190 (dk_at dksX0_near_1 15 rfl rfl)
theorem dX0_near_39 : decode cX0_near 39 = .ok (.if_icmp .eq 8, 3) := dk_159 0 8 (dk_at dksX0_near_1 16 rfl rfl)
theorem dX0_near_42 : decode cX0_near 42 = .ok (.bipush 7, 2) := dk_16 7 (dk_at dksX0_near_1 19 rfl rfl)
theorem dX0_near_44 : decode cX0_near 44 = .ok (.goto 4, 3) := dk_167 0 4 (dk_at dksX0_near_1 21 rfl rfl)
theorem dX0_near_47 : decode cX0_near 47 = .ok (.iconst 0, 1) := dk_3 (dk_at dksX0_near_2 0 rfl rfl)
theorem dX0_near_48 : decode cX0_near 48 = .ok (.putfield 114, 3) := dk_181 0 114 (dk_at dksX0_near_2 1 rfl rfl)
theorem dX0_near_51 : decode cX0_near 51 = .ok (.aload_n 0, 1) := dk_42 (dk_at dksX0_near_2 4 rfl rfl)
theorem dX0_near_52 : decode cX0_near 52 = .ok (.getfield 114, 3) := dk_180 0 114 (dk_at dksX0_near_2 5 rfl rfl)
theorem dX0_near_55 : decode cX0_near 55 = .ok (.ifCond .le 5, 3) := dk_158 0 5 (dk_at dksX0_near_2 8 rfl rfl)
theorem dX0_near_58 : decode cX0_near 58 = .ok (.iconst (-1), 1) := dk_2 (dk_at dksX0_near_2 11 rfl rfl)
theorem dX0_near_59 : decode cX0_near 59 = .ok (.ireturn, 1) := dk_172 (dk_at dksX0_near_2 12 rfl rfl)
theorem dX0_near_60 : decode cX0_near 60 = .ok (.iconst 0, 1) := dk_3 (dk_at dksX0_near_2 13 rfl rfl)
theorem dX0_near_61 : decode cX0_near 61 = .ok (.istore_n 3, 1) := dk_62 (dk_at dksX0_near_2 14 rfl rfl)
theorem dX0_near_62 : decode cX0_near 62 = .ok (.iconst 0, 1) := dk_3 (dk_at dksX0_near_2 15 rfl rfl)
theorem dX0_near_63 : decode cX0_near 63 = .ok (.istore 4, 2) := dk_54 4 (dk_at dksX0_near_2 16 rfl rfl)
theorem dX0_near_65 : decode cX0_near 65 = .ok (.iload 4, 2) := dk_21 4 (dk_at dksX0_near_2 18 rfl rfl)
theorem dX0_near_67 : decode cX0_near 67 = .ok (.aload_n 0, 1) := dk_42 (dk_at dksX0_near_2 20 rfl rfl)
theorem dX0_near_68 : decode cX0_near 68 = .ok (.iload_n 1, 1) := dk_27 (dk_at dksX0_near_2 21 rfl rfl)
theorem dX0_near_69 : decode cX0_near 69 = .ok (.invokevirtual 282, 3) := dk_182 1 26 (dk_at dksX0_near_3 0 rfl rfl)
theorem dX0_near_72 : decode cX0_near 72 = .ok (.getfield 291, 3) := dk_180 1 35 (dk_at dksX0_near_3 3 rfl rfl)
theorem dX0_near_75 : decode cX0_near 75 = .ok (.arraylength, 1) := dk_190 (dk_at dksX0_near_3 6 rfl rfl)
theorem dX0_near_76 : decode cX0_near 76 = .ok (.if_icmp .ge 38, 3) := dk_162 0 38 (dk_at dksX0_near_3 7 rfl rfl)
theorem dX0_near_79 : decode cX0_near 79 = .ok (.iload_n 3, 1) := dk_29 (dk_at dksX0_near_3 10 rfl rfl)
theorem dX0_near_80 : decode cX0_near 80 = .ok (.aload_n 0, 1) := dk_42 (dk_at dksX0_near_3 11 rfl rfl)
theorem dX0_near_81 : decode cX0_near 81 = .ok (.iload_n 1, 1) := dk_27 (dk_at dksX0_near_3 12 rfl rfl)
theorem dX0_near_82 : decode cX0_near 82 = .ok (.invokevirtual 282, 3) := dk_182 1 26 (dk_at dksX0_near_3 13 rfl rfl)
theorem dX0_near_85 : decode cX0_near 85 = .ok (.getfield 291, 3) := dk_180 1 35 (dk_at dksX0_near_3 16 rfl rfl)
theorem dX0_near_88 : decode cX0_near 88 = .ok (.iload 4, 2) := dk_21 4 (dk_at dksX0_near_3 19 rfl rfl)
theorem dX0_near_90 : decode cX0_near 90 = .ok (.iaload, 1) := dk_46 (dk_at dksX0_near_3 21 rfl rfl)
theorem dX0_near_91 : decode cX0_near 91 = .ok (.aload_n 0, 1) := dk_42 (dk_at dksX0_near_3 22 rfl rfl)
theorem dX0_near_92 : decode cX0_near 92 = .ok (.iload_n 2, 1) := dk_28 (dk_at dksX0_near_3 23 rfl rfl)
theorem dX0_near_93 : decode cX0_near 93 = .ok (.invokevirtual 282, 3) := dk_182 1 26 (dk_at dksX0_near_4 0 rfl rfl)
theorem dX0_near_96 : decode cX0_near 96 = .ok (.getfield 291, 3) := dk_180 1 35 (dk_at dksX0_near_4 3 rfl rfl)
theorem dX0_near_99 : decode cX0_near 99 = .ok (.iload 4, 2) := dk_21 4 (dk_at dksX0_near_4 6 rfl rfl)
theorem dX0_near_101 : decode cX0_near 101 = .ok (.iaload, 1) := dk_46 (dk_at dksX0_near_4 8 rfl rfl)
theorem dX0_near_102 : decode cX0_near 102 = .ok (.ixor, 1) := dk_130 (dk_at dksX0_near_4 9 rfl rfl)
theorem dX0_near_103 : decode cX0_near 103 = .ok (.invokestatic 346, 3) := dk_184 1 90 (dk_at dksX0_near_4 10 rfl rfl)
theorem dX0_near_106 : decode cX0_near 106 = .ok (.iadd, 1) := dk_96 (dk_at dksX0_near_4 13 rfl rfl)
theorem dX0_near_107 : decode cX0_near 107 = .ok (.istore_n 3, 1) := dk_62 (dk_at dksX0_near_4 14 rfl rfl)
theorem dX0_near_108 : decode cX0_near 108 = .ok (.iinc 4 1, 3) := dk_132 4 1 (dk_at dksX0_near_4 15 rfl rfl)
theorem dX0_near_111 : decode cX0_near 111 = .ok (.goto (-46), 3) := dk_167 255 210 (dk_at dksX0_near_4 18 rfl rfl)
theorem dX0_near_114 : decode cX0_near 114 = .ok (.iload_n 3, 1) := dk_29 (dk_at dksX0_near_4 21 rfl rfl)
theorem dX0_near_115 : decode cX0_near 115 = .ok (.ireturn, 1) := dk_172 (dk_at dksX0_near_4 22 rfl rfl)
abbrev cX0_clash : ByteArray := prog_1_method_99_code
def yX0_clash : MethodName := ⟨RX0, "clash", "(II)I"⟩
def dkwX0_clash_2 : List UInt8 := [182, 1, 26, 3, 182, 1, 199, 153, 0, 7, 4, 167, 0, 4, 3, 172]
abbrev dktX0_clash_2 : List UInt8 := dkwX0_clash_2 ++ []
def dkwX0_clash_1 : List UInt8 := [181, 0, 114, 42, 180, 0, 114, 158, 0, 7, 2, 167, 0, 26, 42, 27, 182, 1, 26, 3, 42, 28]
abbrev dktX0_clash_1 : List UInt8 := dkwX0_clash_1 ++ dktX0_clash_2
def dkwX0_clash_0 : List UInt8 := [42, 42, 27, 182, 1, 21, 153, 0, 15, 42, 28, 182, 1, 21, 153, 0, 7, 3, 167, 0, 4, 4]
abbrev dktX0_clash_0 : List UInt8 := dkwX0_clash_0 ++ dktX0_clash_1
theorem dksX0_clash_0 : cX0_clash.data.toList.drop 0 = dktX0_clash_0 := by decide +kernel
theorem dksX0_clash_1 : cX0_clash.data.toList.drop 22 = dktX0_clash_1 := dk_seg dksX0_clash_0 22 rfl rfl
theorem dksX0_clash_2 : cX0_clash.data.toList.drop 44 = dktX0_clash_2 := dk_seg dksX0_clash_1 22 rfl rfl
theorem dX0_clash_0 : decode cX0_clash 0 = .ok (.aload_n 0, 1) := dk_42 (dk_at dksX0_clash_0 0 rfl rfl)
theorem dX0_clash_1 : decode cX0_clash 1 = .ok (.aload_n 0, 1) := dk_42 (dk_at dksX0_clash_0 1 rfl rfl)
theorem dX0_clash_2 : decode cX0_clash 2 = .ok (.iload_n 1, 1) := dk_27 (dk_at dksX0_clash_0 2 rfl rfl)
theorem dX0_clash_3 : decode cX0_clash 3 = .ok (.invokevirtual 277, 3) := dk_182 1 21 (dk_at dksX0_clash_0 3 rfl rfl)
theorem dX0_clash_6 : decode cX0_clash 6 = .ok (.ifCond .eq 15, 3) := dk_153 0 15 (dk_at dksX0_clash_0 6 rfl rfl)
theorem dX0_clash_9 : decode cX0_clash 9 = .ok (.aload_n 0, 1) := dk_42 (dk_at dksX0_clash_0 9 rfl rfl)
theorem dX0_clash_10 : decode cX0_clash 10 = .ok (.iload_n 2, 1) := dk_28 (dk_at dksX0_clash_0 10 rfl rfl)
theorem dX0_clash_11 : decode cX0_clash 11 = .ok (.invokevirtual 277, 3) := dk_182 1 21 (dk_at dksX0_clash_0 11 rfl rfl)
theorem dX0_clash_14 : decode cX0_clash 14 = .ok (.ifCond .eq 7, 3) := dk_153 0 7 (dk_at dksX0_clash_0 14 rfl rfl)
theorem dX0_clash_17 : decode cX0_clash 17 = .ok (.iconst 0, 1) := dk_3 (dk_at dksX0_clash_0 17 rfl rfl)
theorem dX0_clash_18 : decode cX0_clash 18 = .ok (.goto 4, 3) := dk_167 0 4 (dk_at dksX0_clash_0 18 rfl rfl)
theorem dX0_clash_21 : decode cX0_clash 21 = .ok (.iconst 1, 1) := dk_4 (dk_at dksX0_clash_0 21 rfl rfl)
theorem dX0_clash_22 : decode cX0_clash 22 = .ok (.putfield 114, 3) := dk_181 0 114 (dk_at dksX0_clash_1 0 rfl rfl)
theorem dX0_clash_25 : decode cX0_clash 25 = .ok (.aload_n 0, 1) := dk_42 (dk_at dksX0_clash_1 3 rfl rfl)
theorem dX0_clash_26 : decode cX0_clash 26 = .ok (.getfield 114, 3) := dk_180 0 114 (dk_at dksX0_clash_1 4 rfl rfl)
theorem dX0_clash_29 : decode cX0_clash 29 = .ok (.ifCond .le 7, 3) := dk_158 0 7 (dk_at dksX0_clash_1 7 rfl rfl)
theorem dX0_clash_32 : decode cX0_clash 32 = .ok (.iconst (-1), 1) := dk_2 (dk_at dksX0_clash_1 10 rfl rfl)
theorem dX0_clash_33 : decode cX0_clash 33 = .ok (.goto 26, 3) := dk_167 0 26 (dk_at dksX0_clash_1 11 rfl rfl)
theorem dX0_clash_36 : decode cX0_clash 36 = .ok (.aload_n 0, 1) := dk_42 (dk_at dksX0_clash_1 14 rfl rfl)
theorem dX0_clash_37 : decode cX0_clash 37 = .ok (.iload_n 1, 1) := dk_27 (dk_at dksX0_clash_1 15 rfl rfl)
theorem dX0_clash_38 : decode cX0_clash 38 = .ok (.invokevirtual 282, 3) := dk_182 1 26 (dk_at dksX0_clash_1 16 rfl rfl)
theorem dX0_clash_41 : decode cX0_clash 41 = .ok (.iconst 0, 1) := dk_3 (dk_at dksX0_clash_1 19 rfl rfl)
theorem dX0_clash_42 : decode cX0_clash 42 = .ok (.aload_n 0, 1) := dk_42 (dk_at dksX0_clash_1 20 rfl rfl)
theorem dX0_clash_43 : decode cX0_clash 43 = .ok (.iload_n 2, 1) := dk_28 (dk_at dksX0_clash_1 21 rfl rfl)
theorem dX0_clash_44 : decode cX0_clash 44 = .ok (.invokevirtual 282, 3) := dk_182 1 26 (dk_at dksX0_clash_2 0 rfl rfl)
theorem dX0_clash_47 : decode cX0_clash 47 = .ok (.iconst 0, 1) := dk_3 (dk_at dksX0_clash_2 3 rfl rfl)
theorem dX0_clash_48 : decode cX0_clash 48 = .ok (.invokevirtual 455, 3) := dk_182 1 199 (dk_at dksX0_clash_2 4 rfl rfl)
theorem dX0_clash_51 : decode cX0_clash 51 = .ok (.ifCond .eq 7, 3) := dk_153 0 7 (dk_at dksX0_clash_2 7 rfl rfl)
theorem dX0_clash_54 : decode cX0_clash 54 = .ok (.iconst 1, 1) := dk_4 (dk_at dksX0_clash_2 10 rfl rfl)
theorem dX0_clash_55 : decode cX0_clash 55 = .ok (.goto 4, 3) := dk_167 0 4 (dk_at dksX0_clash_2 11 rfl rfl)
theorem dX0_clash_58 : decode cX0_clash 58 = .ok (.iconst 0, 1) := dk_3 (dk_at dksX0_clash_2 14 rfl rfl)
theorem dX0_clash_59 : decode cX0_clash 59 = .ok (.ireturn, 1) := dk_172 (dk_at dksX0_clash_2 15 rfl rfl)
abbrev cX0_clashes : ByteArray := prog_1_method_100_code
def yX0_clashes : MethodName := ⟨RX0, "clashes", "()I"⟩
def dkwX0_clashes_3 : List UInt8 := [153, 0, 7, 4, 167, 0, 4, 3, 96, 60, 132, 3, 1, 167, 255, 195, 132, 2, 1, 167, 255, 176, 27, 172]
abbrev dktX0_clashes_3 : List UInt8 := dkwX0_clashes_3 ++ []
def dkwX0_clashes_2 : List UInt8 := [29, 182, 1, 87, 153, 0, 25, 42, 28, 182, 1, 26, 3, 42, 29, 182, 1, 26, 3, 182, 1, 199]
abbrev dktX0_clashes_2 : List UInt8 := dkwX0_clashes_2 ++ dktX0_clashes_3
def dkwX0_clashes_1 : List UInt8 := [182, 0, 187, 180, 0, 190, 162, 0, 56, 27, 28, 29, 159, 0, 41, 42, 28, 182, 1, 87, 153, 0, 33, 42]
abbrev dktX0_clashes_1 : List UInt8 := dkwX0_clashes_1 ++ dktX0_clashes_2
def dkwX0_clashes_0 : List UInt8 := [42, 3, 181, 0, 114, 3, 60, 3, 61, 28, 42, 182, 0, 187, 180, 0, 190, 162, 0, 75, 3, 62, 29, 42]
abbrev dktX0_clashes_0 : List UInt8 := dkwX0_clashes_0 ++ dktX0_clashes_1
theorem dksX0_clashes_0 : cX0_clashes.data.toList.drop 0 = dktX0_clashes_0 := by decide +kernel
theorem dksX0_clashes_1 : cX0_clashes.data.toList.drop 24 = dktX0_clashes_1 := dk_seg dksX0_clashes_0 24 rfl rfl
theorem dksX0_clashes_2 : cX0_clashes.data.toList.drop 48 = dktX0_clashes_2 := dk_seg dksX0_clashes_1 24 rfl rfl
theorem dksX0_clashes_3 : cX0_clashes.data.toList.drop 70 = dktX0_clashes_3 := dk_seg dksX0_clashes_2 22 rfl rfl
theorem dX0_clashes_0 : decode cX0_clashes 0 = .ok (.aload_n 0, 1) := dk_42 (dk_at dksX0_clashes_0 0 rfl rfl)
theorem dX0_clashes_1 : decode cX0_clashes 1 = .ok (.iconst 0, 1) := dk_3 (dk_at dksX0_clashes_0 1 rfl rfl)
theorem dX0_clashes_2 : decode cX0_clashes 2 = .ok (.putfield 114, 3) := dk_181 0 114 (dk_at dksX0_clashes_0 2 rfl rfl)
theorem dX0_clashes_5 : decode cX0_clashes 5 = .ok (.iconst 0, 1) := dk_3 (dk_at dksX0_clashes_0 5 rfl rfl)
theorem dX0_clashes_6 : decode cX0_clashes 6 = .ok (.istore_n 1, 1) := dk_60 (dk_at dksX0_clashes_0 6 rfl rfl)
theorem dX0_clashes_7 : decode cX0_clashes 7 = .ok (.iconst 0, 1) := dk_3 (dk_at dksX0_clashes_0 7 rfl rfl)
theorem dX0_clashes_8 : decode cX0_clashes 8 = .ok (.istore_n 2, 1) := dk_61 (dk_at dksX0_clashes_0 8 rfl rfl)
theorem dX0_clashes_9 : decode cX0_clashes 9 = .ok (.iload_n 2, 1) := dk_28 (dk_at dksX0_clashes_0 9 rfl rfl)
theorem dX0_clashes_10 : decode cX0_clashes 10 = .ok (.aload_n 0, 1) := dk_42 (dk_at dksX0_clashes_0 10 rfl rfl)
theorem dX0_clashes_11 : decode cX0_clashes 11 = .ok (.invokevirtual 187, 3) := dk_182 0 187 (dk_at dksX0_clashes_0 11 rfl rfl)
theorem dX0_clashes_14 : decode cX0_clashes 14 = .ok (.getfield 190, 3) := dk_180 0 190 (dk_at dksX0_clashes_0 14 rfl rfl)
theorem dX0_clashes_17 : decode cX0_clashes 17 = .ok (.if_icmp .ge 75, 3) := dk_162 0 75 (dk_at dksX0_clashes_0 17 rfl rfl)
theorem dX0_clashes_20 : decode cX0_clashes 20 = .ok (.iconst 0, 1) := dk_3 (dk_at dksX0_clashes_0 20 rfl rfl)
theorem dX0_clashes_21 : decode cX0_clashes 21 = .ok (.istore_n 3, 1) := dk_62 (dk_at dksX0_clashes_0 21 rfl rfl)
theorem dX0_clashes_22 : decode cX0_clashes 22 = .ok (.iload_n 3, 1) := dk_29 (dk_at dksX0_clashes_0 22 rfl rfl)
theorem dX0_clashes_23 : decode cX0_clashes 23 = .ok (.aload_n 0, 1) := dk_42 (dk_at dksX0_clashes_0 23 rfl rfl)
theorem dX0_clashes_24 : decode cX0_clashes 24 = .ok (.invokevirtual 187, 3) := dk_182 0 187 (dk_at dksX0_clashes_1 0 rfl rfl)
theorem dX0_clashes_27 : decode cX0_clashes 27 = .ok (.getfield 190, 3) := dk_180 0 190 (dk_at dksX0_clashes_1 3 rfl rfl)
theorem dX0_clashes_30 : decode cX0_clashes 30 = .ok (.if_icmp .ge 56, 3) := dk_162 0 56 (dk_at dksX0_clashes_1 6 rfl rfl)
theorem dX0_clashes_33 : decode cX0_clashes 33 = .ok (.iload_n 1, 1) := dk_27 (dk_at dksX0_clashes_1 9 rfl rfl)
theorem dX0_clashes_34 : decode cX0_clashes 34 = .ok (.iload_n 2, 1) := dk_28 (dk_at dksX0_clashes_1 10 rfl rfl)
theorem dX0_clashes_35 : decode cX0_clashes 35 = .ok (.iload_n 3, 1) := dk_29 (dk_at dksX0_clashes_1 11 rfl rfl)
theorem dX0_clashes_36 : decode cX0_clashes 36 = .ok (.if_icmp .eq 41, 3) := dk_159 0 41 (dk_at dksX0_clashes_1 12 rfl rfl)
theorem dX0_clashes_39 : decode cX0_clashes 39 = .ok (.aload_n 0, 1) := dk_42 (dk_at dksX0_clashes_1 15 rfl rfl)
theorem dX0_clashes_40 : decode cX0_clashes 40 = .ok (.iload_n 2, 1) := dk_28 (dk_at dksX0_clashes_1 16 rfl rfl)
theorem dX0_clashes_41 : decode cX0_clashes 41 = .ok (.invokevirtual 343, 3) := dk_182 1 87 (dk_at dksX0_clashes_1 17 rfl rfl)
theorem dX0_clashes_44 : decode cX0_clashes 44 = .ok (.ifCond .eq 33, 3) := dk_153 0 33 (dk_at dksX0_clashes_1 20 rfl rfl)
theorem dX0_clashes_47 : decode cX0_clashes 47 = .ok (.aload_n 0, 1) := dk_42 (dk_at dksX0_clashes_1 23 rfl rfl)
theorem dX0_clashes_48 : decode cX0_clashes 48 = .ok (.iload_n 3, 1) := dk_29 (dk_at dksX0_clashes_2 0 rfl rfl)
theorem dX0_clashes_49 : decode cX0_clashes 49 = .ok (.invokevirtual 343, 3) := dk_182 1 87 (dk_at dksX0_clashes_2 1 rfl rfl)
theorem dX0_clashes_52 : decode cX0_clashes 52 = .ok (.ifCond .eq 25, 3) := dk_153 0 25 (dk_at dksX0_clashes_2 4 rfl rfl)
theorem dX0_clashes_55 : decode cX0_clashes 55 = .ok (.aload_n 0, 1) := dk_42 (dk_at dksX0_clashes_2 7 rfl rfl)
theorem dX0_clashes_56 : decode cX0_clashes 56 = .ok (.iload_n 2, 1) := dk_28 (dk_at dksX0_clashes_2 8 rfl rfl)
theorem dX0_clashes_57 : decode cX0_clashes 57 = .ok (.invokevirtual 282, 3) := dk_182 1 26 (dk_at dksX0_clashes_2 9 rfl rfl)
theorem dX0_clashes_60 : decode cX0_clashes 60 = .ok (.iconst 0, 1) := dk_3 (dk_at dksX0_clashes_2 12 rfl rfl)
theorem dX0_clashes_61 : decode cX0_clashes 61 = .ok (.aload_n 0, 1) := dk_42 (dk_at dksX0_clashes_2 13 rfl rfl)
theorem dX0_clashes_62 : decode cX0_clashes 62 = .ok (.iload_n 3, 1) := dk_29 (dk_at dksX0_clashes_2 14 rfl rfl)
theorem dX0_clashes_63 : decode cX0_clashes 63 = .ok (.invokevirtual 282, 3) := dk_182 1 26 (dk_at dksX0_clashes_2 15 rfl rfl)
theorem dX0_clashes_66 : decode cX0_clashes 66 = .ok (.iconst 0, 1) := dk_3 (dk_at dksX0_clashes_2 18 rfl rfl)
theorem dX0_clashes_67 : decode cX0_clashes 67 = .ok (.invokevirtual 455, 3) := dk_182 1 199 (dk_at dksX0_clashes_2 19 rfl rfl)
theorem dX0_clashes_70 : decode cX0_clashes 70 = .ok (.ifCond .eq 7, 3) := dk_153 0 7 (dk_at dksX0_clashes_3 0 rfl rfl)
theorem dX0_clashes_73 : decode cX0_clashes 73 = .ok (.iconst 1, 1) := dk_4 (dk_at dksX0_clashes_3 3 rfl rfl)
theorem dX0_clashes_74 : decode cX0_clashes 74 = .ok (.goto 4, 3) := dk_167 0 4 (dk_at dksX0_clashes_3 4 rfl rfl)
theorem dX0_clashes_77 : decode cX0_clashes 77 = .ok (.iconst 0, 1) := dk_3 (dk_at dksX0_clashes_3 7 rfl rfl)
theorem dX0_clashes_78 : decode cX0_clashes 78 = .ok (.iadd, 1) := dk_96 (dk_at dksX0_clashes_3 8 rfl rfl)
theorem dX0_clashes_79 : decode cX0_clashes 79 = .ok (.istore_n 1, 1) := dk_60 (dk_at dksX0_clashes_3 9 rfl rfl)
theorem dX0_clashes_80 : decode cX0_clashes 80 = .ok (.iinc 3 1, 3) := dk_132 3 1 (dk_at dksX0_clashes_3 10 rfl rfl)
theorem dX0_clashes_83 : decode cX0_clashes 83 = .ok (.goto (-61), 3) := dk_167 255 195 (dk_at dksX0_clashes_3 13 rfl rfl)
theorem dX0_clashes_86 : decode cX0_clashes 86 = .ok (.iinc 2 1, 3) := dk_132 2 1 (dk_at dksX0_clashes_3 16 rfl rfl)
theorem dX0_clashes_89 : decode cX0_clashes 89 = .ok (.goto (-80), 3) := dk_167 255 176 (dk_at dksX0_clashes_3 19 rfl rfl)
theorem dX0_clashes_92 : decode cX0_clashes 92 = .ok (.iload_n 1, 1) := dk_27 (dk_at dksX0_clashes_3 22 rfl rfl)
theorem dX0_clashes_93 : decode cX0_clashes 93 = .ok (.ireturn, 1) := dk_172 (dk_at dksX0_clashes_3 23 rfl rfl)
abbrev cX0_clear : ByteArray := prog_1_method_105_code
def yX0_clear : MethodName := ⟨RX0, "clear", "()I"⟩
def dkwX0_clear_0 : List UInt8 := [42, 3, 181, 0, 114, 42, 182, 1, 213, 156, 0, 7, 4, 167, 0, 4, 3, 172]
abbrev dktX0_clear_0 : List UInt8 := dkwX0_clear_0 ++ []
theorem dksX0_clear_0 : cX0_clear.data.toList.drop 0 = dktX0_clear_0 := by decide +kernel
theorem dX0_clear_0 : decode cX0_clear 0 = .ok (.aload_n 0, 1) := dk_42 (dk_at dksX0_clear_0 0 rfl rfl)
theorem dX0_clear_1 : decode cX0_clear 1 = .ok (.iconst 0, 1) := dk_3 (dk_at dksX0_clear_0 1 rfl rfl)
theorem dX0_clear_2 : decode cX0_clear 2 = .ok (.putfield 114, 3) := dk_181 0 114 (dk_at dksX0_clear_0 2 rfl rfl)
theorem dX0_clear_5 : decode cX0_clear 5 = .ok (.aload_n 0, 1) := dk_42 (dk_at dksX0_clear_0 5 rfl rfl)
theorem dX0_clear_6 : decode cX0_clear 6 = .ok (.invokevirtual 469, 3) := dk_182 1 213 (dk_at dksX0_clear_0 6 rfl rfl)
theorem dX0_clear_9 : decode cX0_clear 9 = .ok (.ifCond .ge 7, 3) := dk_156 0 7 (dk_at dksX0_clear_0 9 rfl rfl)
theorem dX0_clear_12 : decode cX0_clear 12 = .ok (.iconst 1, 1) := dk_4 (dk_at dksX0_clear_0 12 rfl rfl)
theorem dX0_clear_13 : decode cX0_clear 13 = .ok (.goto 4, 3) := dk_167 0 4 (dk_at dksX0_clear_0 13 rfl rfl)
theorem dX0_clear_16 : decode cX0_clear 16 = .ok (.iconst 0, 1) := dk_3 (dk_at dksX0_clear_0 16 rfl rfl)
theorem dX0_clear_17 : decode cX0_clear 17 = .ok (.ireturn, 1) := dk_172 (dk_at dksX0_clear_0 17 rfl rfl)
abbrev cX0_hanging : ByteArray := prog_1_method_102_code
def yX0_hanging : MethodName := ⟨RX0, "hanging", "()I"⟩
def dkwX0_hanging_9 : List UInt8 := [182, 1, 207, 61, 167, 255, 225, 27, 19, 1, 150, 160, 0, 7, 2, 167, 0, 4, 27, 172]
abbrev dktX0_hanging_9 : List UInt8 := dkwX0_hanging_9 ++ []
def dkwX0_hanging_8 : List UInt8 := [42, 180, 0, 104, 28, 4, 84, 27, 42, 28, 6, 108, 28, 6, 112, 182, 1, 210, 184, 1, 122, 60, 42]
abbrev dktX0_hanging_8 : List UInt8 := dkwX0_hanging_8 ++ dktX0_hanging_9
def dkwX0_hanging_7 : List UInt8 := [182, 1, 203, 132, 3, 1, 167, 255, 139, 132, 2, 1, 167, 255, 120, 42, 182, 1, 207, 61, 28, 155, 0, 33]
abbrev dktX0_hanging_7 : List UInt8 := dkwX0_hanging_7 ++ dktX0_hanging_8
def dkwX0_hanging_6 : List UInt8 := [167, 0, 26, 42, 29, 42, 28, 182, 1, 26, 180, 1, 35, 190, 42, 29, 182, 1, 26, 180, 1, 35, 190]
abbrev dktX0_hanging_6 : List UInt8 := dkwX0_hanging_6 ++ dktX0_hanging_7
def dkwX0_hanging_5 : List UInt8 := [182, 1, 26, 180, 1, 35, 190, 160, 0, 20, 27, 42, 29, 182, 1, 26, 180, 1, 35, 190, 184, 1, 122, 60]
abbrev dktX0_hanging_5 : List UInt8 := dkwX0_hanging_5 ++ dktX0_hanging_6
def dkwX0_hanging_4 : List UInt8 := [182, 1, 26, 3, 182, 1, 199, 154, 0, 6, 167, 0, 64, 42, 28, 182, 1, 26, 180, 1, 35, 190, 42, 29]
abbrev dktX0_hanging_4 : List UInt8 := dkwX0_hanging_4 ++ dktX0_hanging_5
def dkwX0_hanging_3 : List UInt8 := [182, 1, 87, 153, 0, 93, 42, 29, 182, 1, 87, 153, 0, 85, 42, 28, 182, 1, 26, 3, 42, 29]
abbrev dktX0_hanging_3 : List UInt8 := dkwX0_hanging_3 ++ dktX0_hanging_4
def dkwX0_hanging_2 : List UInt8 := [162, 0, 131, 3, 62, 29, 42, 182, 0, 187, 180, 0, 190, 162, 0, 112, 28, 29, 159, 0, 101, 42, 28]
abbrev dktX0_hanging_2 : List UInt8 := dkwX0_hanging_2 ++ dktX0_hanging_3
def dkwX0_hanging_1 : List UInt8 := [42, 180, 0, 104, 28, 3, 84, 132, 2, 1, 167, 255, 228, 3, 61, 28, 42, 182, 0, 187, 180, 0, 190]
abbrev dktX0_hanging_1 : List UInt8 := dkwX0_hanging_1 ++ dktX0_hanging_2
def dkwX0_hanging_0 : List UInt8 := [19, 1, 150, 60, 3, 61, 28, 42, 180, 0, 101, 190, 162, 0, 25, 42, 180, 0, 101, 28, 19, 1, 150, 79]
abbrev dktX0_hanging_0 : List UInt8 := dkwX0_hanging_0 ++ dktX0_hanging_1
theorem dksX0_hanging_0 : cX0_hanging.data.toList.drop 0 = dktX0_hanging_0 := by decide +kernel
theorem dksX0_hanging_1 : cX0_hanging.data.toList.drop 24 = dktX0_hanging_1 := dk_seg dksX0_hanging_0 24 rfl rfl
theorem dksX0_hanging_2 : cX0_hanging.data.toList.drop 47 = dktX0_hanging_2 := dk_seg dksX0_hanging_1 23 rfl rfl
theorem dksX0_hanging_3 : cX0_hanging.data.toList.drop 70 = dktX0_hanging_3 := dk_seg dksX0_hanging_2 23 rfl rfl
theorem dksX0_hanging_4 : cX0_hanging.data.toList.drop 92 = dktX0_hanging_4 := dk_seg dksX0_hanging_3 22 rfl rfl
theorem dksX0_hanging_5 : cX0_hanging.data.toList.drop 116 = dktX0_hanging_5 := dk_seg dksX0_hanging_4 24 rfl rfl
theorem dksX0_hanging_6 : cX0_hanging.data.toList.drop 140 = dktX0_hanging_6 := dk_seg dksX0_hanging_5 24 rfl rfl
theorem dksX0_hanging_7 : cX0_hanging.data.toList.drop 163 = dktX0_hanging_7 := dk_seg dksX0_hanging_6 23 rfl rfl
theorem dksX0_hanging_8 : cX0_hanging.data.toList.drop 187 = dktX0_hanging_8 := dk_seg dksX0_hanging_7 24 rfl rfl
theorem dksX0_hanging_9 : cX0_hanging.data.toList.drop 210 = dktX0_hanging_9 := dk_seg dksX0_hanging_8 23 rfl rfl
theorem dX0_hanging_0 : decode cX0_hanging 0 = .ok (.ldc_w 406, 3) := dk_19 1 150 (dk_at dksX0_hanging_0 0 rfl rfl)
theorem dX0_hanging_3 : decode cX0_hanging 3 = .ok (.istore_n 1, 1) := dk_60 (dk_at dksX0_hanging_0 3 rfl rfl)
theorem dX0_hanging_4 : decode cX0_hanging 4 = .ok (.iconst 0, 1) := dk_3 (dk_at dksX0_hanging_0 4 rfl rfl)
theorem dX0_hanging_5 : decode cX0_hanging 5 = .ok (.istore_n 2, 1) := dk_61 (dk_at dksX0_hanging_0 5 rfl rfl)
theorem dX0_hanging_6 : decode cX0_hanging 6 = .ok (.iload_n 2, 1) := dk_28 (dk_at dksX0_hanging_0 6 rfl rfl)
theorem dX0_hanging_7 : decode cX0_hanging 7 = .ok (.aload_n 0, 1) := dk_42 (dk_at dksX0_hanging_0 7 rfl rfl)
theorem dX0_hanging_8 : decode cX0_hanging 8 = .ok (.getfield 101, 3) := dk_180 0 101 (dk_at dksX0_hanging_0 8 rfl rfl)
theorem dX0_hanging_11 : decode cX0_hanging 11 = .ok (.arraylength, 1) := dk_190 (dk_at dksX0_hanging_0 11 rfl rfl)
theorem dX0_hanging_12 : decode cX0_hanging 12 = .ok (.if_icmp .ge 25, 3) := dk_162 0 25 (dk_at dksX0_hanging_0 12 rfl rfl)
theorem dX0_hanging_15 : decode cX0_hanging 15 = .ok (.aload_n 0, 1) := dk_42 (dk_at dksX0_hanging_0 15 rfl rfl)
theorem dX0_hanging_16 : decode cX0_hanging 16 = .ok (.getfield 101, 3) := dk_180 0 101 (dk_at dksX0_hanging_0 16 rfl rfl)
theorem dX0_hanging_19 : decode cX0_hanging 19 = .ok (.iload_n 2, 1) := dk_28 (dk_at dksX0_hanging_0 19 rfl rfl)
theorem dX0_hanging_20 : decode cX0_hanging 20 = .ok (.ldc_w 406, 3) := dk_19 1 150 (dk_at dksX0_hanging_0 20 rfl rfl)
theorem dX0_hanging_23 : decode cX0_hanging 23 = .ok (.iastore, 1) := dk_79 (dk_at dksX0_hanging_0 23 rfl rfl)
theorem dX0_hanging_24 : decode cX0_hanging 24 = .ok (.aload_n 0, 1) := dk_42 (dk_at dksX0_hanging_1 0 rfl rfl)
theorem dX0_hanging_25 : decode cX0_hanging 25 = .ok (.getfield 104, 3) := dk_180 0 104 (dk_at dksX0_hanging_1 1 rfl rfl)
theorem dX0_hanging_28 : decode cX0_hanging 28 = .ok (.iload_n 2, 1) := dk_28 (dk_at dksX0_hanging_1 4 rfl rfl)
theorem dX0_hanging_29 : decode cX0_hanging 29 = .ok (.iconst 0, 1) := dk_3 (dk_at dksX0_hanging_1 5 rfl rfl)
theorem dX0_hanging_30 : decode cX0_hanging 30 = .ok (.bastore, 1) := dk_84 (dk_at dksX0_hanging_1 6 rfl rfl)
theorem dX0_hanging_31 : decode cX0_hanging 31 = .ok (.iinc 2 1, 3) := dk_132 2 1 (dk_at dksX0_hanging_1 7 rfl rfl)
theorem dX0_hanging_34 : decode cX0_hanging 34 = .ok (.goto (-28), 3) := dk_167 255 228 (dk_at dksX0_hanging_1 10 rfl rfl)
theorem dX0_hanging_37 : decode cX0_hanging 37 = .ok (.iconst 0, 1) := dk_3 (dk_at dksX0_hanging_1 13 rfl rfl)
theorem dX0_hanging_38 : decode cX0_hanging 38 = .ok (.istore_n 2, 1) := dk_61 (dk_at dksX0_hanging_1 14 rfl rfl)
theorem dX0_hanging_39 : decode cX0_hanging 39 = .ok (.iload_n 2, 1) := dk_28 (dk_at dksX0_hanging_1 15 rfl rfl)
theorem dX0_hanging_40 : decode cX0_hanging 40 = .ok (.aload_n 0, 1) := dk_42 (dk_at dksX0_hanging_1 16 rfl rfl)
theorem dX0_hanging_41 : decode cX0_hanging 41 = .ok (.invokevirtual 187, 3) := dk_182 0 187 (dk_at dksX0_hanging_1 17 rfl rfl)
theorem dX0_hanging_44 : decode cX0_hanging 44 = .ok (.getfield 190, 3) := dk_180 0 190 (dk_at dksX0_hanging_1 20 rfl rfl)
theorem dX0_hanging_47 : decode cX0_hanging 47 = .ok (.if_icmp .ge 131, 3) := dk_162 0 131 (dk_at dksX0_hanging_2 0 rfl rfl)
theorem dX0_hanging_50 : decode cX0_hanging 50 = .ok (.iconst 0, 1) := dk_3 (dk_at dksX0_hanging_2 3 rfl rfl)
theorem dX0_hanging_51 : decode cX0_hanging 51 = .ok (.istore_n 3, 1) := dk_62 (dk_at dksX0_hanging_2 4 rfl rfl)
theorem dX0_hanging_52 : decode cX0_hanging 52 = .ok (.iload_n 3, 1) := dk_29 (dk_at dksX0_hanging_2 5 rfl rfl)
theorem dX0_hanging_53 : decode cX0_hanging 53 = .ok (.aload_n 0, 1) := dk_42 (dk_at dksX0_hanging_2 6 rfl rfl)
theorem dX0_hanging_54 : decode cX0_hanging 54 = .ok (.invokevirtual 187, 3) := dk_182 0 187 (dk_at dksX0_hanging_2 7 rfl rfl)
theorem dX0_hanging_57 : decode cX0_hanging 57 = .ok (.getfield 190, 3) := dk_180 0 190 (dk_at dksX0_hanging_2 10 rfl rfl)
theorem dX0_hanging_60 : decode cX0_hanging 60 = .ok (.if_icmp .ge 112, 3) := dk_162 0 112 (dk_at dksX0_hanging_2 13 rfl rfl)
theorem dX0_hanging_63 : decode cX0_hanging 63 = .ok (.iload_n 2, 1) := dk_28 (dk_at dksX0_hanging_2 16 rfl rfl)
theorem dX0_hanging_64 : decode cX0_hanging 64 = .ok (.iload_n 3, 1) := dk_29 (dk_at dksX0_hanging_2 17 rfl rfl)
theorem dX0_hanging_65 : decode cX0_hanging 65 = .ok (.if_icmp .eq 101, 3) := dk_159 0 101 (dk_at dksX0_hanging_2 18 rfl rfl)
theorem dX0_hanging_68 : decode cX0_hanging 68 = .ok (.aload_n 0, 1) := dk_42 (dk_at dksX0_hanging_2 21 rfl rfl)
theorem dX0_hanging_69 : decode cX0_hanging 69 = .ok (.iload_n 2, 1) := dk_28 (dk_at dksX0_hanging_2 22 rfl rfl)
theorem dX0_hanging_70 : decode cX0_hanging 70 = .ok (.invokevirtual 343, 3) := dk_182 1 87 (dk_at dksX0_hanging_3 0 rfl rfl)
theorem dX0_hanging_73 : decode cX0_hanging 73 = .ok (.ifCond .eq 93, 3) := dk_153 0 93 (dk_at dksX0_hanging_3 3 rfl rfl)
theorem dX0_hanging_76 : decode cX0_hanging 76 = .ok (.aload_n 0, 1) := dk_42 (dk_at dksX0_hanging_3 6 rfl rfl)
theorem dX0_hanging_77 : decode cX0_hanging 77 = .ok (.iload_n 3, 1) := dk_29 (dk_at dksX0_hanging_3 7 rfl rfl)
theorem dX0_hanging_78 : decode cX0_hanging 78 = .ok (.invokevirtual 343, 3) := dk_182 1 87 (dk_at dksX0_hanging_3 8 rfl rfl)
theorem dX0_hanging_81 : decode cX0_hanging 81 = .ok (.ifCond .eq 85, 3) := dk_153 0 85 (dk_at dksX0_hanging_3 11 rfl rfl)
theorem dX0_hanging_84 : decode cX0_hanging 84 = .ok (.aload_n 0, 1) := dk_42 (dk_at dksX0_hanging_3 14 rfl rfl)
theorem dX0_hanging_85 : decode cX0_hanging 85 = .ok (.iload_n 2, 1) := dk_28 (dk_at dksX0_hanging_3 15 rfl rfl)
theorem dX0_hanging_86 : decode cX0_hanging 86 = .ok (.invokevirtual 282, 3) := dk_182 1 26 (dk_at dksX0_hanging_3 16 rfl rfl)
theorem dX0_hanging_89 : decode cX0_hanging 89 = .ok (.iconst 0, 1) := dk_3 (dk_at dksX0_hanging_3 19 rfl rfl)
theorem dX0_hanging_90 : decode cX0_hanging 90 = .ok (.aload_n 0, 1) := dk_42 (dk_at dksX0_hanging_3 20 rfl rfl)
theorem dX0_hanging_91 : decode cX0_hanging 91 = .ok (.iload_n 3, 1) := dk_29 (dk_at dksX0_hanging_3 21 rfl rfl)
theorem dX0_hanging_92 : decode cX0_hanging 92 = .ok (.invokevirtual 282, 3) := dk_182 1 26 (dk_at dksX0_hanging_4 0 rfl rfl)
theorem dX0_hanging_95 : decode cX0_hanging 95 = .ok (.iconst 0, 1) := dk_3 (dk_at dksX0_hanging_4 3 rfl rfl)
theorem dX0_hanging_96 : decode cX0_hanging 96 = .ok (.invokevirtual 455, 3) := dk_182 1 199 (dk_at dksX0_hanging_4 4 rfl rfl)
theorem dX0_hanging_99 : decode cX0_hanging 99 = .ok (.ifCond .ne 6, 3) := dk_154 0 6 (dk_at dksX0_hanging_4 7 rfl rfl)
theorem dX0_hanging_102 : decode cX0_hanging 102 = .ok (.goto 64, 3) := dk_167 0 64 (dk_at dksX0_hanging_4 10 rfl rfl)
theorem dX0_hanging_105 : decode cX0_hanging 105 = .ok (.aload_n 0, 1) := dk_42 (dk_at dksX0_hanging_4 13 rfl rfl)
theorem dX0_hanging_106 : decode cX0_hanging 106 = .ok (.iload_n 2, 1) := dk_28 (dk_at dksX0_hanging_4 14 rfl rfl)
theorem dX0_hanging_107 : decode cX0_hanging 107 = .ok (.invokevirtual 282, 3) := dk_182 1 26 (dk_at dksX0_hanging_4 15 rfl rfl)
theorem dX0_hanging_110 : decode cX0_hanging 110 = .ok (.getfield 291, 3) := dk_180 1 35 (dk_at dksX0_hanging_4 18 rfl rfl)
theorem dX0_hanging_113 : decode cX0_hanging 113 = .ok (.arraylength, 1) := dk_190 (dk_at dksX0_hanging_4 21 rfl rfl)
theorem dX0_hanging_114 : decode cX0_hanging 114 = .ok (.aload_n 0, 1) := dk_42 (dk_at dksX0_hanging_4 22 rfl rfl)
theorem dX0_hanging_115 : decode cX0_hanging 115 = .ok (.iload_n 3, 1) := dk_29 (dk_at dksX0_hanging_4 23 rfl rfl)
theorem dX0_hanging_116 : decode cX0_hanging 116 = .ok (.invokevirtual 282, 3) := dk_182 1 26 (dk_at dksX0_hanging_5 0 rfl rfl)
theorem dX0_hanging_119 : decode cX0_hanging 119 = .ok (.getfield 291, 3) := dk_180 1 35 (dk_at dksX0_hanging_5 3 rfl rfl)
theorem dX0_hanging_122 : decode cX0_hanging 122 = .ok (.arraylength, 1) := dk_190 (dk_at dksX0_hanging_5 6 rfl rfl)
theorem dX0_hanging_123 : decode cX0_hanging 123 = .ok (.if_icmp .ne 20, 3) := dk_160 0 20 (dk_at dksX0_hanging_5 7 rfl rfl)
theorem dX0_hanging_126 : decode cX0_hanging 126 = .ok (.iload_n 1, 1) := dk_27 (dk_at dksX0_hanging_5 10 rfl rfl)
theorem dX0_hanging_127 : decode cX0_hanging 127 = .ok (.aload_n 0, 1) := dk_42 (dk_at dksX0_hanging_5 11 rfl rfl)
theorem dX0_hanging_128 : decode cX0_hanging 128 = .ok (.iload_n 3, 1) := dk_29 (dk_at dksX0_hanging_5 12 rfl rfl)
theorem dX0_hanging_129 : decode cX0_hanging 129 = .ok (.invokevirtual 282, 3) := dk_182 1 26 (dk_at dksX0_hanging_5 13 rfl rfl)
theorem dX0_hanging_132 : decode cX0_hanging 132 = .ok (.getfield 291, 3) := dk_180 1 35 (dk_at dksX0_hanging_5 16 rfl rfl)
theorem dX0_hanging_135 : decode cX0_hanging 135 = .ok (.arraylength, 1) := dk_190 (dk_at dksX0_hanging_5 19 rfl rfl)
theorem dX0_hanging_136 : decode cX0_hanging 136 = .ok (.invokestatic 378, 3) := dk_184 1 122 (dk_at dksX0_hanging_5 20 rfl rfl)
theorem dX0_hanging_139 : decode cX0_hanging 139 = .ok (.istore_n 1, 1) := dk_60 (dk_at dksX0_hanging_5 23 rfl rfl)
theorem dX0_hanging_140 : decode cX0_hanging 140 = .ok (.goto 26, 3) := dk_167 0 26 (dk_at dksX0_hanging_6 0 rfl rfl)
theorem dX0_hanging_143 : decode cX0_hanging 143 = .ok (.aload_n 0, 1) := dk_42 (dk_at dksX0_hanging_6 3 rfl rfl)
theorem dX0_hanging_144 : decode cX0_hanging 144 = .ok (.iload_n 3, 1) := dk_29 (dk_at dksX0_hanging_6 4 rfl rfl)
theorem dX0_hanging_145 : decode cX0_hanging 145 = .ok (.aload_n 0, 1) := dk_42 (dk_at dksX0_hanging_6 5 rfl rfl)
theorem dX0_hanging_146 : decode cX0_hanging 146 = .ok (.iload_n 2, 1) := dk_28 (dk_at dksX0_hanging_6 6 rfl rfl)
theorem dX0_hanging_147 : decode cX0_hanging 147 = .ok (.invokevirtual 282, 3) := dk_182 1 26 (dk_at dksX0_hanging_6 7 rfl rfl)
theorem dX0_hanging_150 : decode cX0_hanging 150 = .ok (.getfield 291, 3) := dk_180 1 35 (dk_at dksX0_hanging_6 10 rfl rfl)
theorem dX0_hanging_153 : decode cX0_hanging 153 = .ok (.arraylength, 1) := dk_190 (dk_at dksX0_hanging_6 13 rfl rfl)
theorem dX0_hanging_154 : decode cX0_hanging 154 = .ok (.aload_n 0, 1) := dk_42 (dk_at dksX0_hanging_6 14 rfl rfl)
theorem dX0_hanging_155 : decode cX0_hanging 155 = .ok (.iload_n 3, 1) := dk_29 (dk_at dksX0_hanging_6 15 rfl rfl)
theorem dX0_hanging_156 : decode cX0_hanging 156 = .ok (.invokevirtual 282, 3) := dk_182 1 26 (dk_at dksX0_hanging_6 16 rfl rfl)
theorem dX0_hanging_159 : decode cX0_hanging 159 = .ok (.getfield 291, 3) := dk_180 1 35 (dk_at dksX0_hanging_6 19 rfl rfl)
theorem dX0_hanging_162 : decode cX0_hanging 162 = .ok (.arraylength, 1) := dk_190 (dk_at dksX0_hanging_6 22 rfl rfl)
theorem dX0_hanging_163 : decode cX0_hanging 163 = .ok (.invokevirtual 459, 3) := dk_182 1 203 (dk_at dksX0_hanging_7 0 rfl rfl)
theorem dX0_hanging_166 : decode cX0_hanging 166 = .ok (.iinc 3 1, 3) := dk_132 3 1 (dk_at dksX0_hanging_7 3 rfl rfl)
theorem dX0_hanging_169 : decode cX0_hanging 169 = .ok (.goto (-117), 3) := dk_167 255 139 (dk_at dksX0_hanging_7 6 rfl rfl)
theorem dX0_hanging_172 : decode cX0_hanging 172 = .ok (.iinc 2 1, 3) := dk_132 2 1 (dk_at dksX0_hanging_7 9 rfl rfl)
theorem dX0_hanging_175 : decode cX0_hanging 175 = .ok (.goto (-136), 3) := dk_167 255 120 (dk_at dksX0_hanging_7 12 rfl rfl)
theorem dX0_hanging_178 : decode cX0_hanging 178 = .ok (.aload_n 0, 1) := dk_42 (dk_at dksX0_hanging_7 15 rfl rfl)
theorem dX0_hanging_179 : decode cX0_hanging 179 = .ok (.invokevirtual 463, 3) := dk_182 1 207 (dk_at dksX0_hanging_7 16 rfl rfl)
theorem dX0_hanging_182 : decode cX0_hanging 182 = .ok (.istore_n 2, 1) := dk_61 (dk_at dksX0_hanging_7 19 rfl rfl)
theorem dX0_hanging_183 : decode cX0_hanging 183 = .ok (.iload_n 2, 1) := dk_28 (dk_at dksX0_hanging_7 20 rfl rfl)
theorem dX0_hanging_184 : decode cX0_hanging 184 = .ok (.ifCond .lt 33, 3) := dk_155 0 33 (dk_at dksX0_hanging_7 21 rfl rfl)
theorem dX0_hanging_187 : decode cX0_hanging 187 = .ok (.aload_n 0, 1) := dk_42 (dk_at dksX0_hanging_8 0 rfl rfl)
theorem dX0_hanging_188 : decode cX0_hanging 188 = .ok (.getfield 104, 3) := dk_180 0 104 (dk_at dksX0_hanging_8 1 rfl rfl)
theorem dX0_hanging_191 : decode cX0_hanging 191 = .ok (.iload_n 2, 1) := dk_28 (dk_at dksX0_hanging_8 4 rfl rfl)
theorem dX0_hanging_192 : decode cX0_hanging 192 = .ok (.iconst 1, 1) := dk_4 (dk_at dksX0_hanging_8 5 rfl rfl)
theorem dX0_hanging_193 : decode cX0_hanging 193 = .ok (.bastore, 1) := dk_84 (dk_at dksX0_hanging_8 6 rfl rfl)
theorem dX0_hanging_194 : decode cX0_hanging 194 = .ok (.iload_n 1, 1) := dk_27 (dk_at dksX0_hanging_8 7 rfl rfl)
theorem dX0_hanging_195 : decode cX0_hanging 195 = .ok (.aload_n 0, 1) := dk_42 (dk_at dksX0_hanging_8 8 rfl rfl)
theorem dX0_hanging_196 : decode cX0_hanging 196 = .ok (.iload_n 2, 1) := dk_28 (dk_at dksX0_hanging_8 9 rfl rfl)
theorem dX0_hanging_197 : decode cX0_hanging 197 = .ok (.iconst 3, 1) := dk_6 (dk_at dksX0_hanging_8 10 rfl rfl)
theorem dX0_hanging_198 : decode cX0_hanging 198 = .ok (.idiv, 1) := dk_108 (dk_at dksX0_hanging_8 11 rfl rfl)
theorem dX0_hanging_199 : decode cX0_hanging 199 = .ok (.iload_n 2, 1) := dk_28 (dk_at dksX0_hanging_8 12 rfl rfl)
theorem dX0_hanging_200 : decode cX0_hanging 200 = .ok (.iconst 3, 1) := dk_6 (dk_at dksX0_hanging_8 13 rfl rfl)
theorem dX0_hanging_201 : decode cX0_hanging 201 = .ok (.irem, 1) := dk_112 (dk_at dksX0_hanging_8 14 rfl rfl)
theorem dX0_hanging_202 : decode cX0_hanging 202 = .ok (.invokevirtual 466, 3) := dk_182 1 210 (dk_at dksX0_hanging_8 15 rfl rfl)
theorem dX0_hanging_205 : decode cX0_hanging 205 = .ok (.invokestatic 378, 3) := dk_184 1 122 (dk_at dksX0_hanging_8 18 rfl rfl)
theorem dX0_hanging_208 : decode cX0_hanging 208 = .ok (.istore_n 1, 1) := dk_60 (dk_at dksX0_hanging_8 21 rfl rfl)
theorem dX0_hanging_209 : decode cX0_hanging 209 = .ok (.aload_n 0, 1) := dk_42 (dk_at dksX0_hanging_8 22 rfl rfl)
theorem dX0_hanging_210 : decode cX0_hanging 210 = .ok (.invokevirtual 463, 3) := dk_182 1 207 (dk_at dksX0_hanging_9 0 rfl rfl)
theorem dX0_hanging_213 : decode cX0_hanging 213 = .ok (.istore_n 2, 1) := dk_61 (dk_at dksX0_hanging_9 3 rfl rfl)
theorem dX0_hanging_214 : decode cX0_hanging 214 = .ok (.goto (-31), 3) := dk_167 255 225 (dk_at dksX0_hanging_9 4 rfl rfl)
theorem dX0_hanging_217 : decode cX0_hanging 217 = .ok (.iload_n 1, 1) := dk_27 (dk_at dksX0_hanging_9 7 rfl rfl)
theorem dX0_hanging_218 : decode cX0_hanging 218 = .ok (.ldc_w 406, 3) := dk_19 1 150 (dk_at dksX0_hanging_9 8 rfl rfl)
theorem dX0_hanging_221 : decode cX0_hanging 221 = .ok (.if_icmp .ne 7, 3) := dk_160 0 7 (dk_at dksX0_hanging_9 11 rfl rfl)
theorem dX0_hanging_224 : decode cX0_hanging 224 = .ok (.iconst (-1), 1) := dk_2 (dk_at dksX0_hanging_9 14 rfl rfl)
theorem dX0_hanging_225 : decode cX0_hanging 225 = .ok (.goto 4, 3) := dk_167 0 4 (dk_at dksX0_hanging_9 15 rfl rfl)
theorem dX0_hanging_228 : decode cX0_hanging 228 = .ok (.iload_n 1, 1) := dk_27 (dk_at dksX0_hanging_9 18 rfl rfl)
theorem dX0_hanging_229 : decode cX0_hanging 229 = .ok (.ireturn, 1) := dk_172 (dk_at dksX0_hanging_9 19 rfl rfl)
abbrev cX0_hangs : ByteArray := prog_1_method_101_code
def yX0_hangs : MethodName := ⟨RX0, "hangs", "(III)V"⟩
def dkwX0_hangs_1 : List UInt8 := [177]
abbrev dktX0_hangs_1 : List UInt8 := dkwX0_hangs_1 ++ []
def dkwX0_hangs_0 : List UInt8 := [42, 180, 0, 101, 6, 27, 104, 28, 96, 42, 180, 0, 101, 6, 27, 104, 28, 96, 46, 29, 184, 1, 122, 79]
abbrev dktX0_hangs_0 : List UInt8 := dkwX0_hangs_0 ++ dktX0_hangs_1
theorem dksX0_hangs_0 : cX0_hangs.data.toList.drop 0 = dktX0_hangs_0 := by decide +kernel
theorem dksX0_hangs_1 : cX0_hangs.data.toList.drop 24 = dktX0_hangs_1 := dk_seg dksX0_hangs_0 24 rfl rfl
theorem dX0_hangs_0 : decode cX0_hangs 0 = .ok (.aload_n 0, 1) := dk_42 (dk_at dksX0_hangs_0 0 rfl rfl)
theorem dX0_hangs_1 : decode cX0_hangs 1 = .ok (.getfield 101, 3) := dk_180 0 101 (dk_at dksX0_hangs_0 1 rfl rfl)
theorem dX0_hangs_4 : decode cX0_hangs 4 = .ok (.iconst 3, 1) := dk_6 (dk_at dksX0_hangs_0 4 rfl rfl)
theorem dX0_hangs_5 : decode cX0_hangs 5 = .ok (.iload_n 1, 1) := dk_27 (dk_at dksX0_hangs_0 5 rfl rfl)
theorem dX0_hangs_6 : decode cX0_hangs 6 = .ok (.imul, 1) := dk_104 (dk_at dksX0_hangs_0 6 rfl rfl)
theorem dX0_hangs_7 : decode cX0_hangs 7 = .ok (.iload_n 2, 1) := dk_28 (dk_at dksX0_hangs_0 7 rfl rfl)
theorem dX0_hangs_8 : decode cX0_hangs 8 = .ok (.iadd, 1) := dk_96 (dk_at dksX0_hangs_0 8 rfl rfl)
theorem dX0_hangs_9 : decode cX0_hangs 9 = .ok (.aload_n 0, 1) := dk_42 (dk_at dksX0_hangs_0 9 rfl rfl)
theorem dX0_hangs_10 : decode cX0_hangs 10 = .ok (.getfield 101, 3) := dk_180 0 101 (dk_at dksX0_hangs_0 10 rfl rfl)
theorem dX0_hangs_13 : decode cX0_hangs 13 = .ok (.iconst 3, 1) := dk_6 (dk_at dksX0_hangs_0 13 rfl rfl)
theorem dX0_hangs_14 : decode cX0_hangs 14 = .ok (.iload_n 1, 1) := dk_27 (dk_at dksX0_hangs_0 14 rfl rfl)
theorem dX0_hangs_15 : decode cX0_hangs 15 = .ok (.imul, 1) := dk_104 (dk_at dksX0_hangs_0 15 rfl rfl)
theorem dX0_hangs_16 : decode cX0_hangs 16 = .ok (.iload_n 2, 1) := dk_28 (dk_at dksX0_hangs_0 16 rfl rfl)
theorem dX0_hangs_17 : decode cX0_hangs 17 = .ok (.iadd, 1) := dk_96 (dk_at dksX0_hangs_0 17 rfl rfl)
theorem dX0_hangs_18 : decode cX0_hangs 18 = .ok (.iaload, 1) := dk_46 (dk_at dksX0_hangs_0 18 rfl rfl)
theorem dX0_hangs_19 : decode cX0_hangs 19 = .ok (.iload_n 3, 1) := dk_29 (dk_at dksX0_hangs_0 19 rfl rfl)
theorem dX0_hangs_20 : decode cX0_hangs 20 = .ok (.invokestatic 378, 3) := dk_184 1 122 (dk_at dksX0_hangs_0 20 rfl rfl)
theorem dX0_hangs_23 : decode cX0_hangs 23 = .ok (.iastore, 1) := dk_79 (dk_at dksX0_hangs_0 23 rfl rfl)
theorem dX0_hangs_24 : decode cX0_hangs 24 = .ok (.return_, 1) := dk_177 (dk_at dksX0_hangs_1 0 rfl rfl)
abbrev cX0_nearest : ByteArray := prog_1_method_103_code
def yX0_nearest : MethodName := ⟨RX0, "nearest", "()I"⟩
def dkwX0_nearest_2 : List UInt8 := [180, 0, 101, 27, 46, 162, 0, 5, 28, 60, 132, 2, 1, 167, 255, 202, 27, 172]
abbrev dktX0_nearest_2 : List UInt8 := dkwX0_nearest_2 ++ []
def dkwX0_nearest_1 : List UInt8 := [180, 0, 101, 28, 46, 19, 1, 150, 162, 0, 24, 27, 155, 0, 18, 42, 180, 0, 101, 28, 46, 42]
abbrev dktX0_nearest_1 : List UInt8 := dkwX0_nearest_1 ++ dktX0_nearest_2
def dkwX0_nearest_0 : List UInt8 := [2, 60, 3, 61, 28, 42, 180, 0, 101, 190, 162, 0, 51, 42, 180, 0, 104, 28, 51, 154, 0, 36, 42]
abbrev dktX0_nearest_0 : List UInt8 := dkwX0_nearest_0 ++ dktX0_nearest_1
theorem dksX0_nearest_0 : cX0_nearest.data.toList.drop 0 = dktX0_nearest_0 := by decide +kernel
theorem dksX0_nearest_1 : cX0_nearest.data.toList.drop 23 = dktX0_nearest_1 := dk_seg dksX0_nearest_0 23 rfl rfl
theorem dksX0_nearest_2 : cX0_nearest.data.toList.drop 45 = dktX0_nearest_2 := dk_seg dksX0_nearest_1 22 rfl rfl
theorem dX0_nearest_0 : decode cX0_nearest 0 = .ok (.iconst (-1), 1) := dk_2 (dk_at dksX0_nearest_0 0 rfl rfl)
theorem dX0_nearest_1 : decode cX0_nearest 1 = .ok (.istore_n 1, 1) := dk_60 (dk_at dksX0_nearest_0 1 rfl rfl)
theorem dX0_nearest_2 : decode cX0_nearest 2 = .ok (.iconst 0, 1) := dk_3 (dk_at dksX0_nearest_0 2 rfl rfl)
theorem dX0_nearest_3 : decode cX0_nearest 3 = .ok (.istore_n 2, 1) := dk_61 (dk_at dksX0_nearest_0 3 rfl rfl)
theorem dX0_nearest_4 : decode cX0_nearest 4 = .ok (.iload_n 2, 1) := dk_28 (dk_at dksX0_nearest_0 4 rfl rfl)
theorem dX0_nearest_5 : decode cX0_nearest 5 = .ok (.aload_n 0, 1) := dk_42 (dk_at dksX0_nearest_0 5 rfl rfl)
theorem dX0_nearest_6 : decode cX0_nearest 6 = .ok (.getfield 101, 3) := dk_180 0 101 (dk_at dksX0_nearest_0 6 rfl rfl)
theorem dX0_nearest_9 : decode cX0_nearest 9 = .ok (.arraylength, 1) := dk_190 (dk_at dksX0_nearest_0 9 rfl rfl)
theorem dX0_nearest_10 : decode cX0_nearest 10 = .ok (.if_icmp .ge 51, 3) := dk_162 0 51 (dk_at dksX0_nearest_0 10 rfl rfl)
theorem dX0_nearest_13 : decode cX0_nearest 13 = .ok (.aload_n 0, 1) := dk_42 (dk_at dksX0_nearest_0 13 rfl rfl)
theorem dX0_nearest_14 : decode cX0_nearest 14 = .ok (.getfield 104, 3) := dk_180 0 104 (dk_at dksX0_nearest_0 14 rfl rfl)
theorem dX0_nearest_17 : decode cX0_nearest 17 = .ok (.iload_n 2, 1) := dk_28 (dk_at dksX0_nearest_0 17 rfl rfl)
theorem dX0_nearest_18 : decode cX0_nearest 18 = .ok (.baload, 1) := dk_51 (dk_at dksX0_nearest_0 18 rfl rfl)
theorem dX0_nearest_19 : decode cX0_nearest 19 = .ok (.ifCond .ne 36, 3) := dk_154 0 36 (dk_at dksX0_nearest_0 19 rfl rfl)
theorem dX0_nearest_22 : decode cX0_nearest 22 = .ok (.aload_n 0, 1) := dk_42 (dk_at dksX0_nearest_0 22 rfl rfl)
theorem dX0_nearest_23 : decode cX0_nearest 23 = .ok (.getfield 101, 3) := dk_180 0 101 (dk_at dksX0_nearest_1 0 rfl rfl)
theorem dX0_nearest_26 : decode cX0_nearest 26 = .ok (.iload_n 2, 1) := dk_28 (dk_at dksX0_nearest_1 3 rfl rfl)
theorem dX0_nearest_27 : decode cX0_nearest 27 = .ok (.iaload, 1) := dk_46 (dk_at dksX0_nearest_1 4 rfl rfl)
theorem dX0_nearest_28 : decode cX0_nearest 28 = .ok (.ldc_w 406, 3) := dk_19 1 150 (dk_at dksX0_nearest_1 5 rfl rfl)
theorem dX0_nearest_31 : decode cX0_nearest 31 = .ok (.if_icmp .ge 24, 3) := dk_162 0 24 (dk_at dksX0_nearest_1 8 rfl rfl)
theorem dX0_nearest_34 : decode cX0_nearest 34 = .ok (.iload_n 1, 1) := dk_27 (dk_at dksX0_nearest_1 11 rfl rfl)
theorem dX0_nearest_35 : decode cX0_nearest 35 = .ok (.ifCond .lt 18, 3) := dk_155 0 18 (dk_at dksX0_nearest_1 12 rfl rfl)
theorem dX0_nearest_38 : decode cX0_nearest 38 = .ok (.aload_n 0, 1) := dk_42 (dk_at dksX0_nearest_1 15 rfl rfl)
theorem dX0_nearest_39 : decode cX0_nearest 39 = .ok (.getfield 101, 3) := dk_180 0 101 (dk_at dksX0_nearest_1 16 rfl rfl)
theorem dX0_nearest_42 : decode cX0_nearest 42 = .ok (.iload_n 2, 1) := dk_28 (dk_at dksX0_nearest_1 19 rfl rfl)
theorem dX0_nearest_43 : decode cX0_nearest 43 = .ok (.iaload, 1) := dk_46 (dk_at dksX0_nearest_1 20 rfl rfl)
theorem dX0_nearest_44 : decode cX0_nearest 44 = .ok (.aload_n 0, 1) := dk_42 (dk_at dksX0_nearest_1 21 rfl rfl)
theorem dX0_nearest_45 : decode cX0_nearest 45 = .ok (.getfield 101, 3) := dk_180 0 101 (dk_at dksX0_nearest_2 0 rfl rfl)
theorem dX0_nearest_48 : decode cX0_nearest 48 = .ok (.iload_n 1, 1) := dk_27 (dk_at dksX0_nearest_2 3 rfl rfl)
theorem dX0_nearest_49 : decode cX0_nearest 49 = .ok (.iaload, 1) := dk_46 (dk_at dksX0_nearest_2 4 rfl rfl)
theorem dX0_nearest_50 : decode cX0_nearest 50 = .ok (.if_icmp .ge 5, 3) := dk_162 0 5 (dk_at dksX0_nearest_2 5 rfl rfl)
theorem dX0_nearest_53 : decode cX0_nearest 53 = .ok (.iload_n 2, 1) := dk_28 (dk_at dksX0_nearest_2 8 rfl rfl)
theorem dX0_nearest_54 : decode cX0_nearest 54 = .ok (.istore_n 1, 1) := dk_60 (dk_at dksX0_nearest_2 9 rfl rfl)
theorem dX0_nearest_55 : decode cX0_nearest 55 = .ok (.iinc 2 1, 3) := dk_132 2 1 (dk_at dksX0_nearest_2 10 rfl rfl)
theorem dX0_nearest_58 : decode cX0_nearest 58 = .ok (.goto (-54), 3) := dk_167 255 202 (dk_at dksX0_nearest_2 13 rfl rfl)
theorem dX0_nearest_61 : decode cX0_nearest 61 = .ok (.iload_n 1, 1) := dk_27 (dk_at dksX0_nearest_2 16 rfl rfl)
theorem dX0_nearest_62 : decode cX0_nearest 62 = .ok (.ireturn, 1) := dk_172 (dk_at dksX0_nearest_2 17 rfl rfl)
abbrev cX0_goesOn : ByteArray := prog_1_method_104_code
def yX0_goesOn : MethodName := ⟨RX0, "goesOn", "(II)I"⟩
def dkwX0_goesOn_7 : List UInt8 := [167, 255, 124, 21, 5, 172]
abbrev dktX0_goesOn_7 : List UInt8 := dkwX0_goesOn_7 ++ []
def dkwX0_goesOn_6 : List UInt8 := [182, 1, 199, 153, 0, 18, 42, 21, 6, 21, 4, 29, 21, 7, 96, 21, 4, 100, 182, 1, 203, 132, 6, 1]
abbrev dktX0_goesOn_6 : List UInt8 := dkwX0_goesOn_6 ++ dktX0_goesOn_7
def dkwX0_goesOn_5 : List UInt8 := [167, 0, 44, 21, 7, 21, 4, 164, 0, 37, 42, 27, 182, 1, 26, 28, 42, 21, 6, 182, 1, 26, 3]
abbrev dktX0_goesOn_5 : List UInt8 := dkwX0_goesOn_5 ++ dktX0_goesOn_6
def dkwX0_goesOn_4 : List UInt8 := [21, 7, 21, 4, 160, 0, 9, 29, 54, 5, 167, 0, 57, 42, 27, 28, 21, 7, 96, 29, 182, 1, 203]
abbrev dktX0_goesOn_4 : List UInt8 := dkwX0_goesOn_4 ++ dktX0_goesOn_5
def dkwX0_goesOn_3 : List UInt8 := [21, 4, 163, 0, 48, 42, 21, 6, 182, 1, 26, 3, 42, 27, 182, 1, 26, 28, 182, 1, 199, 153, 0, 29]
abbrev dktX0_goesOn_3 : List UInt8 := dkwX0_goesOn_3 ++ dktX0_goesOn_4
def dkwX0_goesOn_2 : List UInt8 := [182, 1, 87, 154, 0, 6, 167, 0, 108, 42, 21, 6, 182, 1, 26, 180, 1, 35, 190, 54, 7, 21, 7]
abbrev dktX0_goesOn_2 : List UInt8 := dkwX0_goesOn_2 ++ dktX0_goesOn_3
def dkwX0_goesOn_1 : List UInt8 := [19, 1, 150, 54, 5, 3, 54, 6, 21, 6, 42, 182, 0, 187, 180, 0, 190, 162, 0, 126, 42, 21, 6]
abbrev dktX0_goesOn_1 : List UInt8 := dkwX0_goesOn_1 ++ dktX0_goesOn_2
def dkwX0_goesOn_0 : List UInt8 := [42, 180, 0, 101, 6, 27, 104, 28, 96, 46, 62, 42, 27, 182, 1, 26, 180, 1, 35, 190, 28, 100, 54, 4]
abbrev dktX0_goesOn_0 : List UInt8 := dkwX0_goesOn_0 ++ dktX0_goesOn_1
theorem dksX0_goesOn_0 : cX0_goesOn.data.toList.drop 0 = dktX0_goesOn_0 := by decide +kernel
theorem dksX0_goesOn_1 : cX0_goesOn.data.toList.drop 24 = dktX0_goesOn_1 := dk_seg dksX0_goesOn_0 24 rfl rfl
theorem dksX0_goesOn_2 : cX0_goesOn.data.toList.drop 47 = dktX0_goesOn_2 := dk_seg dksX0_goesOn_1 23 rfl rfl
theorem dksX0_goesOn_3 : cX0_goesOn.data.toList.drop 70 = dktX0_goesOn_3 := dk_seg dksX0_goesOn_2 23 rfl rfl
theorem dksX0_goesOn_4 : cX0_goesOn.data.toList.drop 94 = dktX0_goesOn_4 := dk_seg dksX0_goesOn_3 24 rfl rfl
theorem dksX0_goesOn_5 : cX0_goesOn.data.toList.drop 117 = dktX0_goesOn_5 := dk_seg dksX0_goesOn_4 23 rfl rfl
theorem dksX0_goesOn_6 : cX0_goesOn.data.toList.drop 140 = dktX0_goesOn_6 := dk_seg dksX0_goesOn_5 23 rfl rfl
theorem dksX0_goesOn_7 : cX0_goesOn.data.toList.drop 164 = dktX0_goesOn_7 := dk_seg dksX0_goesOn_6 24 rfl rfl
theorem dX0_goesOn_0 : decode cX0_goesOn 0 = .ok (.aload_n 0, 1) := dk_42 (dk_at dksX0_goesOn_0 0 rfl rfl)
theorem dX0_goesOn_1 : decode cX0_goesOn 1 = .ok (.getfield 101, 3) := dk_180 0 101 (dk_at dksX0_goesOn_0 1 rfl rfl)
theorem dX0_goesOn_4 : decode cX0_goesOn 4 = .ok (.iconst 3, 1) := dk_6 (dk_at dksX0_goesOn_0 4 rfl rfl)
theorem dX0_goesOn_5 : decode cX0_goesOn 5 = .ok (.iload_n 1, 1) := dk_27 (dk_at dksX0_goesOn_0 5 rfl rfl)
theorem dX0_goesOn_6 : decode cX0_goesOn 6 = .ok (.imul, 1) := dk_104 (dk_at dksX0_goesOn_0 6 rfl rfl)
theorem dX0_goesOn_7 : decode cX0_goesOn 7 = .ok (.iload_n 2, 1) := dk_28 (dk_at dksX0_goesOn_0 7 rfl rfl)
theorem dX0_goesOn_8 : decode cX0_goesOn 8 = .ok (.iadd, 1) := dk_96 (dk_at dksX0_goesOn_0 8 rfl rfl)
theorem dX0_goesOn_9 : decode cX0_goesOn 9 = .ok (.iaload, 1) := dk_46 (dk_at dksX0_goesOn_0 9 rfl rfl)
theorem dX0_goesOn_10 : decode cX0_goesOn 10 = .ok (.istore_n 3, 1) := dk_62 (dk_at dksX0_goesOn_0 10 rfl rfl)
theorem dX0_goesOn_11 : decode cX0_goesOn 11 = .ok (.aload_n 0, 1) := dk_42 (dk_at dksX0_goesOn_0 11 rfl rfl)
theorem dX0_goesOn_12 : decode cX0_goesOn 12 = .ok (.iload_n 1, 1) := dk_27 (dk_at dksX0_goesOn_0 12 rfl rfl)
theorem dX0_goesOn_13 : decode cX0_goesOn 13 = .ok (.invokevirtual 282, 3) := dk_182 1 26 (dk_at dksX0_goesOn_0 13 rfl rfl)
theorem dX0_goesOn_16 : decode cX0_goesOn 16 = .ok (.getfield 291, 3) := dk_180 1 35 (dk_at dksX0_goesOn_0 16 rfl rfl)
theorem dX0_goesOn_19 : decode cX0_goesOn 19 = .ok (.arraylength, 1) := dk_190 (dk_at dksX0_goesOn_0 19 rfl rfl)
theorem dX0_goesOn_20 : decode cX0_goesOn 20 = .ok (.iload_n 2, 1) := dk_28 (dk_at dksX0_goesOn_0 20 rfl rfl)
theorem dX0_goesOn_21 : decode cX0_goesOn 21 = .ok (.isub, 1) := dk_100 (dk_at dksX0_goesOn_0 21 rfl rfl)
theorem dX0_goesOn_22 : decode cX0_goesOn 22 = .ok (.istore 4, 2) := dk_54 4 (dk_at dksX0_goesOn_0 22 rfl rfl)
theorem dX0_goesOn_24 : decode cX0_goesOn 24 = .ok (.ldc_w 406, 3) := dk_19 1 150 (dk_at dksX0_goesOn_1 0 rfl rfl)
theorem dX0_goesOn_27 : decode cX0_goesOn 27 = .ok (.istore 5, 2) := dk_54 5 (dk_at dksX0_goesOn_1 3 rfl rfl)
theorem dX0_goesOn_29 : decode cX0_goesOn 29 = .ok (.iconst 0, 1) := dk_3 (dk_at dksX0_goesOn_1 5 rfl rfl)
theorem dX0_goesOn_30 : decode cX0_goesOn 30 = .ok (.istore 6, 2) := dk_54 6 (dk_at dksX0_goesOn_1 6 rfl rfl)
theorem dX0_goesOn_32 : decode cX0_goesOn 32 = .ok (.iload 6, 2) := dk_21 6 (dk_at dksX0_goesOn_1 8 rfl rfl)
theorem dX0_goesOn_34 : decode cX0_goesOn 34 = .ok (.aload_n 0, 1) := dk_42 (dk_at dksX0_goesOn_1 10 rfl rfl)
theorem dX0_goesOn_35 : decode cX0_goesOn 35 = .ok (.invokevirtual 187, 3) := dk_182 0 187 (dk_at dksX0_goesOn_1 11 rfl rfl)
theorem dX0_goesOn_38 : decode cX0_goesOn 38 = .ok (.getfield 190, 3) := dk_180 0 190 (dk_at dksX0_goesOn_1 14 rfl rfl)
theorem dX0_goesOn_41 : decode cX0_goesOn 41 = .ok (.if_icmp .ge 126, 3) := dk_162 0 126 (dk_at dksX0_goesOn_1 17 rfl rfl)
theorem dX0_goesOn_44 : decode cX0_goesOn 44 = .ok (.aload_n 0, 1) := dk_42 (dk_at dksX0_goesOn_1 20 rfl rfl)
theorem dX0_goesOn_45 : decode cX0_goesOn 45 = .ok (.iload 6, 2) := dk_21 6 (dk_at dksX0_goesOn_1 21 rfl rfl)
theorem dX0_goesOn_47 : decode cX0_goesOn 47 = .ok (.invokevirtual 343, 3) := dk_182 1 87 (dk_at dksX0_goesOn_2 0 rfl rfl)
theorem dX0_goesOn_50 : decode cX0_goesOn 50 = .ok (.ifCond .ne 6, 3) := dk_154 0 6 (dk_at dksX0_goesOn_2 3 rfl rfl)
theorem dX0_goesOn_53 : decode cX0_goesOn 53 = .ok (.goto 108, 3) := dk_167 0 108 (dk_at dksX0_goesOn_2 6 rfl rfl)
theorem dX0_goesOn_56 : decode cX0_goesOn 56 = .ok (.aload_n 0, 1) := dk_42 (dk_at dksX0_goesOn_2 9 rfl rfl)
theorem dX0_goesOn_57 : decode cX0_goesOn 57 = .ok (.iload 6, 2) := dk_21 6 (dk_at dksX0_goesOn_2 10 rfl rfl)
theorem dX0_goesOn_59 : decode cX0_goesOn 59 = .ok (.invokevirtual 282, 3) := dk_182 1 26 (dk_at dksX0_goesOn_2 12 rfl rfl)
theorem dX0_goesOn_62 : decode cX0_goesOn 62 = .ok (.getfield 291, 3) := dk_180 1 35 (dk_at dksX0_goesOn_2 15 rfl rfl)
theorem dX0_goesOn_65 : decode cX0_goesOn 65 = .ok (.arraylength, 1) := dk_190 (dk_at dksX0_goesOn_2 18 rfl rfl)
theorem dX0_goesOn_66 : decode cX0_goesOn 66 = .ok (.istore 7, 2) := dk_54 7 (dk_at dksX0_goesOn_2 19 rfl rfl)
theorem dX0_goesOn_68 : decode cX0_goesOn 68 = .ok (.iload 7, 2) := dk_21 7 (dk_at dksX0_goesOn_2 21 rfl rfl)
theorem dX0_goesOn_70 : decode cX0_goesOn 70 = .ok (.iload 4, 2) := dk_21 4 (dk_at dksX0_goesOn_3 0 rfl rfl)
theorem dX0_goesOn_72 : decode cX0_goesOn 72 = .ok (.if_icmp .gt 48, 3) := dk_163 0 48 (dk_at dksX0_goesOn_3 2 rfl rfl)
theorem dX0_goesOn_75 : decode cX0_goesOn 75 = .ok (.aload_n 0, 1) := dk_42 (dk_at dksX0_goesOn_3 5 rfl rfl)
theorem dX0_goesOn_76 : decode cX0_goesOn 76 = .ok (.iload 6, 2) := dk_21 6 (dk_at dksX0_goesOn_3 6 rfl rfl)
theorem dX0_goesOn_78 : decode cX0_goesOn 78 = .ok (.invokevirtual 282, 3) := dk_182 1 26 (dk_at dksX0_goesOn_3 8 rfl rfl)
theorem dX0_goesOn_81 : decode cX0_goesOn 81 = .ok (.iconst 0, 1) := dk_3 (dk_at dksX0_goesOn_3 11 rfl rfl)
theorem dX0_goesOn_82 : decode cX0_goesOn 82 = .ok (.aload_n 0, 1) := dk_42 (dk_at dksX0_goesOn_3 12 rfl rfl)
theorem dX0_goesOn_83 : decode cX0_goesOn 83 = .ok (.iload_n 1, 1) := dk_27 (dk_at dksX0_goesOn_3 13 rfl rfl)
theorem dX0_goesOn_84 : decode cX0_goesOn 84 = .ok (.invokevirtual 282, 3) := dk_182 1 26 (dk_at dksX0_goesOn_3 14 rfl rfl)
theorem dX0_goesOn_87 : decode cX0_goesOn 87 = .ok (.iload_n 2, 1) := dk_28 (dk_at dksX0_goesOn_3 17 rfl rfl)
theorem dX0_goesOn_88 : decode cX0_goesOn 88 = .ok (.invokevirtual 455, 3) := dk_182 1 199 (dk_at dksX0_goesOn_3 18 rfl rfl)
theorem dX0_goesOn_91 : decode cX0_goesOn 91 = .ok (.ifCond .eq 29, 3) := dk_153 0 29 (dk_at dksX0_goesOn_3 21 rfl rfl)
theorem dX0_goesOn_94 : decode cX0_goesOn 94 = .ok (.iload 7, 2) := dk_21 7 (dk_at dksX0_goesOn_4 0 rfl rfl)
theorem dX0_goesOn_96 : decode cX0_goesOn 96 = .ok (.iload 4, 2) := dk_21 4 (dk_at dksX0_goesOn_4 2 rfl rfl)
theorem dX0_goesOn_98 : decode cX0_goesOn 98 = .ok (.if_icmp .ne 9, 3) := dk_160 0 9 (dk_at dksX0_goesOn_4 4 rfl rfl)
theorem dX0_goesOn_101 : decode cX0_goesOn 101 = .ok (.iload_n 3, 1) := dk_29 (dk_at dksX0_goesOn_4 7 rfl rfl)
theorem dX0_goesOn_102 : decode cX0_goesOn 102 = .ok (.istore 5, 2) := dk_54 5 (dk_at dksX0_goesOn_4 8 rfl rfl)
theorem dX0_goesOn_104 : decode cX0_goesOn 104 = .ok (.goto 57, 3) := dk_167 0 57 (dk_at dksX0_goesOn_4 10 rfl rfl)
theorem dX0_goesOn_107 : decode cX0_goesOn 107 = .ok (.aload_n 0, 1) := dk_42 (dk_at dksX0_goesOn_4 13 rfl rfl)
theorem dX0_goesOn_108 : decode cX0_goesOn 108 = .ok (.iload_n 1, 1) := dk_27 (dk_at dksX0_goesOn_4 14 rfl rfl)
theorem dX0_goesOn_109 : decode cX0_goesOn 109 = .ok (.iload_n 2, 1) := dk_28 (dk_at dksX0_goesOn_4 15 rfl rfl)
theorem dX0_goesOn_110 : decode cX0_goesOn 110 = .ok (.iload 7, 2) := dk_21 7 (dk_at dksX0_goesOn_4 16 rfl rfl)
theorem dX0_goesOn_112 : decode cX0_goesOn 112 = .ok (.iadd, 1) := dk_96 (dk_at dksX0_goesOn_4 18 rfl rfl)
theorem dX0_goesOn_113 : decode cX0_goesOn 113 = .ok (.iload_n 3, 1) := dk_29 (dk_at dksX0_goesOn_4 19 rfl rfl)
theorem dX0_goesOn_114 : decode cX0_goesOn 114 = .ok (.invokevirtual 459, 3) := dk_182 1 203 (dk_at dksX0_goesOn_4 20 rfl rfl)
theorem dX0_goesOn_117 : decode cX0_goesOn 117 = .ok (.goto 44, 3) := dk_167 0 44 (dk_at dksX0_goesOn_5 0 rfl rfl)
theorem dX0_goesOn_120 : decode cX0_goesOn 120 = .ok (.iload 7, 2) := dk_21 7 (dk_at dksX0_goesOn_5 3 rfl rfl)
theorem dX0_goesOn_122 : decode cX0_goesOn 122 = .ok (.iload 4, 2) := dk_21 4 (dk_at dksX0_goesOn_5 5 rfl rfl)
theorem dX0_goesOn_124 : decode cX0_goesOn 124 = .ok (.if_icmp .le 37, 3) := dk_164 0 37 (dk_at dksX0_goesOn_5 7 rfl rfl)
theorem dX0_goesOn_127 : decode cX0_goesOn 127 = .ok (.aload_n 0, 1) := dk_42 (dk_at dksX0_goesOn_5 10 rfl rfl)
theorem dX0_goesOn_128 : decode cX0_goesOn 128 = .ok (.iload_n 1, 1) := dk_27 (dk_at dksX0_goesOn_5 11 rfl rfl)
theorem dX0_goesOn_129 : decode cX0_goesOn 129 = .ok (.invokevirtual 282, 3) := dk_182 1 26 (dk_at dksX0_goesOn_5 12 rfl rfl)
theorem dX0_goesOn_132 : decode cX0_goesOn 132 = .ok (.iload_n 2, 1) := dk_28 (dk_at dksX0_goesOn_5 15 rfl rfl)
theorem dX0_goesOn_133 : decode cX0_goesOn 133 = .ok (.aload_n 0, 1) := dk_42 (dk_at dksX0_goesOn_5 16 rfl rfl)
theorem dX0_goesOn_134 : decode cX0_goesOn 134 = .ok (.iload 6, 2) := dk_21 6 (dk_at dksX0_goesOn_5 17 rfl rfl)
theorem dX0_goesOn_136 : decode cX0_goesOn 136 = .ok (.invokevirtual 282, 3) := dk_182 1 26 (dk_at dksX0_goesOn_5 19 rfl rfl)
theorem dX0_goesOn_139 : decode cX0_goesOn 139 = .ok (.iconst 0, 1) := dk_3 (dk_at dksX0_goesOn_5 22 rfl rfl)
theorem dX0_goesOn_140 : decode cX0_goesOn 140 = .ok (.invokevirtual 455, 3) := dk_182 1 199 (dk_at dksX0_goesOn_6 0 rfl rfl)
theorem dX0_goesOn_143 : decode cX0_goesOn 143 = .ok (.ifCond .eq 18, 3) := dk_153 0 18 (dk_at dksX0_goesOn_6 3 rfl rfl)
theorem dX0_goesOn_146 : decode cX0_goesOn 146 = .ok (.aload_n 0, 1) := dk_42 (dk_at dksX0_goesOn_6 6 rfl rfl)
theorem dX0_goesOn_147 : decode cX0_goesOn 147 = .ok (.iload 6, 2) := dk_21 6 (dk_at dksX0_goesOn_6 7 rfl rfl)
theorem dX0_goesOn_149 : decode cX0_goesOn 149 = .ok (.iload 4, 2) := dk_21 4 (dk_at dksX0_goesOn_6 9 rfl rfl)
theorem dX0_goesOn_151 : decode cX0_goesOn 151 = .ok (.iload_n 3, 1) := dk_29 (dk_at dksX0_goesOn_6 11 rfl rfl)
theorem dX0_goesOn_152 : decode cX0_goesOn 152 = .ok (.iload 7, 2) := dk_21 7 (dk_at dksX0_goesOn_6 12 rfl rfl)
theorem dX0_goesOn_154 : decode cX0_goesOn 154 = .ok (.iadd, 1) := dk_96 (dk_at dksX0_goesOn_6 14 rfl rfl)
theorem dX0_goesOn_155 : decode cX0_goesOn 155 = .ok (.iload 4, 2) := dk_21 4 (dk_at dksX0_goesOn_6 15 rfl rfl)
theorem dX0_goesOn_157 : decode cX0_goesOn 157 = .ok (.isub, 1) := dk_100 (dk_at dksX0_goesOn_6 17 rfl rfl)
theorem dX0_goesOn_158 : decode cX0_goesOn 158 = .ok (.invokevirtual 459, 3) := dk_182 1 203 (dk_at dksX0_goesOn_6 18 rfl rfl)
theorem dX0_goesOn_161 : decode cX0_goesOn 161 = .ok (.iinc 6 1, 3) := dk_132 6 1 (dk_at dksX0_goesOn_6 21 rfl rfl)
theorem dX0_goesOn_164 : decode cX0_goesOn 164 = .ok (.goto (-132), 3) := dk_167 255 124 (dk_at dksX0_goesOn_7 0 rfl rfl)
theorem dX0_goesOn_167 : decode cX0_goesOn 167 = .ok (.iload 5, 2) := dk_21 5 (dk_at dksX0_goesOn_7 3 rfl rfl)
theorem dX0_goesOn_169 : decode cX0_goesOn 169 = .ok (.ireturn, 1) := dk_172 (dk_at dksX0_goesOn_7 5 rfl rfl)
abbrev cX0_twin : ByteArray := prog_1_method_106_code
def yX0_twin : MethodName := ⟨RX0, "twin", "()I"⟩
def dkwX0_twin_0 : List UInt8 := [42, 42, 182, 1, 213, 182, 1, 6, 172]
abbrev dktX0_twin_0 : List UInt8 := dkwX0_twin_0 ++ []
theorem dksX0_twin_0 : cX0_twin.data.toList.drop 0 = dktX0_twin_0 := by decide +kernel
theorem dX0_twin_0 : decode cX0_twin 0 = .ok (.aload_n 0, 1) := dk_42 (dk_at dksX0_twin_0 0 rfl rfl)
theorem dX0_twin_1 : decode cX0_twin 1 = .ok (.aload_n 0, 1) := dk_42 (dk_at dksX0_twin_0 1 rfl rfl)
theorem dX0_twin_2 : decode cX0_twin 2 = .ok (.invokevirtual 469, 3) := dk_182 1 213 (dk_at dksX0_twin_0 2 rfl rfl)
theorem dX0_twin_5 : decode cX0_twin 5 = .ok (.invokevirtual 262, 3) := dk_182 1 6 (dk_at dksX0_twin_0 5 rfl rfl)
theorem dX0_twin_8 : decode cX0_twin 8 = .ok (.ireturn, 1) := dk_172 (dk_at dksX0_twin_0 8 rfl rfl)
abbrev cX0_twins : ByteArray := prog_1_method_107_code
def yX0_twins : MethodName := ⟨RX0, "twins", "()I"⟩
def dkwX0_twins_4 : List UInt8 := [167, 255, 185, 132, 2, 1, 167, 255, 166, 27, 172]
abbrev dktX0_twins_4 : List UInt8 := dkwX0_twins_4 ++ []
def dkwX0_twins_3 : List UInt8 := [3, 42, 29, 182, 1, 26, 3, 182, 1, 199, 153, 0, 7, 4, 167, 0, 4, 3, 96, 60, 132, 3, 1]
abbrev dktX0_twins_3 : List UInt8 := dkwX0_twins_3 ++ dktX0_twins_4
def dkwX0_twins_2 : List UInt8 := [182, 1, 26, 180, 1, 35, 190, 42, 29, 182, 1, 26, 180, 1, 35, 190, 160, 0, 25, 42, 28, 182, 1, 26]
abbrev dktX0_twins_2 : List UInt8 := dkwX0_twins_2 ++ dktX0_twins_3
def dkwX0_twins_1 : List UInt8 := [162, 0, 72, 27, 42, 28, 182, 1, 87, 153, 0, 54, 42, 29, 182, 1, 87, 153, 0, 46, 42, 28]
abbrev dktX0_twins_1 : List UInt8 := dkwX0_twins_1 ++ dktX0_twins_2
def dkwX0_twins_0 : List UInt8 := [42, 3, 181, 0, 114, 3, 60, 3, 61, 28, 42, 182, 0, 187, 180, 0, 190, 162, 0, 85, 3, 62, 29, 28]
abbrev dktX0_twins_0 : List UInt8 := dkwX0_twins_0 ++ dktX0_twins_1
theorem dksX0_twins_0 : cX0_twins.data.toList.drop 0 = dktX0_twins_0 := by decide +kernel
theorem dksX0_twins_1 : cX0_twins.data.toList.drop 24 = dktX0_twins_1 := dk_seg dksX0_twins_0 24 rfl rfl
theorem dksX0_twins_2 : cX0_twins.data.toList.drop 46 = dktX0_twins_2 := dk_seg dksX0_twins_1 22 rfl rfl
theorem dksX0_twins_3 : cX0_twins.data.toList.drop 70 = dktX0_twins_3 := dk_seg dksX0_twins_2 24 rfl rfl
theorem dksX0_twins_4 : cX0_twins.data.toList.drop 93 = dktX0_twins_4 := dk_seg dksX0_twins_3 23 rfl rfl
theorem dX0_twins_0 : decode cX0_twins 0 = .ok (.aload_n 0, 1) := dk_42 (dk_at dksX0_twins_0 0 rfl rfl)
theorem dX0_twins_1 : decode cX0_twins 1 = .ok (.iconst 0, 1) := dk_3 (dk_at dksX0_twins_0 1 rfl rfl)
theorem dX0_twins_2 : decode cX0_twins 2 = .ok (.putfield 114, 3) := dk_181 0 114 (dk_at dksX0_twins_0 2 rfl rfl)
theorem dX0_twins_5 : decode cX0_twins 5 = .ok (.iconst 0, 1) := dk_3 (dk_at dksX0_twins_0 5 rfl rfl)
theorem dX0_twins_6 : decode cX0_twins 6 = .ok (.istore_n 1, 1) := dk_60 (dk_at dksX0_twins_0 6 rfl rfl)
theorem dX0_twins_7 : decode cX0_twins 7 = .ok (.iconst 0, 1) := dk_3 (dk_at dksX0_twins_0 7 rfl rfl)
theorem dX0_twins_8 : decode cX0_twins 8 = .ok (.istore_n 2, 1) := dk_61 (dk_at dksX0_twins_0 8 rfl rfl)
theorem dX0_twins_9 : decode cX0_twins 9 = .ok (.iload_n 2, 1) := dk_28 (dk_at dksX0_twins_0 9 rfl rfl)
theorem dX0_twins_10 : decode cX0_twins 10 = .ok (.aload_n 0, 1) := dk_42 (dk_at dksX0_twins_0 10 rfl rfl)
theorem dX0_twins_11 : decode cX0_twins 11 = .ok (.invokevirtual 187, 3) := dk_182 0 187 (dk_at dksX0_twins_0 11 rfl rfl)
theorem dX0_twins_14 : decode cX0_twins 14 = .ok (.getfield 190, 3) := dk_180 0 190 (dk_at dksX0_twins_0 14 rfl rfl)
theorem dX0_twins_17 : decode cX0_twins 17 = .ok (.if_icmp .ge 85, 3) := dk_162 0 85 (dk_at dksX0_twins_0 17 rfl rfl)
theorem dX0_twins_20 : decode cX0_twins 20 = .ok (.iconst 0, 1) := dk_3 (dk_at dksX0_twins_0 20 rfl rfl)
theorem dX0_twins_21 : decode cX0_twins 21 = .ok (.istore_n 3, 1) := dk_62 (dk_at dksX0_twins_0 21 rfl rfl)
theorem dX0_twins_22 : decode cX0_twins 22 = .ok (.iload_n 3, 1) := dk_29 (dk_at dksX0_twins_0 22 rfl rfl)
theorem dX0_twins_23 : decode cX0_twins 23 = .ok (.iload_n 2, 1) := dk_28 (dk_at dksX0_twins_0 23 rfl rfl)
theorem dX0_twins_24 : decode cX0_twins 24 = .ok (.if_icmp .ge 72, 3) := dk_162 0 72 (dk_at dksX0_twins_1 0 rfl rfl)
theorem dX0_twins_27 : decode cX0_twins 27 = .ok (.iload_n 1, 1) := dk_27 (dk_at dksX0_twins_1 3 rfl rfl)
theorem dX0_twins_28 : decode cX0_twins 28 = .ok (.aload_n 0, 1) := dk_42 (dk_at dksX0_twins_1 4 rfl rfl)
theorem dX0_twins_29 : decode cX0_twins 29 = .ok (.iload_n 2, 1) := dk_28 (dk_at dksX0_twins_1 5 rfl rfl)
theorem dX0_twins_30 : decode cX0_twins 30 = .ok (.invokevirtual 343, 3) := dk_182 1 87 (dk_at dksX0_twins_1 6 rfl rfl)
theorem dX0_twins_33 : decode cX0_twins 33 = .ok (.ifCond .eq 54, 3) := dk_153 0 54 (dk_at dksX0_twins_1 9 rfl rfl)
theorem dX0_twins_36 : decode cX0_twins 36 = .ok (.aload_n 0, 1) := dk_42 (dk_at dksX0_twins_1 12 rfl rfl)
theorem dX0_twins_37 : decode cX0_twins 37 = .ok (.iload_n 3, 1) := dk_29 (dk_at dksX0_twins_1 13 rfl rfl)
theorem dX0_twins_38 : decode cX0_twins 38 = .ok (.invokevirtual 343, 3) := dk_182 1 87 (dk_at dksX0_twins_1 14 rfl rfl)
theorem dX0_twins_41 : decode cX0_twins 41 = .ok (.ifCond .eq 46, 3) := dk_153 0 46 (dk_at dksX0_twins_1 17 rfl rfl)
theorem dX0_twins_44 : decode cX0_twins 44 = .ok (.aload_n 0, 1) := dk_42 (dk_at dksX0_twins_1 20 rfl rfl)
theorem dX0_twins_45 : decode cX0_twins 45 = .ok (.iload_n 2, 1) := dk_28 (dk_at dksX0_twins_1 21 rfl rfl)
theorem dX0_twins_46 : decode cX0_twins 46 = .ok (.invokevirtual 282, 3) := dk_182 1 26 (dk_at dksX0_twins_2 0 rfl rfl)
theorem dX0_twins_49 : decode cX0_twins 49 = .ok (.getfield 291, 3) := dk_180 1 35 (dk_at dksX0_twins_2 3 rfl rfl)
theorem dX0_twins_52 : decode cX0_twins 52 = .ok (.arraylength, 1) := dk_190 (dk_at dksX0_twins_2 6 rfl rfl)
theorem dX0_twins_53 : decode cX0_twins 53 = .ok (.aload_n 0, 1) := dk_42 (dk_at dksX0_twins_2 7 rfl rfl)
theorem dX0_twins_54 : decode cX0_twins 54 = .ok (.iload_n 3, 1) := dk_29 (dk_at dksX0_twins_2 8 rfl rfl)
theorem dX0_twins_55 : decode cX0_twins 55 = .ok (.invokevirtual 282, 3) := dk_182 1 26 (dk_at dksX0_twins_2 9 rfl rfl)
theorem dX0_twins_58 : decode cX0_twins 58 = .ok (.getfield 291, 3) := dk_180 1 35 (dk_at dksX0_twins_2 12 rfl rfl)
theorem dX0_twins_61 : decode cX0_twins 61 = .ok (.arraylength, 1) := dk_190 (dk_at dksX0_twins_2 15 rfl rfl)
theorem dX0_twins_62 : decode cX0_twins 62 = .ok (.if_icmp .ne 25, 3) := dk_160 0 25 (dk_at dksX0_twins_2 16 rfl rfl)
theorem dX0_twins_65 : decode cX0_twins 65 = .ok (.aload_n 0, 1) := dk_42 (dk_at dksX0_twins_2 19 rfl rfl)
theorem dX0_twins_66 : decode cX0_twins 66 = .ok (.iload_n 2, 1) := dk_28 (dk_at dksX0_twins_2 20 rfl rfl)
theorem dX0_twins_67 : decode cX0_twins 67 = .ok (.invokevirtual 282, 3) := dk_182 1 26 (dk_at dksX0_twins_2 21 rfl rfl)
theorem dX0_twins_70 : decode cX0_twins 70 = .ok (.iconst 0, 1) := dk_3 (dk_at dksX0_twins_3 0 rfl rfl)
theorem dX0_twins_71 : decode cX0_twins 71 = .ok (.aload_n 0, 1) := dk_42 (dk_at dksX0_twins_3 1 rfl rfl)
theorem dX0_twins_72 : decode cX0_twins 72 = .ok (.iload_n 3, 1) := dk_29 (dk_at dksX0_twins_3 2 rfl rfl)
theorem dX0_twins_73 : decode cX0_twins 73 = .ok (.invokevirtual 282, 3) := dk_182 1 26 (dk_at dksX0_twins_3 3 rfl rfl)
theorem dX0_twins_76 : decode cX0_twins 76 = .ok (.iconst 0, 1) := dk_3 (dk_at dksX0_twins_3 6 rfl rfl)
theorem dX0_twins_77 : decode cX0_twins 77 = .ok (.invokevirtual 455, 3) := dk_182 1 199 (dk_at dksX0_twins_3 7 rfl rfl)
theorem dX0_twins_80 : decode cX0_twins 80 = .ok (.ifCond .eq 7, 3) := dk_153 0 7 (dk_at dksX0_twins_3 10 rfl rfl)
theorem dX0_twins_83 : decode cX0_twins 83 = .ok (.iconst 1, 1) := dk_4 (dk_at dksX0_twins_3 13 rfl rfl)
theorem dX0_twins_84 : decode cX0_twins 84 = .ok (.goto 4, 3) := dk_167 0 4 (dk_at dksX0_twins_3 14 rfl rfl)
theorem dX0_twins_87 : decode cX0_twins 87 = .ok (.iconst 0, 1) := dk_3 (dk_at dksX0_twins_3 17 rfl rfl)
theorem dX0_twins_88 : decode cX0_twins 88 = .ok (.iadd, 1) := dk_96 (dk_at dksX0_twins_3 18 rfl rfl)
theorem dX0_twins_89 : decode cX0_twins 89 = .ok (.istore_n 1, 1) := dk_60 (dk_at dksX0_twins_3 19 rfl rfl)
theorem dX0_twins_90 : decode cX0_twins 90 = .ok (.iinc 3 1, 3) := dk_132 3 1 (dk_at dksX0_twins_3 20 rfl rfl)
theorem dX0_twins_93 : decode cX0_twins 93 = .ok (.goto (-71), 3) := dk_167 255 185 (dk_at dksX0_twins_4 0 rfl rfl)
theorem dX0_twins_96 : decode cX0_twins 96 = .ok (.iinc 2 1, 3) := dk_132 2 1 (dk_at dksX0_twins_4 3 rfl rfl)
theorem dX0_twins_99 : decode cX0_twins 99 = .ok (.goto (-90), 3) := dk_167 255 166 (dk_at dksX0_twins_4 6 rfl rfl)
theorem dX0_twins_102 : decode cX0_twins 102 = .ok (.iload_n 1, 1) := dk_27 (dk_at dksX0_twins_4 9 rfl rfl)
theorem dX0_twins_103 : decode cX0_twins 103 = .ok (.ireturn, 1) := dk_172 (dk_at dksX0_twins_4 10 rfl rfl)
abbrev cX0_lacks : ByteArray := prog_1_method_108_code
def yX0_lacks : MethodName := ⟨RX0, "lacks", "()I"⟩
def dkwX0_lacks_4 : List UInt8 := [172]
abbrev dktX0_lacks_4 : List UInt8 := dkwX0_lacks_4 ++ []
def dkwX0_lacks_3 : List UInt8 := [167, 255, 206, 27, 29, 153, 0, 7, 3, 167, 0, 6, 4, 28, 120, 128, 60, 132, 2, 1, 167, 255, 175, 27]
abbrev dktX0_lacks_3 : List UInt8 := dkwX0_lacks_3 ++ dktX0_lacks_4
def dkwX0_lacks_2 : List UInt8 := [21, 4, 182, 1, 26, 16, 97, 28, 96, 182, 1, 215, 153, 0, 7, 4, 167, 0, 4, 3, 62, 132, 4, 1]
abbrev dktX0_lacks_2 : List UInt8 := dkwX0_lacks_2 ++ dktX0_lacks_3
def dkwX0_lacks_1 : List UInt8 := [182, 0, 187, 180, 0, 190, 162, 0, 44, 29, 154, 0, 28, 42, 21, 4, 182, 1, 87, 153, 0, 23, 42]
abbrev dktX0_lacks_1 : List UInt8 := dkwX0_lacks_1 ++ dktX0_lacks_2
def dkwX0_lacks_0 : List UInt8 := [42, 3, 181, 0, 114, 3, 60, 3, 61, 28, 16, 26, 162, 0, 81, 3, 62, 3, 54, 4, 21, 4, 42]
abbrev dktX0_lacks_0 : List UInt8 := dkwX0_lacks_0 ++ dktX0_lacks_1
theorem dksX0_lacks_0 : cX0_lacks.data.toList.drop 0 = dktX0_lacks_0 := by decide +kernel
theorem dksX0_lacks_1 : cX0_lacks.data.toList.drop 23 = dktX0_lacks_1 := dk_seg dksX0_lacks_0 23 rfl rfl
theorem dksX0_lacks_2 : cX0_lacks.data.toList.drop 46 = dktX0_lacks_2 := dk_seg dksX0_lacks_1 23 rfl rfl
theorem dksX0_lacks_3 : cX0_lacks.data.toList.drop 70 = dktX0_lacks_3 := dk_seg dksX0_lacks_2 24 rfl rfl
theorem dksX0_lacks_4 : cX0_lacks.data.toList.drop 94 = dktX0_lacks_4 := dk_seg dksX0_lacks_3 24 rfl rfl
theorem dX0_lacks_0 : decode cX0_lacks 0 = .ok (.aload_n 0, 1) := dk_42 (dk_at dksX0_lacks_0 0 rfl rfl)
theorem dX0_lacks_1 : decode cX0_lacks 1 = .ok (.iconst 0, 1) := dk_3 (dk_at dksX0_lacks_0 1 rfl rfl)
theorem dX0_lacks_2 : decode cX0_lacks 2 = .ok (.putfield 114, 3) := dk_181 0 114 (dk_at dksX0_lacks_0 2 rfl rfl)
theorem dX0_lacks_5 : decode cX0_lacks 5 = .ok (.iconst 0, 1) := dk_3 (dk_at dksX0_lacks_0 5 rfl rfl)
theorem dX0_lacks_6 : decode cX0_lacks 6 = .ok (.istore_n 1, 1) := dk_60 (dk_at dksX0_lacks_0 6 rfl rfl)
theorem dX0_lacks_7 : decode cX0_lacks 7 = .ok (.iconst 0, 1) := dk_3 (dk_at dksX0_lacks_0 7 rfl rfl)
theorem dX0_lacks_8 : decode cX0_lacks 8 = .ok (.istore_n 2, 1) := dk_61 (dk_at dksX0_lacks_0 8 rfl rfl)
theorem dX0_lacks_9 : decode cX0_lacks 9 = .ok (.iload_n 2, 1) := dk_28 (dk_at dksX0_lacks_0 9 rfl rfl)
theorem dX0_lacks_10 : decode cX0_lacks 10 = .ok (.bipush 26, 2) := dk_16 26 (dk_at dksX0_lacks_0 10 rfl rfl)
theorem dX0_lacks_12 : decode cX0_lacks 12 = .ok (.if_icmp .ge 81, 3) := dk_162 0 81 (dk_at dksX0_lacks_0 12 rfl rfl)
theorem dX0_lacks_15 : decode cX0_lacks 15 = .ok (.iconst 0, 1) := dk_3 (dk_at dksX0_lacks_0 15 rfl rfl)
theorem dX0_lacks_16 : decode cX0_lacks 16 = .ok (.istore_n 3, 1) := dk_62 (dk_at dksX0_lacks_0 16 rfl rfl)
theorem dX0_lacks_17 : decode cX0_lacks 17 = .ok (.iconst 0, 1) := dk_3 (dk_at dksX0_lacks_0 17 rfl rfl)
theorem dX0_lacks_18 : decode cX0_lacks 18 = .ok (.istore 4, 2) := dk_54 4 (dk_at dksX0_lacks_0 18 rfl rfl)
theorem dX0_lacks_20 : decode cX0_lacks 20 = .ok (.iload 4, 2) := dk_21 4 (dk_at dksX0_lacks_0 20 rfl rfl)
theorem dX0_lacks_22 : decode cX0_lacks 22 = .ok (.aload_n 0, 1) := dk_42 (dk_at dksX0_lacks_0 22 rfl rfl)
theorem dX0_lacks_23 : decode cX0_lacks 23 = .ok (.invokevirtual 187, 3) := dk_182 0 187 (dk_at dksX0_lacks_1 0 rfl rfl)
theorem dX0_lacks_26 : decode cX0_lacks 26 = .ok (.getfield 190, 3) := dk_180 0 190 (dk_at dksX0_lacks_1 3 rfl rfl)
theorem dX0_lacks_29 : decode cX0_lacks 29 = .ok (.if_icmp .ge 44, 3) := dk_162 0 44 (dk_at dksX0_lacks_1 6 rfl rfl)
theorem dX0_lacks_32 : decode cX0_lacks 32 = .ok (.iload_n 3, 1) := dk_29 (dk_at dksX0_lacks_1 9 rfl rfl)
theorem dX0_lacks_33 : decode cX0_lacks 33 = .ok (.ifCond .ne 28, 3) := dk_154 0 28 (dk_at dksX0_lacks_1 10 rfl rfl)
theorem dX0_lacks_36 : decode cX0_lacks 36 = .ok (.aload_n 0, 1) := dk_42 (dk_at dksX0_lacks_1 13 rfl rfl)
theorem dX0_lacks_37 : decode cX0_lacks 37 = .ok (.iload 4, 2) := dk_21 4 (dk_at dksX0_lacks_1 14 rfl rfl)
theorem dX0_lacks_39 : decode cX0_lacks 39 = .ok (.invokevirtual 343, 3) := dk_182 1 87 (dk_at dksX0_lacks_1 16 rfl rfl)
theorem dX0_lacks_42 : decode cX0_lacks 42 = .ok (.ifCond .eq 23, 3) := dk_153 0 23 (dk_at dksX0_lacks_1 19 rfl rfl)
theorem dX0_lacks_45 : decode cX0_lacks 45 = .ok (.aload_n 0, 1) := dk_42 (dk_at dksX0_lacks_1 22 rfl rfl)
theorem dX0_lacks_46 : decode cX0_lacks 46 = .ok (.iload 4, 2) := dk_21 4 (dk_at dksX0_lacks_2 0 rfl rfl)
theorem dX0_lacks_48 : decode cX0_lacks 48 = .ok (.invokevirtual 282, 3) := dk_182 1 26 (dk_at dksX0_lacks_2 2 rfl rfl)
theorem dX0_lacks_51 : decode cX0_lacks 51 = .ok (.bipush 97, 2) := dk_16 97 (dk_at dksX0_lacks_2 5 rfl rfl)
theorem dX0_lacks_53 : decode cX0_lacks 53 = .ok (.iload_n 2, 1) := dk_28 (dk_at dksX0_lacks_2 7 rfl rfl)
theorem dX0_lacks_54 : decode cX0_lacks 54 = .ok (.iadd, 1) := dk_96 (dk_at dksX0_lacks_2 8 rfl rfl)
theorem dX0_lacks_55 : decode cX0_lacks 55 = .ok (.invokevirtual 471, 3) := dk_182 1 215 (dk_at dksX0_lacks_2 9 rfl rfl)
theorem dX0_lacks_58 : decode cX0_lacks 58 = .ok (.ifCond .eq 7, 3) := dk_153 0 7 (dk_at dksX0_lacks_2 12 rfl rfl)
theorem dX0_lacks_61 : decode cX0_lacks 61 = .ok (.iconst 1, 1) := dk_4 (dk_at dksX0_lacks_2 15 rfl rfl)
theorem dX0_lacks_62 : decode cX0_lacks 62 = .ok (.goto 4, 3) := dk_167 0 4 (dk_at dksX0_lacks_2 16 rfl rfl)
theorem dX0_lacks_65 : decode cX0_lacks 65 = .ok (.iconst 0, 1) := dk_3 (dk_at dksX0_lacks_2 19 rfl rfl)
theorem dX0_lacks_66 : decode cX0_lacks 66 = .ok (.istore_n 3, 1) := dk_62 (dk_at dksX0_lacks_2 20 rfl rfl)
theorem dX0_lacks_67 : decode cX0_lacks 67 = .ok (.iinc 4 1, 3) := dk_132 4 1 (dk_at dksX0_lacks_2 21 rfl rfl)
theorem dX0_lacks_70 : decode cX0_lacks 70 = .ok (.goto (-50), 3) := dk_167 255 206 (dk_at dksX0_lacks_3 0 rfl rfl)
theorem dX0_lacks_73 : decode cX0_lacks 73 = .ok (.iload_n 1, 1) := dk_27 (dk_at dksX0_lacks_3 3 rfl rfl)
theorem dX0_lacks_74 : decode cX0_lacks 74 = .ok (.iload_n 3, 1) := dk_29 (dk_at dksX0_lacks_3 4 rfl rfl)
theorem dX0_lacks_75 : decode cX0_lacks 75 = .ok (.ifCond .eq 7, 3) := dk_153 0 7 (dk_at dksX0_lacks_3 5 rfl rfl)
theorem dX0_lacks_78 : decode cX0_lacks 78 = .ok (.iconst 0, 1) := dk_3 (dk_at dksX0_lacks_3 8 rfl rfl)
theorem dX0_lacks_79 : decode cX0_lacks 79 = .ok (.goto 6, 3) := dk_167 0 6 (dk_at dksX0_lacks_3 9 rfl rfl)
theorem dX0_lacks_82 : decode cX0_lacks 82 = .ok (.iconst 1, 1) := dk_4 (dk_at dksX0_lacks_3 12 rfl rfl)
theorem dX0_lacks_83 : decode cX0_lacks 83 = .ok (.iload_n 2, 1) := dk_28 (dk_at dksX0_lacks_3 13 rfl rfl)
theorem dX0_lacks_84 : decode cX0_lacks 84 = .ok (.ishl, 1) := dk_120 (dk_at dksX0_lacks_3 14 rfl rfl)
theorem dX0_lacks_85 : decode cX0_lacks 85 = .ok (.ior, 1) := dk_128 (dk_at dksX0_lacks_3 15 rfl rfl)
theorem dX0_lacks_86 : decode cX0_lacks 86 = .ok (.istore_n 1, 1) := dk_60 (dk_at dksX0_lacks_3 16 rfl rfl)
theorem dX0_lacks_87 : decode cX0_lacks 87 = .ok (.iinc 2 1, 3) := dk_132 2 1 (dk_at dksX0_lacks_3 17 rfl rfl)
theorem dX0_lacks_90 : decode cX0_lacks 90 = .ok (.goto (-81), 3) := dk_167 255 175 (dk_at dksX0_lacks_3 20 rfl rfl)
theorem dX0_lacks_93 : decode cX0_lacks 93 = .ok (.iload_n 1, 1) := dk_27 (dk_at dksX0_lacks_3 23 rfl rfl)
theorem dX0_lacks_94 : decode cX0_lacks 94 = .ok (.ireturn, 1) := dk_172 (dk_at dksX0_lacks_4 0 rfl rfl)
abbrev cX0_worn : ByteArray := prog_1_method_110_code
def yX0_worn : MethodName := ⟨RX0, "worn", "(II)I"⟩
def dkwX0_worn_3 : List UInt8 := [180, 0, 108, 3, 42, 180, 0, 111, 3, 42, 180, 1, 226, 184, 0, 179, 29, 172]
abbrev dktX0_worn_3 : List UInt8 := dkwX0_worn_3 ++ []
def dkwX0_worn_2 : List UInt8 := [27, 28, 182, 1, 223, 62, 42, 42, 180, 0, 62, 180, 0, 233, 180, 0, 252, 190, 181, 1, 226, 42]
abbrev dktX0_worn_2 : List UInt8 := dkwX0_worn_2 ++ dktX0_worn_3
def dkwX0_worn_1 : List UInt8 := [154, 0, 7, 4, 167, 0, 7, 42, 182, 1, 48, 181, 0, 114, 42, 180, 0, 114, 158, 0, 5, 2, 172, 42]
abbrev dktX0_worn_1 : List UInt8 := dkwX0_worn_1 ++ dktX0_worn_2
def dkwX0_worn_0 : List UInt8 := [42, 27, 133, 9, 20, 1, 219, 184, 0, 195, 153, 0, 15, 28, 133, 9, 20, 1, 221, 184, 0, 195]
abbrev dktX0_worn_0 : List UInt8 := dkwX0_worn_0 ++ dktX0_worn_1
theorem dksX0_worn_0 : cX0_worn.data.toList.drop 0 = dktX0_worn_0 := by decide +kernel
theorem dksX0_worn_1 : cX0_worn.data.toList.drop 22 = dktX0_worn_1 := dk_seg dksX0_worn_0 22 rfl rfl
theorem dksX0_worn_2 : cX0_worn.data.toList.drop 46 = dktX0_worn_2 := dk_seg dksX0_worn_1 24 rfl rfl
theorem dksX0_worn_3 : cX0_worn.data.toList.drop 68 = dktX0_worn_3 := dk_seg dksX0_worn_2 22 rfl rfl
theorem dX0_worn_0 : decode cX0_worn 0 = .ok (.aload_n 0, 1) := dk_42 (dk_at dksX0_worn_0 0 rfl rfl)
theorem dX0_worn_1 : decode cX0_worn 1 = .ok (.iload_n 1, 1) := dk_27 (dk_at dksX0_worn_0 1 rfl rfl)
theorem dX0_worn_2 : decode cX0_worn 2 = .ok (.i2l, 1) := dk_133 (dk_at dksX0_worn_0 2 rfl rfl)
theorem dX0_worn_3 : decode cX0_worn 3 = .ok (.lconst 0, 1) := dk_9 (dk_at dksX0_worn_0 3 rfl rfl)
theorem dX0_worn_4 : decode cX0_worn 4 = .ok (.ldc2_w 475, 3) := dk_20 1 219 (dk_at dksX0_worn_0 4 rfl rfl)
theorem dX0_worn_7 : decode cX0_worn 7 = .ok (.invokestatic 195, 3) := dk_184 0 195 (dk_at dksX0_worn_0 7 rfl rfl)
theorem dX0_worn_10 : decode cX0_worn 10 = .ok (.ifCond .eq 15, 3) := dk_153 0 15 (dk_at dksX0_worn_0 10 rfl rfl)
theorem dX0_worn_13 : decode cX0_worn 13 = .ok (.iload_n 2, 1) := dk_28 (dk_at dksX0_worn_0 13 rfl rfl)
theorem dX0_worn_14 : decode cX0_worn 14 = .ok (.i2l, 1) := dk_133 (dk_at dksX0_worn_0 14 rfl rfl)
theorem dX0_worn_15 : decode cX0_worn 15 = .ok (.lconst 0, 1) := dk_9 (dk_at dksX0_worn_0 15 rfl rfl)
theorem dX0_worn_16 : decode cX0_worn 16 = .ok (.ldc2_w 477, 3) := dk_20 1 221 (dk_at dksX0_worn_0 16 rfl rfl)
theorem dX0_worn_19 : decode cX0_worn 19 = .ok (.invokestatic 195, 3) := dk_184 0 195 (dk_at dksX0_worn_0 19 rfl rfl)
theorem dX0_worn_22 : decode cX0_worn 22 = .ok (.ifCond .ne 7, 3) := dk_154 0 7 (dk_at dksX0_worn_1 0 rfl rfl)
theorem dX0_worn_25 : decode cX0_worn 25 = .ok (.iconst 1, 1) := dk_4 (dk_at dksX0_worn_1 3 rfl rfl)
theorem dX0_worn_26 : decode cX0_worn 26 = .ok (.goto 7, 3) := dk_167 0 7 (dk_at dksX0_worn_1 4 rfl rfl)
theorem dX0_worn_29 : decode cX0_worn 29 = .ok (.aload_n 0, 1) := dk_42 (dk_at dksX0_worn_1 7 rfl rfl)
theorem dX0_worn_30 : decode cX0_worn 30 = .ok (.invokevirtual 304, 3) := dk_182 1 48 (dk_at dksX0_worn_1 8 rfl rfl)
theorem dX0_worn_33 : decode cX0_worn 33 = .ok (.putfield 114, 3) := dk_181 0 114 (dk_at dksX0_worn_1 11 rfl rfl)
theorem dX0_worn_36 : decode cX0_worn 36 = .ok (.aload_n 0, 1) := dk_42 (dk_at dksX0_worn_1 14 rfl rfl)
theorem dX0_worn_37 : decode cX0_worn 37 = .ok (.getfield 114, 3) := dk_180 0 114 (dk_at dksX0_worn_1 15 rfl rfl)
theorem dX0_worn_40 : decode cX0_worn 40 = .ok (.ifCond .le 5, 3) := dk_158 0 5 (dk_at dksX0_worn_1 18 rfl rfl)
theorem dX0_worn_43 : decode cX0_worn 43 = .ok (.iconst (-1), 1) := dk_2 (dk_at dksX0_worn_1 21 rfl rfl)
theorem dX0_worn_44 : decode cX0_worn 44 = .ok (.ireturn, 1) := dk_172 (dk_at dksX0_worn_1 22 rfl rfl)
theorem dX0_worn_45 : decode cX0_worn 45 = .ok (.aload_n 0, 1) := dk_42 (dk_at dksX0_worn_1 23 rfl rfl)
theorem dX0_worn_46 : decode cX0_worn 46 = .ok (.iload_n 1, 1) := dk_27 (dk_at dksX0_worn_2 0 rfl rfl)
theorem dX0_worn_47 : decode cX0_worn 47 = .ok (.iload_n 2, 1) := dk_28 (dk_at dksX0_worn_2 1 rfl rfl)
theorem dX0_worn_48 : decode cX0_worn 48 = .ok (.invokevirtual 479, 3) := dk_182 1 223 (dk_at dksX0_worn_2 2 rfl rfl)
theorem dX0_worn_51 : decode cX0_worn 51 = .ok (.istore_n 3, 1) := dk_62 (dk_at dksX0_worn_2 5 rfl rfl)
theorem dX0_worn_52 : decode cX0_worn 52 = .ok (.aload_n 0, 1) := dk_42 (dk_at dksX0_worn_2 6 rfl rfl)
theorem dX0_worn_53 : decode cX0_worn 53 = .ok (.aload_n 0, 1) := dk_42 (dk_at dksX0_worn_2 7 rfl rfl)
theorem dX0_worn_54 : decode cX0_worn 54 = .ok (.getfield 62, 3) := dk_180 0 62 (dk_at dksX0_worn_2 8 rfl rfl)
theorem dX0_worn_57 : decode cX0_worn 57 = .ok (.getfield 233, 3) := dk_180 0 233 (dk_at dksX0_worn_2 11 rfl rfl)
theorem dX0_worn_60 : decode cX0_worn 60 = .ok (.getfield 252, 3) := dk_180 0 252 (dk_at dksX0_worn_2 14 rfl rfl)
theorem dX0_worn_63 : decode cX0_worn 63 = .ok (.arraylength, 1) := dk_190 (dk_at dksX0_worn_2 17 rfl rfl)
theorem dX0_worn_64 : decode cX0_worn 64 = .ok (.putfield 482, 3) := dk_181 1 226 (dk_at dksX0_worn_2 18 rfl rfl)
theorem dX0_worn_67 : decode cX0_worn 67 = .ok (.aload_n 0, 1) := dk_42 (dk_at dksX0_worn_2 21 rfl rfl)
theorem dX0_worn_68 : decode cX0_worn 68 = .ok (.getfield 108, 3) := dk_180 0 108 (dk_at dksX0_worn_3 0 rfl rfl)
theorem dX0_worn_71 : decode cX0_worn 71 = .ok (.iconst 0, 1) := dk_3 (dk_at dksX0_worn_3 3 rfl rfl)
theorem dX0_worn_72 : decode cX0_worn 72 = .ok (.aload_n 0, 1) := dk_42 (dk_at dksX0_worn_3 4 rfl rfl)
theorem dX0_worn_73 : decode cX0_worn 73 = .ok (.getfield 111, 3) := dk_180 0 111 (dk_at dksX0_worn_3 5 rfl rfl)
theorem dX0_worn_76 : decode cX0_worn 76 = .ok (.iconst 0, 1) := dk_3 (dk_at dksX0_worn_3 8 rfl rfl)
theorem dX0_worn_77 : decode cX0_worn 77 = .ok (.aload_n 0, 1) := dk_42 (dk_at dksX0_worn_3 9 rfl rfl)
theorem dX0_worn_78 : decode cX0_worn 78 = .ok (.getfield 482, 3) := dk_180 1 226 (dk_at dksX0_worn_3 10 rfl rfl)
theorem dX0_worn_81 : decode cX0_worn 81 = .ok (.invokestatic 179, 3) := dk_184 0 179 (dk_at dksX0_worn_3 13 rfl rfl)
theorem dX0_worn_84 : decode cX0_worn 84 = .ok (.iload_n 3, 1) := dk_29 (dk_at dksX0_worn_3 16 rfl rfl)
theorem dX0_worn_85 : decode cX0_worn 85 = .ok (.ireturn, 1) := dk_172 (dk_at dksX0_worn_3 17 rfl rfl)
abbrev cX0_wears : ByteArray := prog_1_method_109_code
def yX0_wears : MethodName := ⟨RX0, "wears", "(II)I"⟩
def dkwX0_wears_5 : List UInt8 := [130, 126, 79, 132, 4, 1, 132, 6, 1, 167, 255, 175, 132, 5, 1, 167, 255, 130, 21, 4, 172]
abbrev dktX0_wears_5 : List UInt8 := dkwX0_wears_5 ++ []
def dkwX0_wears_4 : List UInt8 := [108, 16, 16, 112, 28, 161, 0, 6, 167, 0, 22, 42, 180, 0, 108, 21, 5, 92, 46, 4, 21, 6, 120, 2]
abbrev dktX0_wears_4 : List UInt8 := dkwX0_wears_4 ++ dktX0_wears_5
def dkwX0_wears_3 : List UInt8 := [126, 154, 0, 6, 167, 0, 50, 29, 17, 10, 241, 104, 17, 39, 179, 96, 19, 1, 218, 112, 62, 29, 16, 8]
abbrev dktX0_wears_3 : List UInt8 := dkwX0_wears_3 ++ dktX0_wears_4
def dkwX0_wears_2 : List UInt8 := [21, 6, 16, 6, 162, 0, 80, 42, 180, 0, 62, 180, 0, 233, 180, 0, 252, 21, 5, 46, 21, 6, 122, 4]
abbrev dktX0_wears_2 : List UInt8 := dkwX0_wears_2 ++ dktX0_wears_3
def dkwX0_wears_1 : List UInt8 := [42, 180, 0, 108, 21, 5, 42, 180, 0, 62, 180, 0, 233, 180, 0, 252, 21, 5, 46, 79, 3, 54, 6]
abbrev dktX0_wears_1 : List UInt8 := dkwX0_wears_1 ++ dktX0_wears_2
def dkwX0_wears_0 : List UInt8 := [27, 62, 3, 54, 4, 3, 54, 5, 21, 5, 42, 180, 0, 62, 180, 0, 233, 180, 0, 252, 190, 162, 0, 116]
abbrev dktX0_wears_0 : List UInt8 := dkwX0_wears_0 ++ dktX0_wears_1
theorem dksX0_wears_0 : cX0_wears.data.toList.drop 0 = dktX0_wears_0 := by decide +kernel
theorem dksX0_wears_1 : cX0_wears.data.toList.drop 24 = dktX0_wears_1 := dk_seg dksX0_wears_0 24 rfl rfl
theorem dksX0_wears_2 : cX0_wears.data.toList.drop 47 = dktX0_wears_2 := dk_seg dksX0_wears_1 23 rfl rfl
theorem dksX0_wears_3 : cX0_wears.data.toList.drop 71 = dktX0_wears_3 := dk_seg dksX0_wears_2 24 rfl rfl
theorem dksX0_wears_4 : cX0_wears.data.toList.drop 95 = dktX0_wears_4 := dk_seg dksX0_wears_3 24 rfl rfl
theorem dksX0_wears_5 : cX0_wears.data.toList.drop 119 = dktX0_wears_5 := dk_seg dksX0_wears_4 24 rfl rfl
theorem dX0_wears_0 : decode cX0_wears 0 = .ok (.iload_n 1, 1) := dk_27 (dk_at dksX0_wears_0 0 rfl rfl)
theorem dX0_wears_1 : decode cX0_wears 1 = .ok (.istore_n 3, 1) := dk_62 (dk_at dksX0_wears_0 1 rfl rfl)
theorem dX0_wears_2 : decode cX0_wears 2 = .ok (.iconst 0, 1) := dk_3 (dk_at dksX0_wears_0 2 rfl rfl)
theorem dX0_wears_3 : decode cX0_wears 3 = .ok (.istore 4, 2) := dk_54 4 (dk_at dksX0_wears_0 3 rfl rfl)
theorem dX0_wears_5 : decode cX0_wears 5 = .ok (.iconst 0, 1) := dk_3 (dk_at dksX0_wears_0 5 rfl rfl)
theorem dX0_wears_6 : decode cX0_wears 6 = .ok (.istore 5, 2) := dk_54 5 (dk_at dksX0_wears_0 6 rfl rfl)
theorem dX0_wears_8 : decode cX0_wears 8 = .ok (.iload 5, 2) := dk_21 5 (dk_at dksX0_wears_0 8 rfl rfl)
theorem dX0_wears_10 : decode cX0_wears 10 = .ok (.aload_n 0, 1) := dk_42 (dk_at dksX0_wears_0 10 rfl rfl)
theorem dX0_wears_11 : decode cX0_wears 11 = .ok (.getfield 62, 3) := dk_180 0 62 (dk_at dksX0_wears_0 11 rfl rfl)
theorem dX0_wears_14 : decode cX0_wears 14 = .ok (.getfield 233, 3) := dk_180 0 233 (dk_at dksX0_wears_0 14 rfl rfl)
theorem dX0_wears_17 : decode cX0_wears 17 = .ok (.getfield 252, 3) := dk_180 0 252 (dk_at dksX0_wears_0 17 rfl rfl)
theorem dX0_wears_20 : decode cX0_wears 20 = .ok (.arraylength, 1) := dk_190 (dk_at dksX0_wears_0 20 rfl rfl)
theorem dX0_wears_21 : decode cX0_wears 21 = .ok (.if_icmp .ge 116, 3) := dk_162 0 116 (dk_at dksX0_wears_0 21 rfl rfl)
theorem dX0_wears_24 : decode cX0_wears 24 = .ok (.aload_n 0, 1) := dk_42 (dk_at dksX0_wears_1 0 rfl rfl)
theorem dX0_wears_25 : decode cX0_wears 25 = .ok (.getfield 108, 3) := dk_180 0 108 (dk_at dksX0_wears_1 1 rfl rfl)
theorem dX0_wears_28 : decode cX0_wears 28 = .ok (.iload 5, 2) := dk_21 5 (dk_at dksX0_wears_1 4 rfl rfl)
theorem dX0_wears_30 : decode cX0_wears 30 = .ok (.aload_n 0, 1) := dk_42 (dk_at dksX0_wears_1 6 rfl rfl)
theorem dX0_wears_31 : decode cX0_wears 31 = .ok (.getfield 62, 3) := dk_180 0 62 (dk_at dksX0_wears_1 7 rfl rfl)
theorem dX0_wears_34 : decode cX0_wears 34 = .ok (.getfield 233, 3) := dk_180 0 233 (dk_at dksX0_wears_1 10 rfl rfl)
theorem dX0_wears_37 : decode cX0_wears 37 = .ok (.getfield 252, 3) := dk_180 0 252 (dk_at dksX0_wears_1 13 rfl rfl)
theorem dX0_wears_40 : decode cX0_wears 40 = .ok (.iload 5, 2) := dk_21 5 (dk_at dksX0_wears_1 16 rfl rfl)
theorem dX0_wears_42 : decode cX0_wears 42 = .ok (.iaload, 1) := dk_46 (dk_at dksX0_wears_1 18 rfl rfl)
theorem dX0_wears_43 : decode cX0_wears 43 = .ok (.iastore, 1) := dk_79 (dk_at dksX0_wears_1 19 rfl rfl)
theorem dX0_wears_44 : decode cX0_wears 44 = .ok (.iconst 0, 1) := dk_3 (dk_at dksX0_wears_1 20 rfl rfl)
theorem dX0_wears_45 : decode cX0_wears 45 = .ok (.istore 6, 2) := dk_54 6 (dk_at dksX0_wears_1 21 rfl rfl)
theorem dX0_wears_47 : decode cX0_wears 47 = .ok (.iload 6, 2) := dk_21 6 (dk_at dksX0_wears_2 0 rfl rfl)
theorem dX0_wears_49 : decode cX0_wears 49 = .ok (.bipush 6, 2) := dk_16 6 (dk_at dksX0_wears_2 2 rfl rfl)
theorem dX0_wears_51 : decode cX0_wears 51 = .ok (.if_icmp .ge 80, 3) := dk_162 0 80 (dk_at dksX0_wears_2 4 rfl rfl)
theorem dX0_wears_54 : decode cX0_wears 54 = .ok (.aload_n 0, 1) := dk_42 (dk_at dksX0_wears_2 7 rfl rfl)
theorem dX0_wears_55 : decode cX0_wears 55 = .ok (.getfield 62, 3) := dk_180 0 62 (dk_at dksX0_wears_2 8 rfl rfl)
theorem dX0_wears_58 : decode cX0_wears 58 = .ok (.getfield 233, 3) := dk_180 0 233 (dk_at dksX0_wears_2 11 rfl rfl)
theorem dX0_wears_61 : decode cX0_wears 61 = .ok (.getfield 252, 3) := dk_180 0 252 (dk_at dksX0_wears_2 14 rfl rfl)
theorem dX0_wears_64 : decode cX0_wears 64 = .ok (.iload 5, 2) := dk_21 5 (dk_at dksX0_wears_2 17 rfl rfl)
theorem dX0_wears_66 : decode cX0_wears 66 = .ok (.iaload, 1) := dk_46 (dk_at dksX0_wears_2 19 rfl rfl)
theorem dX0_wears_67 : decode cX0_wears 67 = .ok (.iload 6, 2) := dk_21 6 (dk_at dksX0_wears_2 20 rfl rfl)
theorem dX0_wears_69 : decode cX0_wears 69 = .ok (.ishr, 1) := dk_122 (dk_at dksX0_wears_2 22 rfl rfl)
theorem dX0_wears_70 : decode cX0_wears 70 = .ok (.iconst 1, 1) := dk_4 (dk_at dksX0_wears_2 23 rfl rfl)
theorem dX0_wears_71 : decode cX0_wears 71 = .ok (.iand, 1) := dk_126 (dk_at dksX0_wears_3 0 rfl rfl)
theorem dX0_wears_72 : decode cX0_wears 72 = .ok (.ifCond .ne 6, 3) := dk_154 0 6 (dk_at dksX0_wears_3 1 rfl rfl)
theorem dX0_wears_75 : decode cX0_wears 75 = .ok (.goto 50, 3) := dk_167 0 50 (dk_at dksX0_wears_3 4 rfl rfl)
theorem dX0_wears_78 : decode cX0_wears 78 = .ok (.iload_n 3, 1) := dk_29 (dk_at dksX0_wears_3 7 rfl rfl)
theorem dX0_wears_79 : decode cX0_wears 79 = .ok (.sipush 2801, 3) := dk_17 10 241 (dk_at dksX0_wears_3 8 rfl rfl)
theorem dX0_wears_82 : decode cX0_wears 82 = .ok (.imul, 1) := dk_104 (dk_at dksX0_wears_3 11 rfl rfl)
theorem dX0_wears_83 : decode cX0_wears 83 = .ok (.sipush 10163, 3) := dk_17 39 179 (dk_at dksX0_wears_3 12 rfl rfl)
theorem dX0_wears_86 : decode cX0_wears 86 = .ok (.iadd, 1) := dk_96 (dk_at dksX0_wears_3 15 rfl rfl)
theorem dX0_wears_87 : decode cX0_wears 87 = .ok (.ldc_w 474, 3) := dk_19 1 218 (dk_at dksX0_wears_3 16 rfl rfl)
theorem dX0_wears_90 : decode cX0_wears 90 = .ok (.irem, 1) := dk_112 (dk_at dksX0_wears_3 19 rfl rfl)
theorem dX0_wears_91 : decode cX0_wears 91 = .ok (.istore_n 3, 1) := dk_62 (dk_at dksX0_wears_3 20 rfl rfl)
theorem dX0_wears_92 : decode cX0_wears 92 = .ok (.iload_n 3, 1) := dk_29 (dk_at dksX0_wears_3 21 rfl rfl)
theorem dX0_wears_93 : decode cX0_wears 93 = .ok (.bipush 8, 2) := dk_16 8 (dk_at dksX0_wears_3 22 rfl rfl)
theorem dX0_wears_95 : decode cX0_wears 95 = .ok (.idiv, 1) := dk_108 (dk_at dksX0_wears_4 0 rfl rfl)
theorem dX0_wears_96 : decode cX0_wears 96 = .ok (.bipush 16, 2) := dk_16 16 (dk_at dksX0_wears_4 1 rfl rfl)
theorem dX0_wears_98 : decode cX0_wears 98 = .ok (.irem, 1) := dk_112 (dk_at dksX0_wears_4 3 rfl rfl)
theorem dX0_wears_99 : decode cX0_wears 99 = .ok (.iload_n 2, 1) := dk_28 (dk_at dksX0_wears_4 4 rfl rfl)
theorem dX0_wears_100 : decode cX0_wears 100 = .ok (.if_icmp .lt 6, 3) := dk_161 0 6 (dk_at dksX0_wears_4 5 rfl rfl)
theorem dX0_wears_103 : decode cX0_wears 103 = .ok (.goto 22, 3) := dk_167 0 22 (dk_at dksX0_wears_4 8 rfl rfl)
theorem dX0_wears_106 : decode cX0_wears 106 = .ok (.aload_n 0, 1) := dk_42 (dk_at dksX0_wears_4 11 rfl rfl)
theorem dX0_wears_107 : decode cX0_wears 107 = .ok (.getfield 108, 3) := dk_180 0 108 (dk_at dksX0_wears_4 12 rfl rfl)
theorem dX0_wears_110 : decode cX0_wears 110 = .ok (.iload 5, 2) := dk_21 5 (dk_at dksX0_wears_4 15 rfl rfl)
theorem dX0_wears_112 : decode cX0_wears 112 = .ok (.dup2, 1) := dk_92 (dk_at dksX0_wears_4 17 rfl rfl)
theorem dX0_wears_113 : decode cX0_wears 113 = .ok (.iaload, 1) := dk_46 (dk_at dksX0_wears_4 18 rfl rfl)
theorem dX0_wears_114 : decode cX0_wears 114 = .ok (.iconst 1, 1) := dk_4 (dk_at dksX0_wears_4 19 rfl rfl)
theorem dX0_wears_115 : decode cX0_wears 115 = .ok (.iload 6, 2) := dk_21 6 (dk_at dksX0_wears_4 20 rfl rfl)
theorem dX0_wears_117 : decode cX0_wears 117 = .ok (.ishl, 1) := dk_120 (dk_at dksX0_wears_4 22 rfl rfl)
theorem dX0_wears_118 : decode cX0_wears 118 = .ok (.iconst (-1), 1) := dk_2 (dk_at dksX0_wears_4 23 rfl rfl)
theorem dX0_wears_119 : decode cX0_wears 119 = .ok (.ixor, 1) := dk_130 (dk_at dksX0_wears_5 0 rfl rfl)
theorem dX0_wears_120 : decode cX0_wears 120 = .ok (.iand, 1) := dk_126 (dk_at dksX0_wears_5 1 rfl rfl)
theorem dX0_wears_121 : decode cX0_wears 121 = .ok (.iastore, 1) := dk_79 (dk_at dksX0_wears_5 2 rfl rfl)
theorem dX0_wears_122 : decode cX0_wears 122 = .ok (.iinc 4 1, 3) := dk_132 4 1 (dk_at dksX0_wears_5 3 rfl rfl)
theorem dX0_wears_125 : decode cX0_wears 125 = .ok (.iinc 6 1, 3) := dk_132 6 1 (dk_at dksX0_wears_5 6 rfl rfl)
theorem dX0_wears_128 : decode cX0_wears 128 = .ok (.goto (-81), 3) := dk_167 255 175 (dk_at dksX0_wears_5 9 rfl rfl)
theorem dX0_wears_131 : decode cX0_wears 131 = .ok (.iinc 5 1, 3) := dk_132 5 1 (dk_at dksX0_wears_5 12 rfl rfl)
theorem dX0_wears_134 : decode cX0_wears 134 = .ok (.goto (-126), 3) := dk_167 255 130 (dk_at dksX0_wears_5 15 rfl rfl)
theorem dX0_wears_137 : decode cX0_wears 137 = .ok (.iload 4, 2) := dk_21 4 (dk_at dksX0_wears_5 18 rfl rfl)
theorem dX0_wears_139 : decode cX0_wears 139 = .ok (.ireturn, 1) := dk_172 (dk_at dksX0_wears_5 20 rfl rfl)
abbrev cX0_wornAt : ByteArray := prog_1_method_111_code
def yX0_wornAt : MethodName := ⟨RX0, "wornAt", "(I)I"⟩
def dkwX0_wornAt_1 : List UInt8 := [167, 0, 4, 2, 182, 1, 6, 172]
abbrev dktX0_wornAt_1 : List UInt8 := dkwX0_wornAt_1 ++ []
def dkwX0_wornAt_0 : List UInt8 := [42, 27, 133, 9, 42, 180, 1, 226, 4, 100, 133, 184, 0, 195, 153, 0, 12, 42, 180, 0, 111, 27, 46]
abbrev dktX0_wornAt_0 : List UInt8 := dkwX0_wornAt_0 ++ dktX0_wornAt_1
theorem dksX0_wornAt_0 : cX0_wornAt.data.toList.drop 0 = dktX0_wornAt_0 := by decide +kernel
theorem dksX0_wornAt_1 : cX0_wornAt.data.toList.drop 23 = dktX0_wornAt_1 := dk_seg dksX0_wornAt_0 23 rfl rfl
theorem dX0_wornAt_0 : decode cX0_wornAt 0 = .ok (.aload_n 0, 1) := dk_42 (dk_at dksX0_wornAt_0 0 rfl rfl)
theorem dX0_wornAt_1 : decode cX0_wornAt 1 = .ok (.iload_n 1, 1) := dk_27 (dk_at dksX0_wornAt_0 1 rfl rfl)
theorem dX0_wornAt_2 : decode cX0_wornAt 2 = .ok (.i2l, 1) := dk_133 (dk_at dksX0_wornAt_0 2 rfl rfl)
theorem dX0_wornAt_3 : decode cX0_wornAt 3 = .ok (.lconst 0, 1) := dk_9 (dk_at dksX0_wornAt_0 3 rfl rfl)
theorem dX0_wornAt_4 : decode cX0_wornAt 4 = .ok (.aload_n 0, 1) := dk_42 (dk_at dksX0_wornAt_0 4 rfl rfl)
theorem dX0_wornAt_5 : decode cX0_wornAt 5 = .ok (.getfield 482, 3) := dk_180 1 226 (dk_at dksX0_wornAt_0 5 rfl rfl)
theorem dX0_wornAt_8 : decode cX0_wornAt 8 = .ok (.iconst 1, 1) := dk_4 (dk_at dksX0_wornAt_0 8 rfl rfl)
theorem dX0_wornAt_9 : decode cX0_wornAt 9 = .ok (.isub, 1) := dk_100 (dk_at dksX0_wornAt_0 9 rfl rfl)
theorem dX0_wornAt_10 : decode cX0_wornAt 10 = .ok (.i2l, 1) := dk_133 (dk_at dksX0_wornAt_0 10 rfl rfl)
theorem dX0_wornAt_11 : decode cX0_wornAt 11 = .ok (.invokestatic 195, 3) := dk_184 0 195 (dk_at dksX0_wornAt_0 11 rfl rfl)
theorem dX0_wornAt_14 : decode cX0_wornAt 14 = .ok (.ifCond .eq 12, 3) := dk_153 0 12 (dk_at dksX0_wornAt_0 14 rfl rfl)
theorem dX0_wornAt_17 : decode cX0_wornAt 17 = .ok (.aload_n 0, 1) := dk_42 (dk_at dksX0_wornAt_0 17 rfl rfl)
theorem dX0_wornAt_18 : decode cX0_wornAt 18 = .ok (.getfield 111, 3) := dk_180 0 111 (dk_at dksX0_wornAt_0 18 rfl rfl)
theorem dX0_wornAt_21 : decode cX0_wornAt 21 = .ok (.iload_n 1, 1) := dk_27 (dk_at dksX0_wornAt_0 21 rfl rfl)
theorem dX0_wornAt_22 : decode cX0_wornAt 22 = .ok (.iaload, 1) := dk_46 (dk_at dksX0_wornAt_0 22 rfl rfl)
theorem dX0_wornAt_23 : decode cX0_wornAt 23 = .ok (.goto 4, 3) := dk_167 0 4 (dk_at dksX0_wornAt_1 0 rfl rfl)
theorem dX0_wornAt_26 : decode cX0_wornAt 26 = .ok (.iconst (-1), 1) := dk_2 (dk_at dksX0_wornAt_1 3 rfl rfl)
theorem dX0_wornAt_27 : decode cX0_wornAt 27 = .ok (.invokevirtual 262, 3) := dk_182 1 6 (dk_at dksX0_wornAt_1 4 rfl rfl)
theorem dX0_wornAt_30 : decode cX0_wornAt 30 = .ok (.ireturn, 1) := dk_172 (dk_at dksX0_wornAt_1 7 rfl rfl)
abbrev cX0_odds : ByteArray := prog_1_method_112_code
def yX0_odds : MethodName := ⟨RX0, "odds", "(III)Z"⟩
def dkwX0_odds_7 : List UInt8 := [96, 54, 4, 132, 5, 1, 167, 255, 156, 42, 21, 4, 133, 28, 133, 182, 1, 229, 87, 4, 172]
abbrev dktX0_odds_7 : List UInt8 := dkwX0_odds_7 ++ []
def dkwX0_odds_6 : List UInt8 := [167, 0, 4, 3, 54, 6, 132, 7, 1, 167, 255, 199, 21, 4, 21, 6, 153, 0, 7, 4, 167, 0, 4, 3]
abbrev dktX0_odds_6 : List UInt8 := dkwX0_odds_6 ++ dktX0_odds_7
def dkwX0_odds_5 : List UInt8 := [180, 0, 233, 180, 0, 252, 21, 7, 46, 153, 0, 13, 42, 180, 0, 108, 21, 7, 46, 158, 0, 7, 4]
abbrev dktX0_odds_5 : List UInt8 := dkwX0_odds_5 ++ dktX0_odds_6
def dkwX0_odds_4 : List UInt8 := [180, 0, 62, 180, 0, 233, 180, 0, 252, 190, 162, 0, 47, 21, 6, 153, 0, 33, 42, 180, 0, 62]
abbrev dktX0_odds_4 : List UInt8 := dkwX0_odds_4 ++ dktX0_odds_5
def dkwX0_odds_3 : List UInt8 := [162, 0, 100, 42, 27, 21, 5, 96, 29, 182, 1, 223, 87, 4, 54, 6, 3, 54, 7, 21, 7, 42]
abbrev dktX0_odds_3 : List UInt8 := dkwX0_odds_3 ++ dktX0_odds_4
def dkwX0_odds_2 : List UInt8 := [182, 1, 48, 181, 0, 114, 42, 180, 0, 114, 158, 0, 5, 3, 172, 3, 54, 4, 3, 54, 5, 21, 5, 28]
abbrev dktX0_odds_2 : List UInt8 := dkwX0_odds_2 ++ dktX0_odds_3
def dkwX0_odds_1 : List UInt8 := [184, 0, 195, 153, 0, 15, 29, 133, 9, 20, 1, 221, 184, 0, 195, 154, 0, 7, 4, 167, 0, 7, 42]
abbrev dktX0_odds_1 : List UInt8 := dkwX0_odds_1 ++ dktX0_odds_2
def dkwX0_odds_0 : List UInt8 := [42, 28, 133, 10, 20, 1, 153, 184, 0, 195, 153, 0, 32, 27, 133, 9, 17, 39, 15, 28, 100, 4, 96, 133]
abbrev dktX0_odds_0 : List UInt8 := dkwX0_odds_0 ++ dktX0_odds_1
theorem dksX0_odds_0 : cX0_odds.data.toList.drop 0 = dktX0_odds_0 := by decide +kernel
theorem dksX0_odds_1 : cX0_odds.data.toList.drop 24 = dktX0_odds_1 := dk_seg dksX0_odds_0 24 rfl rfl
theorem dksX0_odds_2 : cX0_odds.data.toList.drop 47 = dktX0_odds_2 := dk_seg dksX0_odds_1 23 rfl rfl
theorem dksX0_odds_3 : cX0_odds.data.toList.drop 71 = dktX0_odds_3 := dk_seg dksX0_odds_2 24 rfl rfl
theorem dksX0_odds_4 : cX0_odds.data.toList.drop 93 = dktX0_odds_4 := dk_seg dksX0_odds_3 22 rfl rfl
theorem dksX0_odds_5 : cX0_odds.data.toList.drop 115 = dktX0_odds_5 := dk_seg dksX0_odds_4 22 rfl rfl
theorem dksX0_odds_6 : cX0_odds.data.toList.drop 138 = dktX0_odds_6 := dk_seg dksX0_odds_5 23 rfl rfl
theorem dksX0_odds_7 : cX0_odds.data.toList.drop 162 = dktX0_odds_7 := dk_seg dksX0_odds_6 24 rfl rfl
theorem dX0_odds_0 : decode cX0_odds 0 = .ok (.aload_n 0, 1) := dk_42 (dk_at dksX0_odds_0 0 rfl rfl)
theorem dX0_odds_1 : decode cX0_odds 1 = .ok (.iload_n 2, 1) := dk_28 (dk_at dksX0_odds_0 1 rfl rfl)
theorem dX0_odds_2 : decode cX0_odds 2 = .ok (.i2l, 1) := dk_133 (dk_at dksX0_odds_0 2 rfl rfl)
theorem dX0_odds_3 : decode cX0_odds 3 = .ok (.lconst 1, 1) := dk_10 (dk_at dksX0_odds_0 3 rfl rfl)
theorem dX0_odds_4 : decode cX0_odds 4 = .ok (.ldc2_w 409, 3) := dk_20 1 153 (dk_at dksX0_odds_0 4 rfl rfl)
theorem dX0_odds_7 : decode cX0_odds 7 = .ok (.invokestatic 195, 3) := dk_184 0 195 (dk_at dksX0_odds_0 7 rfl rfl)
theorem dX0_odds_10 : decode cX0_odds 10 = .ok (.ifCond .eq 32, 3) := dk_153 0 32 (dk_at dksX0_odds_0 10 rfl rfl)
theorem dX0_odds_13 : decode cX0_odds 13 = .ok (.iload_n 1, 1) := dk_27 (dk_at dksX0_odds_0 13 rfl rfl)
theorem dX0_odds_14 : decode cX0_odds 14 = .ok (.i2l, 1) := dk_133 (dk_at dksX0_odds_0 14 rfl rfl)
theorem dX0_odds_15 : decode cX0_odds 15 = .ok (.lconst 0, 1) := dk_9 (dk_at dksX0_odds_0 15 rfl rfl)
theorem dX0_odds_16 : decode cX0_odds 16 = .ok (.sipush 9999, 3) := dk_17 39 15 (dk_at dksX0_odds_0 16 rfl rfl)
theorem dX0_odds_19 : decode cX0_odds 19 = .ok (.iload_n 2, 1) := dk_28 (dk_at dksX0_odds_0 19 rfl rfl)
theorem dX0_odds_20 : decode cX0_odds 20 = .ok (.isub, 1) := dk_100 (dk_at dksX0_odds_0 20 rfl rfl)
theorem dX0_odds_21 : decode cX0_odds 21 = .ok (.iconst 1, 1) := dk_4 (dk_at dksX0_odds_0 21 rfl rfl)
theorem dX0_odds_22 : decode cX0_odds 22 = .ok (.iadd, 1) := dk_96 (dk_at dksX0_odds_0 22 rfl rfl)
theorem dX0_odds_23 : decode cX0_odds 23 = .ok (.i2l, 1) := dk_133 (dk_at dksX0_odds_0 23 rfl rfl)
theorem dX0_odds_24 : decode cX0_odds 24 = .ok (.invokestatic 195, 3) := dk_184 0 195 (dk_at dksX0_odds_1 0 rfl rfl)
theorem dX0_odds_27 : decode cX0_odds 27 = .ok (.ifCond .eq 15, 3) := dk_153 0 15 (dk_at dksX0_odds_1 3 rfl rfl)
theorem dX0_odds_30 : decode cX0_odds 30 = .ok (.iload_n 3, 1) := dk_29 (dk_at dksX0_odds_1 6 rfl rfl)
theorem dX0_odds_31 : decode cX0_odds 31 = .ok (.i2l, 1) := dk_133 (dk_at dksX0_odds_1 7 rfl rfl)
theorem dX0_odds_32 : decode cX0_odds 32 = .ok (.lconst 0, 1) := dk_9 (dk_at dksX0_odds_1 8 rfl rfl)
theorem dX0_odds_33 : decode cX0_odds 33 = .ok (.ldc2_w 477, 3) := dk_20 1 221 (dk_at dksX0_odds_1 9 rfl rfl)
theorem dX0_odds_36 : decode cX0_odds 36 = .ok (.invokestatic 195, 3) := dk_184 0 195 (dk_at dksX0_odds_1 12 rfl rfl)
theorem dX0_odds_39 : decode cX0_odds 39 = .ok (.ifCond .ne 7, 3) := dk_154 0 7 (dk_at dksX0_odds_1 15 rfl rfl)
theorem dX0_odds_42 : decode cX0_odds 42 = .ok (.iconst 1, 1) := dk_4 (dk_at dksX0_odds_1 18 rfl rfl)
theorem dX0_odds_43 : decode cX0_odds 43 = .ok (.goto 7, 3) := dk_167 0 7 (dk_at dksX0_odds_1 19 rfl rfl)
theorem dX0_odds_46 : decode cX0_odds 46 = .ok (.aload_n 0, 1) := dk_42 (dk_at dksX0_odds_1 22 rfl rfl)
theorem dX0_odds_47 : decode cX0_odds 47 = .ok (.invokevirtual 304, 3) := dk_182 1 48 (dk_at dksX0_odds_2 0 rfl rfl)
theorem dX0_odds_50 : decode cX0_odds 50 = .ok (.putfield 114, 3) := dk_181 0 114 (dk_at dksX0_odds_2 3 rfl rfl)
theorem dX0_odds_53 : decode cX0_odds 53 = .ok (.aload_n 0, 1) := dk_42 (dk_at dksX0_odds_2 6 rfl rfl)
theorem dX0_odds_54 : decode cX0_odds 54 = .ok (.getfield 114, 3) := dk_180 0 114 (dk_at dksX0_odds_2 7 rfl rfl)
theorem dX0_odds_57 : decode cX0_odds 57 = .ok (.ifCond .le 5, 3) := dk_158 0 5 (dk_at dksX0_odds_2 10 rfl rfl)
theorem dX0_odds_60 : decode cX0_odds 60 = .ok (.iconst 0, 1) := dk_3 (dk_at dksX0_odds_2 13 rfl rfl)
theorem dX0_odds_61 : decode cX0_odds 61 = .ok (.ireturn, 1) := dk_172 (dk_at dksX0_odds_2 14 rfl rfl)
theorem dX0_odds_62 : decode cX0_odds 62 = .ok (.iconst 0, 1) := dk_3 (dk_at dksX0_odds_2 15 rfl rfl)
theorem dX0_odds_63 : decode cX0_odds 63 = .ok (.istore 4, 2) := dk_54 4 (dk_at dksX0_odds_2 16 rfl rfl)
theorem dX0_odds_65 : decode cX0_odds 65 = .ok (.iconst 0, 1) := dk_3 (dk_at dksX0_odds_2 18 rfl rfl)
theorem dX0_odds_66 : decode cX0_odds 66 = .ok (.istore 5, 2) := dk_54 5 (dk_at dksX0_odds_2 19 rfl rfl)
theorem dX0_odds_68 : decode cX0_odds 68 = .ok (.iload 5, 2) := dk_21 5 (dk_at dksX0_odds_2 21 rfl rfl)
theorem dX0_odds_70 : decode cX0_odds 70 = .ok (.iload_n 2, 1) := dk_28 (dk_at dksX0_odds_2 23 rfl rfl)
theorem dX0_odds_71 : decode cX0_odds 71 = .ok (.if_icmp .ge 100, 3) := dk_162 0 100 (dk_at dksX0_odds_3 0 rfl rfl)
theorem dX0_odds_74 : decode cX0_odds 74 = .ok (.aload_n 0, 1) := dk_42 (dk_at dksX0_odds_3 3 rfl rfl)
theorem dX0_odds_75 : decode cX0_odds 75 = .ok (.iload_n 1, 1) := dk_27 (dk_at dksX0_odds_3 4 rfl rfl)
theorem dX0_odds_76 : decode cX0_odds 76 = .ok (.iload 5, 2) := dk_21 5 (dk_at dksX0_odds_3 5 rfl rfl)
theorem dX0_odds_78 : decode cX0_odds 78 = .ok (.iadd, 1) := dk_96 (dk_at dksX0_odds_3 7 rfl rfl)
theorem dX0_odds_79 : decode cX0_odds 79 = .ok (.iload_n 3, 1) := dk_29 (dk_at dksX0_odds_3 8 rfl rfl)
theorem dX0_odds_80 : decode cX0_odds 80 = .ok (.invokevirtual 479, 3) := dk_182 1 223 (dk_at dksX0_odds_3 9 rfl rfl)
theorem dX0_odds_83 : decode cX0_odds 83 = .ok (.pop, 1) := dk_87 (dk_at dksX0_odds_3 12 rfl rfl)
theorem dX0_odds_84 : decode cX0_odds 84 = .ok (.iconst 1, 1) := dk_4 (dk_at dksX0_odds_3 13 rfl rfl)
theorem dX0_odds_85 : decode cX0_odds 85 = .ok (.istore 6, 2) := dk_54 6 (dk_at dksX0_odds_3 14 rfl rfl)
theorem dX0_odds_87 : decode cX0_odds 87 = .ok (.iconst 0, 1) := dk_3 (dk_at dksX0_odds_3 16 rfl rfl)
theorem dX0_odds_88 : decode cX0_odds 88 = .ok (.istore 7, 2) := dk_54 7 (dk_at dksX0_odds_3 17 rfl rfl)
theorem dX0_odds_90 : decode cX0_odds 90 = .ok (.iload 7, 2) := dk_21 7 (dk_at dksX0_odds_3 19 rfl rfl)
theorem dX0_odds_92 : decode cX0_odds 92 = .ok (.aload_n 0, 1) := dk_42 (dk_at dksX0_odds_3 21 rfl rfl)
theorem dX0_odds_93 : decode cX0_odds 93 = .ok (.getfield 62, 3) := dk_180 0 62 (dk_at dksX0_odds_4 0 rfl rfl)
theorem dX0_odds_96 : decode cX0_odds 96 = .ok (.getfield 233, 3) := dk_180 0 233 (dk_at dksX0_odds_4 3 rfl rfl)
theorem dX0_odds_99 : decode cX0_odds 99 = .ok (.getfield 252, 3) := dk_180 0 252 (dk_at dksX0_odds_4 6 rfl rfl)
theorem dX0_odds_102 : decode cX0_odds 102 = .ok (.arraylength, 1) := dk_190 (dk_at dksX0_odds_4 9 rfl rfl)
theorem dX0_odds_103 : decode cX0_odds 103 = .ok (.if_icmp .ge 47, 3) := dk_162 0 47 (dk_at dksX0_odds_4 10 rfl rfl)
theorem dX0_odds_106 : decode cX0_odds 106 = .ok (.iload 6, 2) := dk_21 6 (dk_at dksX0_odds_4 13 rfl rfl)
theorem dX0_odds_108 : decode cX0_odds 108 = .ok (.ifCond .eq 33, 3) := dk_153 0 33 (dk_at dksX0_odds_4 15 rfl rfl)
theorem dX0_odds_111 : decode cX0_odds 111 = .ok (.aload_n 0, 1) := dk_42 (dk_at dksX0_odds_4 18 rfl rfl)
theorem dX0_odds_112 : decode cX0_odds 112 = .ok (.getfield 62, 3) := dk_180 0 62 (dk_at dksX0_odds_4 19 rfl rfl)
theorem dX0_odds_115 : decode cX0_odds 115 = .ok (.getfield 233, 3) := dk_180 0 233 (dk_at dksX0_odds_5 0 rfl rfl)
theorem dX0_odds_118 : decode cX0_odds 118 = .ok (.getfield 252, 3) := dk_180 0 252 (dk_at dksX0_odds_5 3 rfl rfl)
theorem dX0_odds_121 : decode cX0_odds 121 = .ok (.iload 7, 2) := dk_21 7 (dk_at dksX0_odds_5 6 rfl rfl)
theorem dX0_odds_123 : decode cX0_odds 123 = .ok (.iaload, 1) := dk_46 (dk_at dksX0_odds_5 8 rfl rfl)
theorem dX0_odds_124 : decode cX0_odds 124 = .ok (.ifCond .eq 13, 3) := dk_153 0 13 (dk_at dksX0_odds_5 9 rfl rfl)
theorem dX0_odds_127 : decode cX0_odds 127 = .ok (.aload_n 0, 1) := dk_42 (dk_at dksX0_odds_5 12 rfl rfl)
theorem dX0_odds_128 : decode cX0_odds 128 = .ok (.getfield 108, 3) := dk_180 0 108 (dk_at dksX0_odds_5 13 rfl rfl)
theorem dX0_odds_131 : decode cX0_odds 131 = .ok (.iload 7, 2) := dk_21 7 (dk_at dksX0_odds_5 16 rfl rfl)
theorem dX0_odds_133 : decode cX0_odds 133 = .ok (.iaload, 1) := dk_46 (dk_at dksX0_odds_5 18 rfl rfl)
theorem dX0_odds_134 : decode cX0_odds 134 = .ok (.ifCond .le 7, 3) := dk_158 0 7 (dk_at dksX0_odds_5 19 rfl rfl)
theorem dX0_odds_137 : decode cX0_odds 137 = .ok (.iconst 1, 1) := dk_4 (dk_at dksX0_odds_5 22 rfl rfl)
theorem dX0_odds_138 : decode cX0_odds 138 = .ok (.goto 4, 3) := dk_167 0 4 (dk_at dksX0_odds_6 0 rfl rfl)
theorem dX0_odds_141 : decode cX0_odds 141 = .ok (.iconst 0, 1) := dk_3 (dk_at dksX0_odds_6 3 rfl rfl)
theorem dX0_odds_142 : decode cX0_odds 142 = .ok (.istore 6, 2) := dk_54 6 (dk_at dksX0_odds_6 4 rfl rfl)
theorem dX0_odds_144 : decode cX0_odds 144 = .ok (.iinc 7 1, 3) := dk_132 7 1 (dk_at dksX0_odds_6 6 rfl rfl)
theorem dX0_odds_147 : decode cX0_odds 147 = .ok (.goto (-57), 3) := dk_167 255 199 (dk_at dksX0_odds_6 9 rfl rfl)
theorem dX0_odds_150 : decode cX0_odds 150 = .ok (.iload 4, 2) := dk_21 4 (dk_at dksX0_odds_6 12 rfl rfl)
theorem dX0_odds_152 : decode cX0_odds 152 = .ok (.iload 6, 2) := dk_21 6 (dk_at dksX0_odds_6 14 rfl rfl)
theorem dX0_odds_154 : decode cX0_odds 154 = .ok (.ifCond .eq 7, 3) := dk_153 0 7 (dk_at dksX0_odds_6 16 rfl rfl)
theorem dX0_odds_157 : decode cX0_odds 157 = .ok (.iconst 1, 1) := dk_4 (dk_at dksX0_odds_6 19 rfl rfl)
theorem dX0_odds_158 : decode cX0_odds 158 = .ok (.goto 4, 3) := dk_167 0 4 (dk_at dksX0_odds_6 20 rfl rfl)
theorem dX0_odds_161 : decode cX0_odds 161 = .ok (.iconst 0, 1) := dk_3 (dk_at dksX0_odds_6 23 rfl rfl)
theorem dX0_odds_162 : decode cX0_odds 162 = .ok (.iadd, 1) := dk_96 (dk_at dksX0_odds_7 0 rfl rfl)
theorem dX0_odds_163 : decode cX0_odds 163 = .ok (.istore 4, 2) := dk_54 4 (dk_at dksX0_odds_7 1 rfl rfl)
theorem dX0_odds_165 : decode cX0_odds 165 = .ok (.iinc 5 1, 3) := dk_132 5 1 (dk_at dksX0_odds_7 3 rfl rfl)
theorem dX0_odds_168 : decode cX0_odds 168 = .ok (.goto (-100), 3) := dk_167 255 156 (dk_at dksX0_odds_7 6 rfl rfl)
theorem dX0_odds_171 : decode cX0_odds 171 = .ok (.aload_n 0, 1) := dk_42 (dk_at dksX0_odds_7 9 rfl rfl)
theorem dX0_odds_172 : decode cX0_odds 172 = .ok (.iload 4, 2) := dk_21 4 (dk_at dksX0_odds_7 10 rfl rfl)
theorem dX0_odds_174 : decode cX0_odds 174 = .ok (.i2l, 1) := dk_133 (dk_at dksX0_odds_7 12 rfl rfl)
theorem dX0_odds_175 : decode cX0_odds 175 = .ok (.iload_n 2, 1) := dk_28 (dk_at dksX0_odds_7 13 rfl rfl)
theorem dX0_odds_176 : decode cX0_odds 176 = .ok (.i2l, 1) := dk_133 (dk_at dksX0_odds_7 14 rfl rfl)
theorem dX0_odds_177 : decode cX0_odds 177 = .ok (.invokevirtual 485, 3) := dk_182 1 229 (dk_at dksX0_odds_7 15 rfl rfl)
theorem dX0_odds_180 : decode cX0_odds 180 = .ok (.pop, 1) := dk_87 (dk_at dksX0_odds_7 18 rfl rfl)
theorem dX0_odds_181 : decode cX0_odds 181 = .ok (.iconst 1, 1) := dk_4 (dk_at dksX0_odds_7 19 rfl rfl)
theorem dX0_odds_182 : decode cX0_odds 182 = .ok (.ireturn, 1) := dk_172 (dk_at dksX0_odds_7 20 rfl rfl)
abbrev cX0_fraction : ByteArray := prog_1_method_19_code
def yX0_fraction : MethodName := ⟨RX0, "fraction", "(JJ)I"⟩
def dkwX0_fraction_2 : List UInt8 := [181, 0, 55, 31, 184, 0, 133, 172]
abbrev dktX0_fraction_2 : List UInt8 := dkwX0_fraction_2 ++ []
def dkwX0_fraction_1 : List UInt8 := [22, 7, 55, 5, 22, 9, 55, 7, 167, 255, 234, 42, 31, 22, 5, 109, 181, 0, 117, 42, 33, 22, 5, 109]
abbrev dktX0_fraction_1 : List UInt8 := dkwX0_fraction_1 ++ dktX0_fraction_2
def dkwX0_fraction_0 : List UInt8 := [31, 184, 0, 127, 55, 5, 33, 55, 7, 22, 7, 9, 148, 153, 0, 21, 22, 5, 22, 7, 113, 55, 9]
abbrev dktX0_fraction_0 : List UInt8 := dkwX0_fraction_0 ++ dktX0_fraction_1
theorem dksX0_fraction_0 : cX0_fraction.data.toList.drop 0 = dktX0_fraction_0 := by decide +kernel
theorem dksX0_fraction_1 : cX0_fraction.data.toList.drop 23 = dktX0_fraction_1 := dk_seg dksX0_fraction_0 23 rfl rfl
theorem dksX0_fraction_2 : cX0_fraction.data.toList.drop 47 = dktX0_fraction_2 := dk_seg dksX0_fraction_1 24 rfl rfl
theorem dX0_fraction_0 : decode cX0_fraction 0 = .ok (.lload_n 1, 1) := dk_31 (dk_at dksX0_fraction_0 0 rfl rfl)
theorem dX0_fraction_1 : decode cX0_fraction 1 = .ok (.invokestatic 127, 3) := dk_184 0 127 (dk_at dksX0_fraction_0 1 rfl rfl)
theorem dX0_fraction_4 : decode cX0_fraction 4 = .ok (.lstore 5, 2) := dk_55 5 (dk_at dksX0_fraction_0 4 rfl rfl)
theorem dX0_fraction_6 : decode cX0_fraction 6 = .ok (.lload_n 3, 1) := dk_33 (dk_at dksX0_fraction_0 6 rfl rfl)
theorem dX0_fraction_7 : decode cX0_fraction 7 = .ok (.lstore 7, 2) := dk_55 7 (dk_at dksX0_fraction_0 7 rfl rfl)
theorem dX0_fraction_9 : decode cX0_fraction 9 = .ok (.lload 7, 2) := dk_22 7 (dk_at dksX0_fraction_0 9 rfl rfl)
theorem dX0_fraction_11 : decode cX0_fraction 11 = .ok (.lconst 0, 1) := dk_9 (dk_at dksX0_fraction_0 11 rfl rfl)
theorem dX0_fraction_12 : decode cX0_fraction 12 = .ok (.lcmp, 1) := dk_148 (dk_at dksX0_fraction_0 12 rfl rfl)
theorem dX0_fraction_13 : decode cX0_fraction 13 = .ok (.ifCond .eq 21, 3) := dk_153 0 21 (dk_at dksX0_fraction_0 13 rfl rfl)
theorem dX0_fraction_16 : decode cX0_fraction 16 = .ok (.lload 5, 2) := dk_22 5 (dk_at dksX0_fraction_0 16 rfl rfl)
theorem dX0_fraction_18 : decode cX0_fraction 18 = .ok (.lload 7, 2) := dk_22 7 (dk_at dksX0_fraction_0 18 rfl rfl)
theorem dX0_fraction_20 : decode cX0_fraction 20 = .ok (.lrem, 1) := dk_113 (dk_at dksX0_fraction_0 20 rfl rfl)
theorem dX0_fraction_21 : decode cX0_fraction 21 = .ok (.lstore 9, 2) := dk_55 9 (dk_at dksX0_fraction_0 21 rfl rfl)
theorem dX0_fraction_23 : decode cX0_fraction 23 = .ok (.lload 7, 2) := dk_22 7 (dk_at dksX0_fraction_1 0 rfl rfl)
theorem dX0_fraction_25 : decode cX0_fraction 25 = .ok (.lstore 5, 2) := dk_55 5 (dk_at dksX0_fraction_1 2 rfl rfl)
theorem dX0_fraction_27 : decode cX0_fraction 27 = .ok (.lload 9, 2) := dk_22 9 (dk_at dksX0_fraction_1 4 rfl rfl)
theorem dX0_fraction_29 : decode cX0_fraction 29 = .ok (.lstore 7, 2) := dk_55 7 (dk_at dksX0_fraction_1 6 rfl rfl)
theorem dX0_fraction_31 : decode cX0_fraction 31 = .ok (.goto (-22), 3) := dk_167 255 234 (dk_at dksX0_fraction_1 8 rfl rfl)
theorem dX0_fraction_34 : decode cX0_fraction 34 = .ok (.aload_n 0, 1) := dk_42 (dk_at dksX0_fraction_1 11 rfl rfl)
theorem dX0_fraction_35 : decode cX0_fraction 35 = .ok (.lload_n 1, 1) := dk_31 (dk_at dksX0_fraction_1 12 rfl rfl)
theorem dX0_fraction_36 : decode cX0_fraction 36 = .ok (.lload 5, 2) := dk_22 5 (dk_at dksX0_fraction_1 13 rfl rfl)
theorem dX0_fraction_38 : decode cX0_fraction 38 = .ok (.ldiv, 1) := dk_109 (dk_at dksX0_fraction_1 15 rfl rfl)
theorem dX0_fraction_39 : decode cX0_fraction 39 = .ok (.putfield 117, 3) := dk_181 0 117 (dk_at dksX0_fraction_1 16 rfl rfl)
theorem dX0_fraction_42 : decode cX0_fraction 42 = .ok (.aload_n 0, 1) := dk_42 (dk_at dksX0_fraction_1 19 rfl rfl)
theorem dX0_fraction_43 : decode cX0_fraction 43 = .ok (.lload_n 3, 1) := dk_33 (dk_at dksX0_fraction_1 20 rfl rfl)
theorem dX0_fraction_44 : decode cX0_fraction 44 = .ok (.lload 5, 2) := dk_22 5 (dk_at dksX0_fraction_1 21 rfl rfl)
theorem dX0_fraction_46 : decode cX0_fraction 46 = .ok (.ldiv, 1) := dk_109 (dk_at dksX0_fraction_1 23 rfl rfl)
theorem dX0_fraction_47 : decode cX0_fraction 47 = .ok (.putfield 55, 3) := dk_181 0 55 (dk_at dksX0_fraction_2 0 rfl rfl)
theorem dX0_fraction_50 : decode cX0_fraction 50 = .ok (.lload_n 1, 1) := dk_31 (dk_at dksX0_fraction_2 3 rfl rfl)
theorem dX0_fraction_51 : decode cX0_fraction 51 = .ok (.invokestatic 133, 3) := dk_184 0 133 (dk_at dksX0_fraction_2 4 rfl rfl)
theorem dX0_fraction_54 : decode cX0_fraction 54 = .ok (.ireturn, 1) := dk_172 (dk_at dksX0_fraction_2 7 rfl rfl)
abbrev cX0_mark : ByteArray := prog_1_method_113_code
def yX0_mark : MethodName := ⟨RX0, "mark", "()I"⟩
def dkwX0_mark_3 : List UInt8 := [42, 89, 180, 1, 233, 4, 96, 181, 1, 233, 42, 180, 1, 233, 172]
abbrev dktX0_mark_3 : List UInt8 := dkwX0_mark_3 ++ []
def dkwX0_mark_2 : List UInt8 := [187, 0, 59, 89, 183, 0, 61, 83, 42, 180, 0, 66, 42, 180, 1, 233, 50, 42, 180, 0, 62, 182, 1, 236]
abbrev dktX0_mark_2 : List UInt8 := dkwX0_mark_2 ++ dktX0_mark_3
def dkwX0_mark_1 : List UInt8 := [2, 172, 42, 180, 0, 66, 42, 180, 1, 233, 50, 199, 0, 19, 42, 180, 0, 66, 42, 180, 1, 233]
abbrev dktX0_mark_1 : List UInt8 := dkwX0_mark_1 ++ dktX0_mark_2
def dkwX0_mark_0 : List UInt8 := [42, 42, 180, 1, 233, 6, 160, 0, 7, 7, 167, 0, 4, 3, 181, 0, 114, 42, 180, 0, 114, 158, 0, 5]
abbrev dktX0_mark_0 : List UInt8 := dkwX0_mark_0 ++ dktX0_mark_1
theorem dksX0_mark_0 : cX0_mark.data.toList.drop 0 = dktX0_mark_0 := by decide +kernel
theorem dksX0_mark_1 : cX0_mark.data.toList.drop 24 = dktX0_mark_1 := dk_seg dksX0_mark_0 24 rfl rfl
theorem dksX0_mark_2 : cX0_mark.data.toList.drop 46 = dktX0_mark_2 := dk_seg dksX0_mark_1 22 rfl rfl
theorem dksX0_mark_3 : cX0_mark.data.toList.drop 70 = dktX0_mark_3 := dk_seg dksX0_mark_2 24 rfl rfl
theorem dX0_mark_0 : decode cX0_mark 0 = .ok (.aload_n 0, 1) := dk_42 (dk_at dksX0_mark_0 0 rfl rfl)
theorem dX0_mark_1 : decode cX0_mark 1 = .ok (.aload_n 0, 1) := dk_42 (dk_at dksX0_mark_0 1 rfl rfl)
theorem dX0_mark_2 : decode cX0_mark 2 = .ok (.getfield 489, 3) := dk_180 1 233 (dk_at dksX0_mark_0 2 rfl rfl)
theorem dX0_mark_5 : decode cX0_mark 5 = .ok (.iconst 3, 1) := dk_6 (dk_at dksX0_mark_0 5 rfl rfl)
theorem dX0_mark_6 : decode cX0_mark 6 = .ok (.if_icmp .ne 7, 3) := dk_160 0 7 (dk_at dksX0_mark_0 6 rfl rfl)
theorem dX0_mark_9 : decode cX0_mark 9 = .ok (.iconst 4, 1) := dk_7 (dk_at dksX0_mark_0 9 rfl rfl)
theorem dX0_mark_10 : decode cX0_mark 10 = .ok (.goto 4, 3) := dk_167 0 4 (dk_at dksX0_mark_0 10 rfl rfl)
theorem dX0_mark_13 : decode cX0_mark 13 = .ok (.iconst 0, 1) := dk_3 (dk_at dksX0_mark_0 13 rfl rfl)
theorem dX0_mark_14 : decode cX0_mark 14 = .ok (.putfield 114, 3) := dk_181 0 114 (dk_at dksX0_mark_0 14 rfl rfl)
theorem dX0_mark_17 : decode cX0_mark 17 = .ok (.aload_n 0, 1) := dk_42 (dk_at dksX0_mark_0 17 rfl rfl)
theorem dX0_mark_18 : decode cX0_mark 18 = .ok (.getfield 114, 3) := dk_180 0 114 (dk_at dksX0_mark_0 18 rfl rfl)
theorem dX0_mark_21 : decode cX0_mark 21 = .ok (.ifCond .le 5, 3) := dk_158 0 5 (dk_at dksX0_mark_0 21 rfl rfl)
theorem dX0_mark_24 : decode cX0_mark 24 = .ok (.iconst (-1), 1) := dk_2 (dk_at dksX0_mark_1 0 rfl rfl)
theorem dX0_mark_25 : decode cX0_mark 25 = .ok (.ireturn, 1) := dk_172 (dk_at dksX0_mark_1 1 rfl rfl)
theorem dX0_mark_26 : decode cX0_mark 26 = .ok (.aload_n 0, 1) := dk_42 (dk_at dksX0_mark_1 2 rfl rfl)
theorem dX0_mark_27 : decode cX0_mark 27 = .ok (.getfield 66, 3) := dk_180 0 66 (dk_at dksX0_mark_1 3 rfl rfl)
theorem dX0_mark_30 : decode cX0_mark 30 = .ok (.aload_n 0, 1) := dk_42 (dk_at dksX0_mark_1 6 rfl rfl)
theorem dX0_mark_31 : decode cX0_mark 31 = .ok (.getfield 489, 3) := dk_180 1 233 (dk_at dksX0_mark_1 7 rfl rfl)
theorem dX0_mark_34 : decode cX0_mark 34 = .ok (.aaload, 1) := dk_50 (dk_at dksX0_mark_1 10 rfl rfl)
theorem dX0_mark_35 : decode cX0_mark 35 = .ok (.ifnonnull 19, 3) := dk_199 0 19 (dk_at dksX0_mark_1 11 rfl rfl)
theorem dX0_mark_38 : decode cX0_mark 38 = .ok (.aload_n 0, 1) := dk_42 (dk_at dksX0_mark_1 14 rfl rfl)
theorem dX0_mark_39 : decode cX0_mark 39 = .ok (.getfield 66, 3) := dk_180 0 66 (dk_at dksX0_mark_1 15 rfl rfl)
theorem dX0_mark_42 : decode cX0_mark 42 = .ok (.aload_n 0, 1) := dk_42 (dk_at dksX0_mark_1 18 rfl rfl)
theorem dX0_mark_43 : decode cX0_mark 43 = .ok (.getfield 489, 3) := dk_180 1 233 (dk_at dksX0_mark_1 19 rfl rfl)
theorem dX0_mark_46 : decode cX0_mark 46 = .ok (.new 59, 3) := dk_187 0 59 (dk_at dksX0_mark_2 0 rfl rfl)
theorem dX0_mark_49 : decode cX0_mark 49 = .ok (.dup, 1) := dk_89 (dk_at dksX0_mark_2 3 rfl rfl)
theorem dX0_mark_50 : decode cX0_mark 50 = .ok (.invokespecial 61, 3) := dk_183 0 61 (dk_at dksX0_mark_2 4 rfl rfl)
theorem dX0_mark_53 : decode cX0_mark 53 = .ok (.aastore, 1) := dk_83 (dk_at dksX0_mark_2 7 rfl rfl)
theorem dX0_mark_54 : decode cX0_mark 54 = .ok (.aload_n 0, 1) := dk_42 (dk_at dksX0_mark_2 8 rfl rfl)
theorem dX0_mark_55 : decode cX0_mark 55 = .ok (.getfield 66, 3) := dk_180 0 66 (dk_at dksX0_mark_2 9 rfl rfl)
theorem dX0_mark_58 : decode cX0_mark 58 = .ok (.aload_n 0, 1) := dk_42 (dk_at dksX0_mark_2 12 rfl rfl)
theorem dX0_mark_59 : decode cX0_mark 59 = .ok (.getfield 489, 3) := dk_180 1 233 (dk_at dksX0_mark_2 13 rfl rfl)
theorem dX0_mark_62 : decode cX0_mark 62 = .ok (.aaload, 1) := dk_50 (dk_at dksX0_mark_2 16 rfl rfl)
theorem dX0_mark_63 : decode cX0_mark 63 = .ok (.aload_n 0, 1) := dk_42 (dk_at dksX0_mark_2 17 rfl rfl)
theorem dX0_mark_64 : decode cX0_mark 64 = .ok (.getfield 62, 3) := dk_180 0 62 (dk_at dksX0_mark_2 18 rfl rfl)
theorem dX0_mark_67 : decode cX0_mark 67 = .ok (.invokevirtual 492, 3) := dk_182 1 236 (dk_at dksX0_mark_2 21 rfl rfl)
theorem dX0_mark_70 : decode cX0_mark 70 = .ok (.aload_n 0, 1) := dk_42 (dk_at dksX0_mark_3 0 rfl rfl)
theorem dX0_mark_71 : decode cX0_mark 71 = .ok (.dup, 1) := dk_89 (dk_at dksX0_mark_3 1 rfl rfl)
theorem dX0_mark_72 : decode cX0_mark 72 = .ok (.getfield 489, 3) := dk_180 1 233 (dk_at dksX0_mark_3 2 rfl rfl)
theorem dX0_mark_75 : decode cX0_mark 75 = .ok (.iconst 1, 1) := dk_4 (dk_at dksX0_mark_3 5 rfl rfl)
theorem dX0_mark_76 : decode cX0_mark 76 = .ok (.iadd, 1) := dk_96 (dk_at dksX0_mark_3 6 rfl rfl)
theorem dX0_mark_77 : decode cX0_mark 77 = .ok (.putfield 489, 3) := dk_181 1 233 (dk_at dksX0_mark_3 7 rfl rfl)
theorem dX0_mark_80 : decode cX0_mark 80 = .ok (.aload_n 0, 1) := dk_42 (dk_at dksX0_mark_3 10 rfl rfl)
theorem dX0_mark_81 : decode cX0_mark 81 = .ok (.getfield 489, 3) := dk_180 1 233 (dk_at dksX0_mark_3 11 rfl rfl)
theorem dX0_mark_84 : decode cX0_mark 84 = .ok (.ireturn, 1) := dk_172 (dk_at dksX0_mark_3 14 rfl rfl)
abbrev cX0_back : ByteArray := prog_1_method_114_code
def yX0_back : MethodName := ⟨RX0, "back", "()I"⟩
def dkwX0_back_2 : List UInt8 := [50, 182, 1, 236, 42, 180, 1, 233, 172]
abbrev dktX0_back_2 : List UInt8 := dkwX0_back_2 ++ []
def dkwX0_back_1 : List UInt8 := [2, 172, 42, 89, 180, 1, 233, 4, 100, 181, 1, 233, 42, 180, 0, 62, 42, 180, 0, 66, 42, 180, 1, 233]
abbrev dktX0_back_1 : List UInt8 := dkwX0_back_1 ++ dktX0_back_2
def dkwX0_back_0 : List UInt8 := [42, 42, 180, 1, 233, 154, 0, 8, 16, 6, 167, 0, 4, 3, 181, 0, 114, 42, 180, 0, 114, 158, 0, 5]
abbrev dktX0_back_0 : List UInt8 := dkwX0_back_0 ++ dktX0_back_1
theorem dksX0_back_0 : cX0_back.data.toList.drop 0 = dktX0_back_0 := by decide +kernel
theorem dksX0_back_1 : cX0_back.data.toList.drop 24 = dktX0_back_1 := dk_seg dksX0_back_0 24 rfl rfl
theorem dksX0_back_2 : cX0_back.data.toList.drop 48 = dktX0_back_2 := dk_seg dksX0_back_1 24 rfl rfl
theorem dX0_back_0 : decode cX0_back 0 = .ok (.aload_n 0, 1) := dk_42 (dk_at dksX0_back_0 0 rfl rfl)
theorem dX0_back_1 : decode cX0_back 1 = .ok (.aload_n 0, 1) := dk_42 (dk_at dksX0_back_0 1 rfl rfl)
theorem dX0_back_2 : decode cX0_back 2 = .ok (.getfield 489, 3) := dk_180 1 233 (dk_at dksX0_back_0 2 rfl rfl)
theorem dX0_back_5 : decode cX0_back 5 = .ok (.ifCond .ne 8, 3) := dk_154 0 8 (dk_at dksX0_back_0 5 rfl rfl)
theorem dX0_back_8 : decode cX0_back 8 = .ok (.bipush 6, 2) := dk_16 6 (dk_at dksX0_back_0 8 rfl rfl)
theorem dX0_back_10 : decode cX0_back 10 = .ok (.goto 4, 3) := dk_167 0 4 (dk_at dksX0_back_0 10 rfl rfl)
theorem dX0_back_13 : decode cX0_back 13 = .ok (.iconst 0, 1) := dk_3 (dk_at dksX0_back_0 13 rfl rfl)
theorem dX0_back_14 : decode cX0_back 14 = .ok (.putfield 114, 3) := dk_181 0 114 (dk_at dksX0_back_0 14 rfl rfl)
theorem dX0_back_17 : decode cX0_back 17 = .ok (.aload_n 0, 1) := dk_42 (dk_at dksX0_back_0 17 rfl rfl)
theorem dX0_back_18 : decode cX0_back 18 = .ok (.getfield 114, 3) := dk_180 0 114 (dk_at dksX0_back_0 18 rfl rfl)
theorem dX0_back_21 : decode cX0_back 21 = .ok (.ifCond .le 5, 3) := dk_158 0 5 (dk_at dksX0_back_0 21 rfl rfl)
theorem dX0_back_24 : decode cX0_back 24 = .ok (.iconst (-1), 1) := dk_2 (dk_at dksX0_back_1 0 rfl rfl)
theorem dX0_back_25 : decode cX0_back 25 = .ok (.ireturn, 1) := dk_172 (dk_at dksX0_back_1 1 rfl rfl)
theorem dX0_back_26 : decode cX0_back 26 = .ok (.aload_n 0, 1) := dk_42 (dk_at dksX0_back_1 2 rfl rfl)
theorem dX0_back_27 : decode cX0_back 27 = .ok (.dup, 1) := dk_89 (dk_at dksX0_back_1 3 rfl rfl)
theorem dX0_back_28 : decode cX0_back 28 = .ok (.getfield 489, 3) := dk_180 1 233 (dk_at dksX0_back_1 4 rfl rfl)
theorem dX0_back_31 : decode cX0_back 31 = .ok (.iconst 1, 1) := dk_4 (dk_at dksX0_back_1 7 rfl rfl)
theorem dX0_back_32 : decode cX0_back 32 = .ok (.isub, 1) := dk_100 (dk_at dksX0_back_1 8 rfl rfl)
theorem dX0_back_33 : decode cX0_back 33 = .ok (.putfield 489, 3) := dk_181 1 233 (dk_at dksX0_back_1 9 rfl rfl)
theorem dX0_back_36 : decode cX0_back 36 = .ok (.aload_n 0, 1) := dk_42 (dk_at dksX0_back_1 12 rfl rfl)
theorem dX0_back_37 : decode cX0_back 37 = .ok (.getfield 62, 3) := dk_180 0 62 (dk_at dksX0_back_1 13 rfl rfl)
theorem dX0_back_40 : decode cX0_back 40 = .ok (.aload_n 0, 1) := dk_42 (dk_at dksX0_back_1 16 rfl rfl)
theorem dX0_back_41 : decode cX0_back 41 = .ok (.getfield 66, 3) := dk_180 0 66 (dk_at dksX0_back_1 17 rfl rfl)
theorem dX0_back_44 : decode cX0_back 44 = .ok (.aload_n 0, 1) := dk_42 (dk_at dksX0_back_1 20 rfl rfl)
theorem dX0_back_45 : decode cX0_back 45 = .ok (.getfield 489, 3) := dk_180 1 233 (dk_at dksX0_back_1 21 rfl rfl)
theorem dX0_back_48 : decode cX0_back 48 = .ok (.aaload, 1) := dk_50 (dk_at dksX0_back_2 0 rfl rfl)
theorem dX0_back_49 : decode cX0_back 49 = .ok (.invokevirtual 492, 3) := dk_182 1 236 (dk_at dksX0_back_2 1 rfl rfl)
theorem dX0_back_52 : decode cX0_back 52 = .ok (.aload_n 0, 1) := dk_42 (dk_at dksX0_back_2 4 rfl rfl)
theorem dX0_back_53 : decode cX0_back 53 = .ok (.getfield 489, 3) := dk_180 1 233 (dk_at dksX0_back_2 5 rfl rfl)
theorem dX0_back_56 : decode cX0_back 56 = .ok (.ireturn, 1) := dk_172 (dk_at dksX0_back_2 8 rfl rfl)
theorem q120 : (Jvm.Cond.initialized "RaisedPress") ∈ lw_all := lw_g (lw_at lw_m1 1 rfl) rfl
theorem q151 : (Jvm.Cond.instantiable "RaisedPress" (27 : Nat)) ∈ lw_all := lw_g (lw_at lw_m1 32 rfl) rfl
theorem q153 : (Jvm.Cond.instanceMethod ({ cls := "RaisedPress", name := "<init>", desc := "()V" } : Jvm.MethodName)) ∈ lw_all := lw_g (lw_at lw_m1 34 rfl) rfl
theorem q154 : (Jvm.Cond.code ({ cls := "RaisedPress", name := "<init>", desc := "()V" } : Jvm.MethodName) prog_1_method_12_code (1 : Nat) (Option.none : Option Jvm.ClassFile.FieldType)) ∈ lw_all := lw_g (lw_at lw_m1 35 rfl) rfl
theorem q155 : (Jvm.Cond.methodLink "RaisedPress" (18 : Nat) ({ cls := "java/lang/Object", name := "<init>", desc := "()V" } : Jvm.MethodName)) ∈ lw_all := lw_g (lw_at lw_m1 36 rfl) rfl
theorem q158 : (Jvm.Cond.classLink "RaisedPress" (24 : Nat) "RaisedPress$Tray") ∈ lw_all := lw_g (lw_at lw_m1 39 rfl) rfl
theorem q161 : (Jvm.Cond.methodLinkNest "RaisedPress" (26 : Nat) ({ cls := "RaisedPress$Tray", name := "<init>", desc := "()V" } : Jvm.MethodName) "RaisedPress") ∈ lw_tbl := lw_at lw_m1 42 rfl
theorem q165 : (Jvm.Cond.fieldLinkNest "RaisedPress" (143 : Nat) "RaisedPress$Tray" "row" "Ljava/lang/Object;" "RaisedPress") ∈ lw_tbl := lw_at lw_m1 46 rfl
theorem q169 : (Jvm.Cond.classLink "RaisedPress" (31 : Nat) "RaisedPress$Bad") ∈ lw_all := lw_g (lw_at lw_m1 50 rfl) rfl
theorem q209 : (Jvm.Cond.methodLink "RaisedPress" (33 : Nat) ({ cls := "RaisedPress$Bad", name := "<init>", desc := "()V" } : Jvm.MethodName)) ∈ lw_all := lw_g (lw_at lw_m1 90 rfl) rfl
theorem q219 : (Jvm.Cond.fieldLinkNest "RaisedPress" (214 : Nat) "RaisedPress$Bad" "kind" "I" "RaisedPress") ∈ lw_tbl := lw_at lw_m1 100 rfl
theorem q221 : (Jvm.Cond.fieldLinkNest "RaisedPress" (217 : Nat) "RaisedPress$Bad" "place" "I" "RaisedPress") ∈ lw_tbl := lw_at lw_m1 102 rfl
theorem q239 : (Jvm.Cond.classLink "RaisedPress" (48 : Nat) "RaisedPress$Refused") ∈ lw_all := lw_g (lw_at lw_m1 120 rfl) rfl
theorem q248 : (Jvm.Cond.methodLink "RaisedPress" (50 : Nat) ({ cls := "RaisedPress$Refused", name := "<init>", desc := "()V" } : Jvm.MethodName)) ∈ lw_all := lw_g (lw_at lw_m1 129 rfl) rfl
theorem q253 : (Jvm.Cond.fieldLinkNest "RaisedPress" (124 : Nat) "RaisedPress$Refused" "why" "I" "RaisedPress") ∈ lw_tbl := lw_at lw_m1 134 rfl
theorem q259 : (Jvm.Cond.classLink "RaisedPress" (59 : Nat) "RaisedPress$House") ∈ lw_all := lw_g (lw_at lw_m1 140 rfl) rfl
theorem q261 : (Jvm.Cond.methodLinkNest "RaisedPress" (61 : Nat) ({ cls := "RaisedPress$House", name := "<init>", desc := "()V" } : Jvm.MethodName) "RaisedPress") ∈ lw_tbl := lw_at lw_m1 142 rfl
theorem q276 : (Jvm.Cond.fieldLinkNest "RaisedPress" (202 : Nat) "RaisedPress$Table" "rules" "[LRaisedPress$Rule;" "RaisedPress") ∈ lw_tbl := lw_at lw_m1 157 rfl
theorem q279 : (Jvm.Cond.fieldLinkNest "RaisedPress" (190 : Nat) "RaisedPress$Table" "size" "I" "RaisedPress") ∈ lw_tbl := lw_at lw_m1 160 rfl
theorem q283 : (Jvm.Cond.fieldLinkNest "RaisedPress" (259 : Nat) "RaisedPress$Table" "capital" "I" "RaisedPress") ∈ lw_tbl := lw_at lw_m1 164 rfl
theorem q287 : (Jvm.Cond.fieldLinkNest "RaisedPress" (266 : Nat) "RaisedPress$Table" "number" "I" "RaisedPress") ∈ lw_tbl := lw_at lw_m1 168 rfl
theorem q291 : (Jvm.Cond.fieldLinkNest "RaisedPress" (268 : Nat) "RaisedPress$Table" "hyphen" "I" "RaisedPress") ∈ lw_tbl := lw_at lw_m1 172 rfl
theorem q295 : (Jvm.Cond.fieldLinkNest "RaisedPress" (271 : Nat) "RaisedPress$Table" "line" "I" "RaisedPress") ∈ lw_tbl := lw_at lw_m1 176 rfl
theorem q298 : (Jvm.Cond.fieldLinkNest "RaisedPress" (274 : Nat) "RaisedPress$Table" "page" "I" "RaisedPress") ∈ lw_tbl := lw_at lw_m1 179 rfl
theorem q315 : (Jvm.Cond.fieldLinkNest "RaisedPress" (72 : Nat) "RaisedPress$House" "table" "LRaisedPress$Table;" "RaisedPress") ∈ lw_tbl := lw_at lw_m1 196 rfl
theorem q317 : (Jvm.Cond.fieldLinkNest "RaisedPress" (199 : Nat) "RaisedPress$House" "dropped" "I" "RaisedPress") ∈ lw_tbl := lw_at lw_m1 198 rfl
theorem q319 : (Jvm.Cond.fieldLinkNest "RaisedPress" (233 : Nat) "RaisedPress$House" "writing" "LRaisedPress$Writing;" "RaisedPress") ∈ lw_tbl := lw_at lw_m1 200 rfl
theorem q328 : (Jvm.Cond.classLink "RaisedPress" (70 : Nat) "RaisedPress$Setter") ∈ lw_all := lw_g (lw_at lw_m1 209 rfl) rfl
theorem q330 : (Jvm.Cond.methodLink "RaisedPress" (76 : Nat) ({ cls := "RaisedPress$Setter", name := "<init>", desc := "(LRaisedPress;LRaisedPress$Table;)V" } : Jvm.MethodName)) ∈ lw_all := lw_g (lw_at lw_m1 211 rfl) rfl
theorem q335 : (Jvm.Cond.fieldLinkNest "RaisedPress" (206 : Nat) "RaisedPress$Setter" "table" "LRaisedPress$Table;" "RaisedPress") ∈ lw_tbl := lw_at lw_m1 216 rfl
theorem q337 : (Jvm.Cond.fieldLinkNest "RaisedPress" (353 : Nat) "RaisedPress$Setter" "dropped" "I" "RaisedPress") ∈ lw_tbl := lw_at lw_m1 218 rfl
theorem q339 : (Jvm.Cond.fieldLinkNest "RaisedPress" (351 : Nat) "RaisedPress$Setter" "bytes" "[B" "RaisedPress") ∈ lw_tbl := lw_at lw_m1 220 rfl
theorem q341 : (Jvm.Cond.fieldLinkNest "RaisedPress" (352 : Nat) "RaisedPress$Setter" "size" "I" "RaisedPress") ∈ lw_tbl := lw_at lw_m1 222 rfl
theorem q343 : (Jvm.Cond.fieldLinkNest "RaisedPress" (302 : Nat) "RaisedPress$Setter" "cells" "I" "RaisedPress") ∈ lw_tbl := lw_at lw_m1 224 rfl
theorem q348 : (Jvm.Cond.fieldLinkNest "RaisedPress" (446 : Nat) "RaisedPress$Setter" "cell" "[I" "RaisedPress") ∈ lw_tbl := lw_at lw_m1 229 rfl
theorem q408 : (Jvm.Cond.fieldLink "RaisedPress" (27 : Nat) "RaisedPress" "trays" "[LRaisedPress$Tray;") ∈ lw_all := lw_g (lw_at lw_m2 49 rfl) rfl
theorem q411 : (Jvm.Cond.fieldLink "RaisedPress" (34 : Nat) "RaisedPress" "bad" "LRaisedPress$Bad;") ∈ lw_all := lw_g (lw_at lw_m2 52 rfl) rfl
theorem q413 : (Jvm.Cond.fieldLink "RaisedPress" (38 : Nat) "RaisedPress" "tape" "[B") ∈ lw_all := lw_g (lw_at lw_m2 54 rfl) rfl
theorem q414 : (Jvm.Cond.fieldLink "RaisedPress" (207 : Nat) "RaisedPress" "taped" "I") ∈ lw_all := lw_g (lw_at lw_m2 55 rfl) rfl
theorem q415 : (Jvm.Cond.fieldLink "RaisedPress" (41 : Nat) "RaisedPress" "faultKind" "I") ∈ lw_all := lw_g (lw_at lw_m2 56 rfl) rfl
theorem q416 : (Jvm.Cond.fieldLink "RaisedPress" (45 : Nat) "RaisedPress" "faultAt" "I") ∈ lw_all := lw_g (lw_at lw_m2 57 rfl) rfl
theorem q417 : (Jvm.Cond.fieldLink "RaisedPress" (51 : Nat) "RaisedPress" "refused" "LRaisedPress$Refused;") ∈ lw_all := lw_g (lw_at lw_m2 58 rfl) rfl
theorem q418 : (Jvm.Cond.fieldLink "RaisedPress" (114 : Nat) "RaisedPress" "status" "I") ∈ lw_all := lw_g (lw_at lw_m2 59 rfl) rfl
theorem q419 : (Jvm.Cond.fieldLink "RaisedPress" (117 : Nat) "RaisedPress" "above" "J") ∈ lw_all := lw_g (lw_at lw_m2 60 rfl) rfl
theorem q420 : (Jvm.Cond.fieldLink "RaisedPress" (55 : Nat) "RaisedPress" "under" "J") ∈ lw_all := lw_g (lw_at lw_m2 61 rfl) rfl
theorem q421 : (Jvm.Cond.fieldLink "RaisedPress" (62 : Nat) "RaisedPress" "now" "LRaisedPress$House;") ∈ lw_all := lw_g (lw_at lw_m2 62 rfl) rfl
theorem q422 : (Jvm.Cond.fieldLink "RaisedPress" (66 : Nat) "RaisedPress" "marks" "[LRaisedPress$House;") ∈ lw_all := lw_g (lw_at lw_m2 63 rfl) rfl
theorem q423 : (Jvm.Cond.fieldLink "RaisedPress" (489 : Nat) "RaisedPress" "markMany" "I") ∈ lw_all := lw_g (lw_at lw_m2 64 rfl) rfl
theorem q424 : (Jvm.Cond.fieldLink "RaisedPress" (79 : Nat) "RaisedPress" "setter" "LRaisedPress$Setter;") ∈ lw_all := lw_g (lw_at lw_m2 65 rfl) rfl
theorem q425 : (Jvm.Cond.fieldLink "RaisedPress" (83 : Nat) "RaisedPress" "raggedFrom" "[I") ∈ lw_all := lw_g (lw_at lw_m2 66 rfl) rfl
theorem q426 : (Jvm.Cond.fieldLink "RaisedPress" (86 : Nat) "RaisedPress" "row" "[I") ∈ lw_all := lw_g (lw_at lw_m2 67 rfl) rfl
theorem q427 : (Jvm.Cond.fieldLink "RaisedPress" (89 : Nat) "RaisedPress" "failing" "[I") ∈ lw_all := lw_g (lw_at lw_m2 68 rfl) rfl
theorem q428 : (Jvm.Cond.fieldLink "RaisedPress" (92 : Nat) "RaisedPress" "waysFrom" "[I") ∈ lw_all := lw_g (lw_at lw_m2 69 rfl) rfl
theorem q429 : (Jvm.Cond.fieldLink "RaisedPress" (95 : Nat) "RaisedPress" "firstRules" "[I") ∈ lw_all := lw_g (lw_at lw_m2 70 rfl) rfl
theorem q430 : (Jvm.Cond.fieldLink "RaisedPress" (433 : Nat) "RaisedPress" "firstMany" "I") ∈ lw_all := lw_g (lw_at lw_m2 71 rfl) rfl
theorem q431 : (Jvm.Cond.fieldLink "RaisedPress" (436 : Nat) "RaisedPress" "firstLetters" "I") ∈ lw_all := lw_g (lw_at lw_m2 72 rfl) rfl
theorem q432 : (Jvm.Cond.fieldLink "RaisedPress" (98 : Nat) "RaisedPress" "word" "[B") ∈ lw_all := lw_g (lw_at lw_m2 73 rfl) rfl
theorem q433 : (Jvm.Cond.fieldLink "RaisedPress" (101 : Nat) "RaisedPress" "hanging" "[I") ∈ lw_all := lw_g (lw_at lw_m2 74 rfl) rfl
theorem q434 : (Jvm.Cond.fieldLink "RaisedPress" (104 : Nat) "RaisedPress" "settled" "[Z") ∈ lw_all := lw_g (lw_at lw_m2 75 rfl) rfl
theorem q435 : (Jvm.Cond.fieldLink "RaisedPress" (108 : Nat) "RaisedPress" "left" "[I") ∈ lw_all := lw_g (lw_at lw_m2 76 rfl) rfl
theorem q436 : (Jvm.Cond.fieldLink "RaisedPress" (111 : Nat) "RaisedPress" "wornTold" "[I") ∈ lw_all := lw_g (lw_at lw_m2 77 rfl) rfl
theorem q437 : (Jvm.Cond.fieldLink "RaisedPress" (482 : Nat) "RaisedPress" "wornMany" "I") ∈ lw_all := lw_g (lw_at lw_m2 78 rfl) rfl
theorem q438 : (Jvm.Cond.laysFinal "RaisedPress" "RaisedPress" "trays" "[LRaisedPress$Tray;") ∈ lw_all := lw_g (lw_at lw_m2 79 rfl) rfl
theorem q439 : (Jvm.Cond.soleField "RaisedPress" "trays") ∈ lw_all := lw_g (lw_at lw_m2 80 rfl) rfl
theorem q440 : (Jvm.Cond.laysFinal "RaisedPress" "RaisedPress" "bad" "LRaisedPress$Bad;") ∈ lw_all := lw_g (lw_at lw_m2 81 rfl) rfl
theorem q441 : (Jvm.Cond.soleField "RaisedPress" "bad") ∈ lw_all := lw_g (lw_at lw_m2 82 rfl) rfl
theorem q442 : (Jvm.Cond.laysFinal "RaisedPress" "RaisedPress" "tape" "[B") ∈ lw_all := lw_g (lw_at lw_m2 83 rfl) rfl
theorem q443 : (Jvm.Cond.soleField "RaisedPress" "tape") ∈ lw_all := lw_g (lw_at lw_m2 84 rfl) rfl
theorem q444 : (Jvm.Cond.lays "RaisedPress" "RaisedPress" "taped" "I") ∈ lw_all := lw_g (lw_at lw_m2 85 rfl) rfl
theorem q445 : (Jvm.Cond.soleField "RaisedPress" "taped") ∈ lw_all := lw_g (lw_at lw_m2 86 rfl) rfl
theorem q446 : (Jvm.Cond.lays "RaisedPress" "RaisedPress" "faultKind" "I") ∈ lw_all := lw_g (lw_at lw_m2 87 rfl) rfl
theorem q447 : (Jvm.Cond.soleField "RaisedPress" "faultKind") ∈ lw_all := lw_g (lw_at lw_m2 88 rfl) rfl
theorem q448 : (Jvm.Cond.lays "RaisedPress" "RaisedPress" "faultAt" "I") ∈ lw_all := lw_g (lw_at lw_m2 89 rfl) rfl
theorem q449 : (Jvm.Cond.soleField "RaisedPress" "faultAt") ∈ lw_all := lw_g (lw_at lw_m2 90 rfl) rfl
theorem q450 : (Jvm.Cond.laysFinal "RaisedPress" "RaisedPress" "refused" "LRaisedPress$Refused;") ∈ lw_all := lw_g (lw_at lw_m2 91 rfl) rfl
theorem q451 : (Jvm.Cond.soleField "RaisedPress" "refused") ∈ lw_all := lw_g (lw_at lw_m2 92 rfl) rfl
theorem q452 : (Jvm.Cond.lays "RaisedPress" "RaisedPress" "status" "I") ∈ lw_all := lw_g (lw_at lw_m2 93 rfl) rfl
theorem q453 : (Jvm.Cond.soleField "RaisedPress" "status") ∈ lw_all := lw_g (lw_at lw_m2 94 rfl) rfl
theorem q454 : (Jvm.Cond.lays "RaisedPress" "RaisedPress" "above" "J") ∈ lw_all := lw_g (lw_at lw_m2 95 rfl) rfl
theorem q455 : (Jvm.Cond.soleField "RaisedPress" "above") ∈ lw_all := lw_g (lw_at lw_m2 96 rfl) rfl
theorem q456 : (Jvm.Cond.lays "RaisedPress" "RaisedPress" "under" "J") ∈ lw_all := lw_g (lw_at lw_m2 97 rfl) rfl
theorem q457 : (Jvm.Cond.soleField "RaisedPress" "under") ∈ lw_all := lw_g (lw_at lw_m2 98 rfl) rfl
theorem q458 : (Jvm.Cond.laysFinal "RaisedPress" "RaisedPress" "now" "LRaisedPress$House;") ∈ lw_all := lw_g (lw_at lw_m2 99 rfl) rfl
theorem q459 : (Jvm.Cond.soleField "RaisedPress" "now") ∈ lw_all := lw_g (lw_at lw_m2 100 rfl) rfl
theorem q460 : (Jvm.Cond.laysFinal "RaisedPress" "RaisedPress" "marks" "[LRaisedPress$House;") ∈ lw_all := lw_g (lw_at lw_m2 101 rfl) rfl
theorem q461 : (Jvm.Cond.soleField "RaisedPress" "marks") ∈ lw_all := lw_g (lw_at lw_m2 102 rfl) rfl
theorem q462 : (Jvm.Cond.lays "RaisedPress" "RaisedPress" "markMany" "I") ∈ lw_all := lw_g (lw_at lw_m2 103 rfl) rfl
theorem q463 : (Jvm.Cond.soleField "RaisedPress" "markMany") ∈ lw_all := lw_g (lw_at lw_m2 104 rfl) rfl
theorem q464 : (Jvm.Cond.lays "RaisedPress" "RaisedPress" "setter" "LRaisedPress$Setter;") ∈ lw_all := lw_g (lw_at lw_m2 105 rfl) rfl
theorem q465 : (Jvm.Cond.soleField "RaisedPress" "setter") ∈ lw_all := lw_g (lw_at lw_m2 106 rfl) rfl
theorem q466 : (Jvm.Cond.laysFinal "RaisedPress" "RaisedPress" "raggedFrom" "[I") ∈ lw_all := lw_g (lw_at lw_m2 107 rfl) rfl
theorem q467 : (Jvm.Cond.soleField "RaisedPress" "raggedFrom") ∈ lw_all := lw_g (lw_at lw_m2 108 rfl) rfl
theorem q468 : (Jvm.Cond.laysFinal "RaisedPress" "RaisedPress" "row" "[I") ∈ lw_all := lw_g (lw_at lw_m2 109 rfl) rfl
theorem q469 : (Jvm.Cond.soleField "RaisedPress" "row") ∈ lw_all := lw_g (lw_at lw_m2 110 rfl) rfl
theorem q470 : (Jvm.Cond.laysFinal "RaisedPress" "RaisedPress" "failing" "[I") ∈ lw_all := lw_g (lw_at lw_m2 111 rfl) rfl
theorem q471 : (Jvm.Cond.soleField "RaisedPress" "failing") ∈ lw_all := lw_g (lw_at lw_m2 112 rfl) rfl
theorem q472 : (Jvm.Cond.laysFinal "RaisedPress" "RaisedPress" "waysFrom" "[I") ∈ lw_all := lw_g (lw_at lw_m2 113 rfl) rfl
theorem q473 : (Jvm.Cond.soleField "RaisedPress" "waysFrom") ∈ lw_all := lw_g (lw_at lw_m2 114 rfl) rfl
theorem q474 : (Jvm.Cond.laysFinal "RaisedPress" "RaisedPress" "firstRules" "[I") ∈ lw_all := lw_g (lw_at lw_m2 115 rfl) rfl
theorem q475 : (Jvm.Cond.soleField "RaisedPress" "firstRules") ∈ lw_all := lw_g (lw_at lw_m2 116 rfl) rfl
theorem q476 : (Jvm.Cond.lays "RaisedPress" "RaisedPress" "firstMany" "I") ∈ lw_all := lw_g (lw_at lw_m2 117 rfl) rfl
theorem q477 : (Jvm.Cond.soleField "RaisedPress" "firstMany") ∈ lw_all := lw_g (lw_at lw_m2 118 rfl) rfl
theorem q478 : (Jvm.Cond.lays "RaisedPress" "RaisedPress" "firstLetters" "I") ∈ lw_all := lw_g (lw_at lw_m2 119 rfl) rfl
theorem q479 : (Jvm.Cond.soleField "RaisedPress" "firstLetters") ∈ lw_all := lw_g (lw_at lw_m2 120 rfl) rfl
theorem q480 : (Jvm.Cond.laysFinal "RaisedPress" "RaisedPress" "word" "[B") ∈ lw_all := lw_g (lw_at lw_m2 121 rfl) rfl
theorem q481 : (Jvm.Cond.soleField "RaisedPress" "word") ∈ lw_all := lw_g (lw_at lw_m2 122 rfl) rfl
theorem q482 : (Jvm.Cond.laysFinal "RaisedPress" "RaisedPress" "hanging" "[I") ∈ lw_all := lw_g (lw_at lw_m2 123 rfl) rfl
theorem q483 : (Jvm.Cond.soleField "RaisedPress" "hanging") ∈ lw_all := lw_g (lw_at lw_m2 124 rfl) rfl
theorem q484 : (Jvm.Cond.laysFinal "RaisedPress" "RaisedPress" "settled" "[Z") ∈ lw_all := lw_g (lw_at lw_m2 125 rfl) rfl
theorem q485 : (Jvm.Cond.soleField "RaisedPress" "settled") ∈ lw_all := lw_g (lw_at lw_m2 126 rfl) rfl
theorem q486 : (Jvm.Cond.laysFinal "RaisedPress" "RaisedPress" "left" "[I") ∈ lw_all := lw_g (lw_at lw_m2 127 rfl) rfl
theorem q487 : (Jvm.Cond.soleField "RaisedPress" "left") ∈ lw_all := lw_g (lw_at lw_m2 128 rfl) rfl
theorem q488 : (Jvm.Cond.laysFinal "RaisedPress" "RaisedPress" "wornTold" "[I") ∈ lw_all := lw_g (lw_at lw_m2 129 rfl) rfl
theorem q489 : (Jvm.Cond.soleField "RaisedPress" "wornTold") ∈ lw_all := lw_g (lw_at lw_m2 130 rfl) rfl
theorem q490 : (Jvm.Cond.lays "RaisedPress" "RaisedPress" "wornMany" "I") ∈ lw_all := lw_g (lw_at lw_m2 131 rfl) rfl
theorem q491 : (Jvm.Cond.soleField "RaisedPress" "wornMany") ∈ lw_all := lw_g (lw_at lw_m2 132 rfl) rfl
theorem q492 : (Jvm.Cond.superclass "RaisedPress" "java/lang/Object") ∈ lw_all := lw_g (lw_at lw_m2 133 rfl) rfl
theorem q495 : (Jvm.Cond.instanceMethod ({ cls := "RaisedPress", name := "status", desc := "()I" } : Jvm.MethodName)) ∈ lw_all := lw_g (lw_at lw_m2 136 rfl) rfl
theorem q496 : (Jvm.Cond.selects "RaisedPress" ({ cls := "RaisedPress", name := "status", desc := "()I" } : Jvm.MethodName) ({ cls := "RaisedPress", name := "status", desc := "()I" } : Jvm.MethodName)) ∈ lw_all := lw_g (lw_at lw_m2 137 rfl) rfl
theorem q497 : (Jvm.Cond.code ({ cls := "RaisedPress", name := "status", desc := "()I" } : Jvm.MethodName) prog_1_method_13_code (1 : Nat) (Option.some Jvm.ClassFile.FieldType.int)) ∈ lw_all := lw_g (lw_at lw_m2 138 rfl) rfl
theorem q499 : (Jvm.Cond.instanceMethod ({ cls := "RaisedPress", name := "top", desc := "()J" } : Jvm.MethodName)) ∈ lw_all := lw_g (lw_at lw_m2 140 rfl) rfl
theorem q500 : (Jvm.Cond.selects "RaisedPress" ({ cls := "RaisedPress", name := "top", desc := "()J" } : Jvm.MethodName) ({ cls := "RaisedPress", name := "top", desc := "()J" } : Jvm.MethodName)) ∈ lw_all := lw_g (lw_at lw_m2 141 rfl) rfl
theorem q501 : (Jvm.Cond.code ({ cls := "RaisedPress", name := "top", desc := "()J" } : Jvm.MethodName) prog_1_method_14_code (1 : Nat) (Option.some Jvm.ClassFile.FieldType.long)) ∈ lw_all := lw_g (lw_at lw_m2 142 rfl) rfl
theorem q503 : (Jvm.Cond.instanceMethod ({ cls := "RaisedPress", name := "bottom", desc := "()J" } : Jvm.MethodName)) ∈ lw_all := lw_g (lw_at lw_m2 144 rfl) rfl
theorem q504 : (Jvm.Cond.selects "RaisedPress" ({ cls := "RaisedPress", name := "bottom", desc := "()J" } : Jvm.MethodName) ({ cls := "RaisedPress", name := "bottom", desc := "()J" } : Jvm.MethodName)) ∈ lw_all := lw_g (lw_at lw_m2 145 rfl) rfl
theorem q505 : (Jvm.Cond.code ({ cls := "RaisedPress", name := "bottom", desc := "()J" } : Jvm.MethodName) prog_1_method_15_code (1 : Nat) (Option.some Jvm.ClassFile.FieldType.long)) ∈ lw_all := lw_g (lw_at lw_m2 146 rfl) rfl
theorem q507 : (Jvm.Cond.instanceMethod ({ cls := "RaisedPress", name := "tray", desc := "(III)Z" } : Jvm.MethodName)) ∈ lw_all := lw_g (lw_at lw_m2 148 rfl) rfl
theorem q508 : (Jvm.Cond.selects "RaisedPress" ({ cls := "RaisedPress", name := "tray", desc := "(III)Z" } : Jvm.MethodName) ({ cls := "RaisedPress", name := "tray", desc := "(III)Z" } : Jvm.MethodName)) ∈ lw_all := lw_g (lw_at lw_m2 149 rfl) rfl
theorem q509 : (Jvm.Cond.codeWith ({ cls := "RaisedPress", name := "tray", desc := "(III)Z" } : Jvm.MethodName) prog_1_method_21_code (5 : Nat) (Option.some Jvm.ClassFile.FieldType.boolean) [((5 : Nat), (54 : Nat), (55 : Nat), (149 : Nat)), ((5 : Nat), (54 : Nat), (64 : Nat), (48 : Nat))]) ∈ lw_all := lw_g (lw_at lw_m2 150 rfl) rfl
theorem q510 : (Jvm.Cond.classLink "RaisedPress" (149 : Nat) "java/lang/NegativeArraySizeException") ∈ lw_all := lw_g (lw_at lw_m2 151 rfl) rfl
theorem q539 : (Jvm.Cond.methodLink "RaisedPress" (139 : Nat) ({ cls := "RaisedPress", name := "want", desc := "(ZI)V" } : Jvm.MethodName)) ∈ lw_all := lw_g (lw_at lw_m2 180 rfl) rfl
theorem q540 : (Jvm.Cond.privateMethod ({ cls := "RaisedPress", name := "want", desc := "(ZI)V" } : Jvm.MethodName)) ∈ lw_tbl := lw_at lw_m2 181 rfl
theorem q541 : (Jvm.Cond.instanceMethod ({ cls := "RaisedPress", name := "want", desc := "(ZI)V" } : Jvm.MethodName)) ∈ lw_all := lw_g (lw_at lw_m2 182 rfl) rfl
theorem q542 : (Jvm.Cond.code ({ cls := "RaisedPress", name := "want", desc := "(ZI)V" } : Jvm.MethodName) prog_1_method_16_code (3 : Nat) (Option.none : Option Jvm.ClassFile.FieldType)) ∈ lw_all := lw_g (lw_at lw_m2 183 rfl) rfl
theorem q543 : (Jvm.Cond.methodLink "RaisedPress" (120 : Nat) ({ cls := "RaisedPress$Refused", name := "by", desc := "(I)LRaisedPress$Refused;" } : Jvm.MethodName)) ∈ lw_all := lw_g (lw_at lw_m2 184 rfl) rfl
theorem q547 : (Jvm.Cond.methodLink "RaisedPress" (146 : Nat) ({ cls := "RaisedPress", name := "row", desc := "(II)Ljava/lang/Object;" } : Jvm.MethodName)) ∈ lw_all := lw_g (lw_at lw_m2 188 rfl) rfl
theorem q548 : (Jvm.Cond.static ({ cls := "RaisedPress", name := "row", desc := "(II)Ljava/lang/Object;" } : Jvm.MethodName)) ∈ lw_all := lw_g (lw_at lw_m2 189 rfl) rfl
theorem q549 : (Jvm.Cond.code ({ cls := "RaisedPress", name := "row", desc := "(II)Ljava/lang/Object;" } : Jvm.MethodName) prog_1_method_1_code (2 : Nat) (Option.some (Jvm.ClassFile.FieldType.object "java/lang/Object"))) ∈ lw_all := lw_g (lw_at lw_m2 190 rfl) rfl
theorem q550 : (Jvm.Cond.methodLink "RaisedPress" (151 : Nat) ({ cls := "RaisedPress", name := "no", desc := "(LRaisedPress$Refused;)Z" } : Jvm.MethodName)) ∈ lw_all := lw_g (lw_at lw_m2 191 rfl) rfl
theorem q551 : (Jvm.Cond.privateMethod ({ cls := "RaisedPress", name := "no", desc := "(LRaisedPress$Refused;)Z" } : Jvm.MethodName)) ∈ lw_tbl := lw_at lw_m2 192 rfl
theorem q552 : (Jvm.Cond.instanceMethod ({ cls := "RaisedPress", name := "no", desc := "(LRaisedPress$Refused;)Z" } : Jvm.MethodName)) ∈ lw_all := lw_g (lw_at lw_m2 193 rfl) rfl
theorem q553 : (Jvm.Cond.code ({ cls := "RaisedPress", name := "no", desc := "(LRaisedPress$Refused;)Z" } : Jvm.MethodName) prog_1_method_18_code (2 : Nat) (Option.some Jvm.ClassFile.FieldType.boolean)) ∈ lw_all := lw_g (lw_at lw_m2 194 rfl) rfl
theorem q557 : (Jvm.Cond.instanceMethod ({ cls := "RaisedPress", name := "write", desc := "(IIJ)Z" } : Jvm.MethodName)) ∈ lw_all := lw_g (lw_at lw_m2 198 rfl) rfl
theorem q558 : (Jvm.Cond.selects "RaisedPress" ({ cls := "RaisedPress", name := "write", desc := "(IIJ)Z" } : Jvm.MethodName) ({ cls := "RaisedPress", name := "write", desc := "(IIJ)Z" } : Jvm.MethodName)) ∈ lw_all := lw_g (lw_at lw_m2 199 rfl) rfl
theorem q559 : (Jvm.Cond.codeWith ({ cls := "RaisedPress", name := "write", desc := "(IIJ)Z" } : Jvm.MethodName) prog_1_method_22_code (6 : Nat) (Option.some Jvm.ClassFile.FieldType.boolean) [((5 : Nat), (16 : Nat), (17 : Nat), (163 : Nat)), ((5 : Nat), (16 : Nat), (26 : Nat), (48 : Nat))]) ∈ lw_all := lw_g (lw_at lw_m2 200 rfl) rfl
theorem q560 : (Jvm.Cond.classLink "RaisedPress" (163 : Nat) "java/lang/ArrayIndexOutOfBoundsException") ∈ lw_all := lw_g (lw_at lw_m2 201 rfl) rfl
theorem q579 : (Jvm.Cond.methodLink "RaisedPress" (155 : Nat) ({ cls := "RaisedPress", name := "on", desc := "(I)Ljava/lang/Object;" } : Jvm.MethodName)) ∈ lw_all := lw_g (lw_at lw_m2 220 rfl) rfl
theorem q580 : (Jvm.Cond.privateMethod ({ cls := "RaisedPress", name := "on", desc := "(I)Ljava/lang/Object;" } : Jvm.MethodName)) ∈ lw_tbl := lw_at lw_m2 221 rfl
theorem q581 : (Jvm.Cond.instanceMethod ({ cls := "RaisedPress", name := "on", desc := "(I)Ljava/lang/Object;" } : Jvm.MethodName)) ∈ lw_all := lw_g (lw_at lw_m2 222 rfl) rfl
theorem q582 : (Jvm.Cond.code ({ cls := "RaisedPress", name := "on", desc := "(I)Ljava/lang/Object;" } : Jvm.MethodName) prog_1_method_20_code (2 : Nat) (Option.some (Jvm.ClassFile.FieldType.object "java/lang/Object"))) ∈ lw_all := lw_g (lw_at lw_m2 223 rfl) rfl
theorem q583 : (Jvm.Cond.methodLink "RaisedPress" (159 : Nat) ({ cls := "RaisedPress", name := "put", desc := "(Ljava/lang/Object;IJ)V" } : Jvm.MethodName)) ∈ lw_all := lw_g (lw_at lw_m2 224 rfl) rfl
theorem q584 : (Jvm.Cond.static ({ cls := "RaisedPress", name := "put", desc := "(Ljava/lang/Object;IJ)V" } : Jvm.MethodName)) ∈ lw_all := lw_g (lw_at lw_m2 225 rfl) rfl
theorem q585 : (Jvm.Cond.code ({ cls := "RaisedPress", name := "put", desc := "(Ljava/lang/Object;IJ)V" } : Jvm.MethodName) prog_1_method_5_code (7 : Nat) (Option.none : Option Jvm.ClassFile.FieldType)) ∈ lw_all := lw_g (lw_at lw_m2 226 rfl) rfl
theorem q586 : (Jvm.Cond.classLink "RaisedPress" (1 : Nat) "[B") ∈ lw_all := lw_g (lw_at lw_m2 227 rfl) rfl
theorem q587 : (Jvm.Cond.classLink "RaisedPress" (3 : Nat) "[S") ∈ lw_all := lw_g (lw_at lw_m2 228 rfl) rfl
theorem q588 : (Jvm.Cond.classLink "RaisedPress" (5 : Nat) "[I") ∈ lw_all := lw_g (lw_at lw_m2 229 rfl) rfl
theorem q589 : (Jvm.Cond.classLink "RaisedPress" (7 : Nat) "[J") ∈ lw_all := lw_g (lw_at lw_m2 230 rfl) rfl
theorem q591 : (Jvm.Cond.instanceMethod ({ cls := "RaisedPress", name := "read", desc := "(II)J" } : Jvm.MethodName)) ∈ lw_all := lw_g (lw_at lw_m2 232 rfl) rfl
theorem q592 : (Jvm.Cond.selects "RaisedPress" ({ cls := "RaisedPress", name := "read", desc := "(II)J" } : Jvm.MethodName) ({ cls := "RaisedPress", name := "read", desc := "(II)J" } : Jvm.MethodName)) ∈ lw_all := lw_g (lw_at lw_m2 233 rfl) rfl
theorem q593 : (Jvm.Cond.codeWith ({ cls := "RaisedPress", name := "read", desc := "(II)J" } : Jvm.MethodName) prog_1_method_23_code (4 : Nat) (Option.some Jvm.ClassFile.FieldType.long) [((5 : Nat), (14 : Nat), (15 : Nat), (163 : Nat)), ((5 : Nat), (14 : Nat), (25 : Nat), (48 : Nat))]) ∈ lw_all := lw_g (lw_at lw_m2 234 rfl) rfl
theorem q594 : (Jvm.Cond.methodLink "RaisedPress" (165 : Nat) ({ cls := "RaisedPress", name := "number", desc := "(Ljava/lang/Object;I)J" } : Jvm.MethodName)) ∈ lw_all := lw_g (lw_at lw_m2 235 rfl) rfl
theorem q595 : (Jvm.Cond.static ({ cls := "RaisedPress", name := "number", desc := "(Ljava/lang/Object;I)J" } : Jvm.MethodName)) ∈ lw_all := lw_g (lw_at lw_m2 236 rfl) rfl
theorem q596 : (Jvm.Cond.code ({ cls := "RaisedPress", name := "number", desc := "(Ljava/lang/Object;I)J" } : Jvm.MethodName) prog_1_method_4_code (3 : Nat) (Option.some Jvm.ClassFile.FieldType.long)) ∈ lw_all := lw_g (lw_at lw_m2 237 rfl) rfl
theorem q597 : (Jvm.Cond.constantLong "RaisedPress" (169 : Nat) (-1 : Int64)) ∈ lw_all := lw_g (lw_at lw_m2 238 rfl) rfl
theorem q598 : (Jvm.Cond.methodLink "RaisedPress" (171 : Nat) ({ cls := "RaisedPress", name := "none", desc := "(LRaisedPress$Refused;)I" } : Jvm.MethodName)) ∈ lw_all := lw_g (lw_at lw_m2 239 rfl) rfl
theorem q599 : (Jvm.Cond.privateMethod ({ cls := "RaisedPress", name := "none", desc := "(LRaisedPress$Refused;)I" } : Jvm.MethodName)) ∈ lw_tbl := lw_at lw_m3 0 rfl
theorem q600 : (Jvm.Cond.instanceMethod ({ cls := "RaisedPress", name := "none", desc := "(LRaisedPress$Refused;)I" } : Jvm.MethodName)) ∈ lw_all := lw_g (lw_at lw_m3 1 rfl) rfl
theorem q601 : (Jvm.Cond.code ({ cls := "RaisedPress", name := "none", desc := "(LRaisedPress$Refused;)I" } : Jvm.MethodName) prog_1_method_17_code (2 : Nat) (Option.some Jvm.ClassFile.FieldType.int)) ∈ lw_all := lw_g (lw_at lw_m3 2 rfl) rfl
theorem q603 : (Jvm.Cond.instanceMethod ({ cls := "RaisedPress", name := "pour", desc := "(IIIII)Z" } : Jvm.MethodName)) ∈ lw_all := lw_g (lw_at lw_m3 4 rfl) rfl
theorem q604 : (Jvm.Cond.selects "RaisedPress" ({ cls := "RaisedPress", name := "pour", desc := "(IIIII)Z" } : Jvm.MethodName) ({ cls := "RaisedPress", name := "pour", desc := "(IIIII)Z" } : Jvm.MethodName)) ∈ lw_all := lw_g (lw_at lw_m3 5 rfl) rfl
theorem q605 : (Jvm.Cond.codeWith ({ cls := "RaisedPress", name := "pour", desc := "(IIIII)Z" } : Jvm.MethodName) prog_1_method_24_code (9 : Nat) (Option.some Jvm.ClassFile.FieldType.boolean) [((85 : Nat), (97 : Nat), (100 : Nat), (185 : Nat)), ((5 : Nat), (112 : Nat), (113 : Nat), (48 : Nat))]) ∈ lw_all := lw_g (lw_at lw_m3 6 rfl) rfl
theorem q606 : (Jvm.Cond.classLink "RaisedPress" (185 : Nat) "java/lang/IndexOutOfBoundsException") ∈ lw_all := lw_g (lw_at lw_m3 7 rfl) rfl
theorem q607 : (Jvm.Cond.methodLink "RaisedPress" (175 : Nat) ({ cls := "RaisedPress", name := "sortOf", desc := "(Ljava/lang/Object;)I" } : Jvm.MethodName)) ∈ lw_all := lw_g (lw_at lw_m3 8 rfl) rfl
theorem q608 : (Jvm.Cond.static ({ cls := "RaisedPress", name := "sortOf", desc := "(Ljava/lang/Object;)I" } : Jvm.MethodName)) ∈ lw_all := lw_g (lw_at lw_m3 9 rfl) rfl
theorem q609 : (Jvm.Cond.code ({ cls := "RaisedPress", name := "sortOf", desc := "(Ljava/lang/Object;)I" } : Jvm.MethodName) prog_1_method_2_code (1 : Nat) (Option.some Jvm.ClassFile.FieldType.int)) ∈ lw_all := lw_g (lw_at lw_m3 10 rfl) rfl
theorem q610 : (Jvm.Cond.methodLink "RaisedPress" (179 : Nat) ({ cls := "java/lang/System", name := "arraycopy", desc := "(Ljava/lang/Object;ILjava/lang/Object;II)V" } : Jvm.MethodName)) ∈ lw_all := lw_g (lw_at lw_m3 11 rfl) rfl
theorem q614 : (Jvm.Cond.instanceMethod ({ cls := "RaisedPress", name := "feed", desc := "(IIIII)I" } : Jvm.MethodName)) ∈ lw_all := lw_g (lw_at lw_m3 15 rfl) rfl
theorem q615 : (Jvm.Cond.selects "RaisedPress" ({ cls := "RaisedPress", name := "feed", desc := "(IIIII)I" } : Jvm.MethodName) ({ cls := "RaisedPress", name := "feed", desc := "(IIIII)I" } : Jvm.MethodName)) ∈ lw_all := lw_g (lw_at lw_m3 16 rfl) rfl
theorem q616 : (Jvm.Cond.code ({ cls := "RaisedPress", name := "feed", desc := "(IIIII)I" } : Jvm.MethodName) prog_1_method_32_code (6 : Nat) (Option.some Jvm.ClassFile.FieldType.int)) ∈ lw_all := lw_g (lw_at lw_m3 17 rfl) rfl
theorem q617 : (Jvm.Cond.methodLink "RaisedPress" (210 : Nat) ({ cls := "RaisedPress", name := "lay", desc := "(I)V" } : Jvm.MethodName)) ∈ lw_all := lw_g (lw_at lw_m3 18 rfl) rfl
theorem q618 : (Jvm.Cond.privateMethod ({ cls := "RaisedPress", name := "lay", desc := "(I)V" } : Jvm.MethodName)) ∈ lw_tbl := lw_at lw_m3 19 rfl
theorem q619 : (Jvm.Cond.instanceMethod ({ cls := "RaisedPress", name := "lay", desc := "(I)V" } : Jvm.MethodName)) ∈ lw_all := lw_g (lw_at lw_m3 20 rfl) rfl
theorem q620 : (Jvm.Cond.code ({ cls := "RaisedPress", name := "lay", desc := "(I)V" } : Jvm.MethodName) prog_1_method_33_code (3 : Nat) (Option.none : Option Jvm.ClassFile.FieldType)) ∈ lw_all := lw_g (lw_at lw_m3 21 rfl) rfl
theorem q622 : (Jvm.Cond.instanceMethod ({ cls := "RaisedPress", name := "press", desc := "(I)I" } : Jvm.MethodName)) ∈ lw_all := lw_g (lw_at lw_m3 23 rfl) rfl
theorem q623 : (Jvm.Cond.selects "RaisedPress" ({ cls := "RaisedPress", name := "press", desc := "(I)I" } : Jvm.MethodName) ({ cls := "RaisedPress", name := "press", desc := "(I)I" } : Jvm.MethodName)) ∈ lw_all := lw_g (lw_at lw_m3 24 rfl) rfl
theorem q624 : (Jvm.Cond.codeWith ({ cls := "RaisedPress", name := "press", desc := "(I)I" } : Jvm.MethodName) prog_1_method_36_code (3 : Nat) (Option.some Jvm.ClassFile.FieldType.int) [((13 : Nat), (62 : Nat), (63 : Nat), (31 : Nat))]) ∈ lw_all := lw_g (lw_at lw_m3 25 rfl) rfl
theorem q625 : (Jvm.Cond.methodLink "RaisedPress" (220 : Nat) ({ cls := "RaisedPress", name := "opens", desc := "(II)Z" } : Jvm.MethodName)) ∈ lw_all := lw_g (lw_at lw_m3 26 rfl) rfl
theorem q626 : (Jvm.Cond.privateMethod ({ cls := "RaisedPress", name := "opens", desc := "(II)Z" } : Jvm.MethodName)) ∈ lw_tbl := lw_at lw_m3 27 rfl
theorem q627 : (Jvm.Cond.instanceMethod ({ cls := "RaisedPress", name := "opens", desc := "(II)Z" } : Jvm.MethodName)) ∈ lw_all := lw_g (lw_at lw_m3 28 rfl) rfl
theorem q628 : (Jvm.Cond.code ({ cls := "RaisedPress", name := "opens", desc := "(II)Z" } : Jvm.MethodName) prog_1_method_34_code (3 : Nat) (Option.some Jvm.ClassFile.FieldType.boolean)) ∈ lw_all := lw_g (lw_at lw_m3 29 rfl) rfl
theorem q629 : (Jvm.Cond.classLink "RaisedPress" (191 : Nat) "RaisedPress$Table") ∈ lw_all := lw_g (lw_at lw_m3 30 rfl) rfl
theorem q630 : (Jvm.Cond.methodLinkNest "RaisedPress" (224 : Nat) ({ cls := "RaisedPress$Table", name := "<init>", desc := "()V" } : Jvm.MethodName) "RaisedPress") ∈ lw_tbl := lw_at lw_m3 31 rfl
theorem q631 : (Jvm.Cond.classLink "RaisedPress" (225 : Nat) "RaisedPress$Reader") ∈ lw_all := lw_g (lw_at lw_m3 32 rfl) rfl
theorem q633 : (Jvm.Cond.methodLink "RaisedPress" (227 : Nat) ({ cls := "RaisedPress$Reader", name := "<init>", desc := "(LRaisedPress;I)V" } : Jvm.MethodName)) ∈ lw_all := lw_g (lw_at lw_m3 34 rfl) rfl
theorem q642 : (Jvm.Cond.static ({ cls := "RaisedPress", name := "isBlank", desc := "(I)Z" } : Jvm.MethodName)) ∈ lw_all := lw_g (lw_at lw_m3 43 rfl) rfl
theorem q643 : (Jvm.Cond.code ({ cls := "RaisedPress", name := "isBlank", desc := "(I)Z" } : Jvm.MethodName) prog_1_method_10_code (1 : Nat) (Option.some Jvm.ClassFile.FieldType.boolean)) ∈ lw_all := lw_g (lw_at lw_m3 44 rfl) rfl
theorem q649 : (Jvm.Cond.static ({ cls := "RaisedPress", name := "isSmall", desc := "(I)Z" } : Jvm.MethodName)) ∈ lw_all := lw_g (lw_at lw_m3 50 rfl) rfl
theorem q650 : (Jvm.Cond.code ({ cls := "RaisedPress", name := "isSmall", desc := "(I)Z" } : Jvm.MethodName) prog_1_method_6_code (1 : Nat) (Option.some Jvm.ClassFile.FieldType.boolean)) ∈ lw_all := lw_g (lw_at lw_m3 51 rfl) rfl
theorem q656 : (Jvm.Cond.static ({ cls := "RaisedPress", name := "isFigure", desc := "(I)Z" } : Jvm.MethodName)) ∈ lw_all := lw_g (lw_at lw_m3 57 rfl) rfl
theorem q657 : (Jvm.Cond.code ({ cls := "RaisedPress", name := "isFigure", desc := "(I)Z" } : Jvm.MethodName) prog_1_method_9_code (1 : Nat) (Option.some Jvm.ClassFile.FieldType.boolean)) ∈ lw_all := lw_g (lw_at lw_m3 58 rfl) rfl
theorem q683 : (Jvm.Cond.methodLink "RaisedPress" (230 : Nat) ({ cls := "RaisedPress$Reader", name := "table", desc := "(LRaisedPress$Table;)V" } : Jvm.MethodName)) ∈ lw_all := lw_g (lw_at lw_m3 84 rfl) rfl
theorem q774 : (Jvm.Cond.fieldLink "RaisedPress" (286 : Nat) "RaisedPress$Rule" "letters" "[B") ∈ lw_all := lw_g (lw_at lw_m3 175 rfl) rfl
theorem q777 : (Jvm.Cond.fieldLink "RaisedPress" (291 : Nat) "RaisedPress$Rule" "cells" "[I") ∈ lw_all := lw_g (lw_at lw_m3 178 rfl) rfl
theorem q867 : (Jvm.Cond.methodLink "RaisedPress" (237 : Nat) ({ cls := "RaisedPress", name := "faulty", desc := "(LRaisedPress$Bad;)I" } : Jvm.MethodName)) ∈ lw_all := lw_g (lw_at lw_m4 28 rfl) rfl
theorem q868 : (Jvm.Cond.privateMethod ({ cls := "RaisedPress", name := "faulty", desc := "(LRaisedPress$Bad;)I" } : Jvm.MethodName)) ∈ lw_tbl := lw_at lw_m4 29 rfl
theorem q869 : (Jvm.Cond.instanceMethod ({ cls := "RaisedPress", name := "faulty", desc := "(LRaisedPress$Bad;)I" } : Jvm.MethodName)) ∈ lw_all := lw_g (lw_at lw_m4 30 rfl) rfl
theorem q870 : (Jvm.Cond.code ({ cls := "RaisedPress", name := "faulty", desc := "(LRaisedPress$Bad;)I" } : Jvm.MethodName) prog_1_method_35_code (2 : Nat) (Option.some Jvm.ClassFile.FieldType.int)) ∈ lw_all := lw_g (lw_at lw_m4 31 rfl) rfl
theorem q872 : (Jvm.Cond.instanceMethod ({ cls := "RaisedPress", name := "writing", desc := "(I)I" } : Jvm.MethodName)) ∈ lw_all := lw_g (lw_at lw_m4 33 rfl) rfl
theorem q873 : (Jvm.Cond.selects "RaisedPress" ({ cls := "RaisedPress", name := "writing", desc := "(I)I" } : Jvm.MethodName) ({ cls := "RaisedPress", name := "writing", desc := "(I)I" } : Jvm.MethodName)) ∈ lw_all := lw_g (lw_at lw_m4 34 rfl) rfl
theorem q874 : (Jvm.Cond.codeWith ({ cls := "RaisedPress", name := "writing", desc := "(I)I" } : Jvm.MethodName) prog_1_method_37_code (3 : Nat) (Option.some Jvm.ClassFile.FieldType.int) [((13 : Nat), (57 : Nat), (58 : Nat), (31 : Nat))]) ∈ lw_all := lw_g (lw_at lw_m4 35 rfl) rfl
theorem q875 : (Jvm.Cond.methodLink "RaisedPress" (241 : Nat) ({ cls := "RaisedPress", name := "setter", desc := "()LRaisedPress$Setter;" } : Jvm.MethodName)) ∈ lw_all := lw_g (lw_at lw_m4 36 rfl) rfl
theorem q876 : (Jvm.Cond.privateMethod ({ cls := "RaisedPress", name := "setter", desc := "()LRaisedPress$Setter;" } : Jvm.MethodName)) ∈ lw_tbl := lw_at lw_m4 37 rfl
theorem q877 : (Jvm.Cond.instanceMethod ({ cls := "RaisedPress", name := "setter", desc := "()LRaisedPress$Setter;" } : Jvm.MethodName)) ∈ lw_all := lw_g (lw_at lw_m4 38 rfl) rfl
theorem q878 : (Jvm.Cond.code ({ cls := "RaisedPress", name := "setter", desc := "()LRaisedPress$Setter;" } : Jvm.MethodName) prog_1_method_31_code (1 : Nat) (Option.some (Jvm.ClassFile.FieldType.object "RaisedPress$Setter"))) ∈ lw_all := lw_g (lw_at lw_m4 39 rfl) rfl
theorem q879 : (Jvm.Cond.methodLink "RaisedPress" (187 : Nat) ({ cls := "RaisedPress", name := "table", desc := "()LRaisedPress$Table;" } : Jvm.MethodName)) ∈ lw_all := lw_g (lw_at lw_m4 40 rfl) rfl
theorem q880 : (Jvm.Cond.privateMethod ({ cls := "RaisedPress", name := "table", desc := "()LRaisedPress$Table;" } : Jvm.MethodName)) ∈ lw_tbl := lw_at lw_m4 41 rfl
theorem q881 : (Jvm.Cond.instanceMethod ({ cls := "RaisedPress", name := "table", desc := "()LRaisedPress$Table;" } : Jvm.MethodName)) ∈ lw_all := lw_g (lw_at lw_m4 42 rfl) rfl
theorem q882 : (Jvm.Cond.code ({ cls := "RaisedPress", name := "table", desc := "()LRaisedPress$Table;" } : Jvm.MethodName) prog_1_method_26_code (1 : Nat) (Option.some (Jvm.ClassFile.FieldType.object "RaisedPress$Table"))) ∈ lw_all := lw_g (lw_at lw_m4 43 rfl) rfl
theorem q883 : (Jvm.Cond.methodLink "RaisedPress" (244 : Nat) ({ cls := "RaisedPress$Setter", name := "all", desc := "([BII)V" } : Jvm.MethodName)) ∈ lw_all := lw_g (lw_at lw_m4 44 rfl) rfl
theorem q897 : (Jvm.Cond.static ({ cls := "RaisedPress", name := "isLetter", desc := "(I)Z" } : Jvm.MethodName)) ∈ lw_all := lw_g (lw_at lw_m4 58 rfl) rfl
theorem q898 : (Jvm.Cond.code ({ cls := "RaisedPress", name := "isLetter", desc := "(I)Z" } : Jvm.MethodName) prog_1_method_8_code (1 : Nat) (Option.some Jvm.ClassFile.FieldType.boolean)) ∈ lw_all := lw_g (lw_at lw_m4 59 rfl) rfl
theorem q899 : (Jvm.Cond.methodLink "RaisedPress" (9 : Nat) ({ cls := "RaisedPress", name := "isSmall", desc := "(I)Z" } : Jvm.MethodName)) ∈ lw_all := lw_g (lw_at lw_m4 60 rfl) rfl
theorem q900 : (Jvm.Cond.methodLink "RaisedPress" (15 : Nat) ({ cls := "RaisedPress", name := "isGreat", desc := "(I)Z" } : Jvm.MethodName)) ∈ lw_all := lw_g (lw_at lw_m4 61 rfl) rfl
theorem q901 : (Jvm.Cond.static ({ cls := "RaisedPress", name := "isGreat", desc := "(I)Z" } : Jvm.MethodName)) ∈ lw_all := lw_g (lw_at lw_m4 62 rfl) rfl
theorem q902 : (Jvm.Cond.code ({ cls := "RaisedPress", name := "isGreat", desc := "(I)Z" } : Jvm.MethodName) prog_1_method_7_code (1 : Nat) (Option.some Jvm.ClassFile.FieldType.boolean)) ∈ lw_all := lw_g (lw_at lw_m4 63 rfl) rfl
theorem q943 : (Jvm.Cond.static ({ cls := "RaisedPress", name := "small", desc := "(I)I" } : Jvm.MethodName)) ∈ lw_all := lw_g (lw_at lw_m4 104 rfl) rfl
theorem q944 : (Jvm.Cond.code ({ cls := "RaisedPress", name := "small", desc := "(I)I" } : Jvm.MethodName) prog_1_method_11_code (1 : Nat) (Option.some Jvm.ClassFile.FieldType.int)) ∈ lw_all := lw_g (lw_at lw_m4 105 rfl) rfl
theorem q972 : (Jvm.Cond.methodLink "RaisedPress" (248 : Nat) ({ cls := "RaisedPress$Setter", name := "told", desc := "()LRaisedPress$Writing;" } : Jvm.MethodName)) ∈ lw_all := lw_g (lw_at lw_m4 133 rfl) rfl
theorem q1000 : (Jvm.Cond.fieldLinkNest "RaisedPress" (299 : Nat) "RaisedPress$Writing" "bytes" "[B" "RaisedPress") ∈ lw_tbl := lw_at lw_m4 161 rfl
theorem q1003 : (Jvm.Cond.fieldLinkNest "RaisedPress" (252 : Nat) "RaisedPress$Writing" "cells" "[I" "RaisedPress") ∈ lw_tbl := lw_at lw_m4 164 rfl
theorem q1006 : (Jvm.Cond.fieldLinkNest "RaisedPress" (318 : Nat) "RaisedPress$Writing" "pieceAt" "[I" "RaisedPress") ∈ lw_tbl := lw_at lw_m4 167 rfl
theorem q1009 : (Jvm.Cond.fieldLinkNest "RaisedPress" (363 : Nat) "RaisedPress$Writing" "pieceMany" "[I" "RaisedPress") ∈ lw_tbl := lw_at lw_m4 170 rfl
theorem q1012 : (Jvm.Cond.fieldLinkNest "RaisedPress" (366 : Nat) "RaisedPress$Writing" "pieceLine" "[I" "RaisedPress") ∈ lw_tbl := lw_at lw_m4 173 rfl
theorem q1015 : (Jvm.Cond.fieldLinkNest "RaisedPress" (381 : Nat) "RaisedPress$Writing" "pieceEnd" "[I" "RaisedPress") ∈ lw_tbl := lw_at lw_m4 176 rfl
theorem q1018 : (Jvm.Cond.fieldLinkNest "RaisedPress" (369 : Nat) "RaisedPress$Writing" "cellBy" "[I" "RaisedPress") ∈ lw_tbl := lw_at lw_m4 179 rfl
theorem q1021 : (Jvm.Cond.fieldLinkNest "RaisedPress" (329 : Nat) "RaisedPress$Writing" "laid" "[I" "RaisedPress") ∈ lw_tbl := lw_at lw_m4 182 rfl
theorem q1024 : (Jvm.Cond.fieldLinkNest "RaisedPress" (332 : Nat) "RaisedPress$Writing" "lineAt" "[I" "RaisedPress") ∈ lw_tbl := lw_at lw_m4 185 rfl
theorem q1027 : (Jvm.Cond.fieldLinkNest "RaisedPress" (340 : Nat) "RaisedPress$Writing" "used" "[I" "RaisedPress") ∈ lw_tbl := lw_at lw_m4 188 rfl
theorem q1029 : (Jvm.Cond.fieldLinkNest "RaisedPress" (321 : Nat) "RaisedPress$Writing" "all" "I" "RaisedPress") ∈ lw_tbl := lw_at lw_m4 190 rfl
theorem q1031 : (Jvm.Cond.fieldLinkNest "RaisedPress" (337 : Nat) "RaisedPress$Writing" "hyphens" "I" "RaisedPress") ∈ lw_tbl := lw_at lw_m4 192 rfl
theorem q1033 : (Jvm.Cond.fieldLinkNest "RaisedPress" (357 : Nat) "RaisedPress$Writing" "lettered" "I" "RaisedPress") ∈ lw_tbl := lw_at lw_m4 194 rfl
theorem q1066 : (Jvm.Cond.instanceMethod ({ cls := "RaisedPress", name := "fault", desc := "(I)I" } : Jvm.MethodName)) ∈ lw_all := lw_g (lw_at lw_m4 227 rfl) rfl
theorem q1067 : (Jvm.Cond.selects "RaisedPress" ({ cls := "RaisedPress", name := "fault", desc := "(I)I" } : Jvm.MethodName) ({ cls := "RaisedPress", name := "fault", desc := "(I)I" } : Jvm.MethodName)) ∈ lw_all := lw_g (lw_at lw_m4 228 rfl) rfl
theorem q1068 : (Jvm.Cond.code ({ cls := "RaisedPress", name := "fault", desc := "(I)I" } : Jvm.MethodName) prog_1_method_38_code (2 : Nat) (Option.some Jvm.ClassFile.FieldType.int)) ∈ lw_all := lw_g (lw_at lw_m4 229 rfl) rfl
theorem q1070 : (Jvm.Cond.instanceMethod ({ cls := "RaisedPress", name := "told", desc := "(I)I" } : Jvm.MethodName)) ∈ lw_all := lw_g (lw_at lw_m4 231 rfl) rfl
theorem q1071 : (Jvm.Cond.selects "RaisedPress" ({ cls := "RaisedPress", name := "told", desc := "(I)I" } : Jvm.MethodName) ({ cls := "RaisedPress", name := "told", desc := "(I)I" } : Jvm.MethodName)) ∈ lw_all := lw_g (lw_at lw_m4 232 rfl) rfl
theorem q1072 : (Jvm.Cond.code ({ cls := "RaisedPress", name := "told", desc := "(I)I" } : Jvm.MethodName) prog_1_method_39_code (2 : Nat) (Option.some Jvm.ClassFile.FieldType.int)) ∈ lw_all := lw_g (lw_at lw_m4 233 rfl) rfl
theorem q1073 : (Jvm.Cond.constantLong "RaisedPress" (257 : Nat) (6 : Int64)) ∈ lw_all := lw_g (lw_at lw_m4 234 rfl) rfl
theorem q1074 : (Jvm.Cond.methodLink "RaisedPress" (195 : Nat) ({ cls := "RaisedPress", name := "isIn", desc := "(JJJ)Z" } : Jvm.MethodName)) ∈ lw_all := lw_g (lw_at lw_m4 235 rfl) rfl
theorem q1075 : (Jvm.Cond.static ({ cls := "RaisedPress", name := "isIn", desc := "(JJJ)Z" } : Jvm.MethodName)) ∈ lw_all := lw_g (lw_at lw_m4 236 rfl) rfl
theorem q1076 : (Jvm.Cond.code ({ cls := "RaisedPress", name := "isIn", desc := "(JJJ)Z" } : Jvm.MethodName) prog_1_method_25_code (6 : Nat) (Option.some Jvm.ClassFile.FieldType.boolean)) ∈ lw_all := lw_g (lw_at lw_m4 237 rfl) rfl
theorem q1077 : (Jvm.Cond.methodLink "RaisedPress" (262 : Nat) ({ cls := "RaisedPress", name := "answer", desc := "(I)I" } : Jvm.MethodName)) ∈ lw_all := lw_g (lw_at lw_m4 238 rfl) rfl
theorem q1078 : (Jvm.Cond.privateMethod ({ cls := "RaisedPress", name := "answer", desc := "(I)I" } : Jvm.MethodName)) ∈ lw_tbl := lw_at lw_m4 239 rfl
theorem q1079 : (Jvm.Cond.instanceMethod ({ cls := "RaisedPress", name := "answer", desc := "(I)I" } : Jvm.MethodName)) ∈ lw_all := lw_g (lw_at lw_m5 0 rfl) rfl
theorem q1080 : (Jvm.Cond.code ({ cls := "RaisedPress", name := "answer", desc := "(I)I" } : Jvm.MethodName) prog_1_method_30_code (2 : Nat) (Option.some Jvm.ClassFile.FieldType.int)) ∈ lw_all := lw_g (lw_at lw_m5 1 rfl) rfl
theorem q1082 : (Jvm.Cond.instanceMethod ({ cls := "RaisedPress", name := "rule", desc := "(II)I" } : Jvm.MethodName)) ∈ lw_all := lw_g (lw_at lw_m5 3 rfl) rfl
theorem q1083 : (Jvm.Cond.selects "RaisedPress" ({ cls := "RaisedPress", name := "rule", desc := "(II)I" } : Jvm.MethodName) ({ cls := "RaisedPress", name := "rule", desc := "(II)I" } : Jvm.MethodName)) ∈ lw_all := lw_g (lw_at lw_m5 4 rfl) rfl
theorem q1084 : (Jvm.Cond.code ({ cls := "RaisedPress", name := "rule", desc := "(II)I" } : Jvm.MethodName) prog_1_method_40_code (3 : Nat) (Option.some Jvm.ClassFile.FieldType.int)) ∈ lw_all := lw_g (lw_at lw_m5 5 rfl) rfl
theorem q1085 : (Jvm.Cond.methodLink "RaisedPress" (277 : Nat) ({ cls := "RaisedPress", name := "isRule", desc := "(I)Z" } : Jvm.MethodName)) ∈ lw_all := lw_g (lw_at lw_m5 6 rfl) rfl
theorem q1086 : (Jvm.Cond.privateMethod ({ cls := "RaisedPress", name := "isRule", desc := "(I)Z" } : Jvm.MethodName)) ∈ lw_tbl := lw_at lw_m5 7 rfl
theorem q1087 : (Jvm.Cond.instanceMethod ({ cls := "RaisedPress", name := "isRule", desc := "(I)Z" } : Jvm.MethodName)) ∈ lw_all := lw_g (lw_at lw_m5 8 rfl) rfl
theorem q1088 : (Jvm.Cond.code ({ cls := "RaisedPress", name := "isRule", desc := "(I)Z" } : Jvm.MethodName) prog_1_method_27_code (2 : Nat) (Option.some Jvm.ClassFile.FieldType.boolean)) ∈ lw_all := lw_g (lw_at lw_m5 9 rfl) rfl
theorem q1089 : (Jvm.Cond.constantLong "RaisedPress" (280 : Nat) (2 : Int64)) ∈ lw_all := lw_g (lw_at lw_m5 10 rfl) rfl
theorem q1090 : (Jvm.Cond.methodLink "RaisedPress" (282 : Nat) ({ cls := "RaisedPress", name := "at", desc := "(I)LRaisedPress$Rule;" } : Jvm.MethodName)) ∈ lw_all := lw_g (lw_at lw_m5 11 rfl) rfl
theorem q1091 : (Jvm.Cond.privateMethod ({ cls := "RaisedPress", name := "at", desc := "(I)LRaisedPress$Rule;" } : Jvm.MethodName)) ∈ lw_tbl := lw_at lw_m5 12 rfl
theorem q1092 : (Jvm.Cond.instanceMethod ({ cls := "RaisedPress", name := "at", desc := "(I)LRaisedPress$Rule;" } : Jvm.MethodName)) ∈ lw_all := lw_g (lw_at lw_m5 13 rfl) rfl
theorem q1093 : (Jvm.Cond.code ({ cls := "RaisedPress", name := "at", desc := "(I)LRaisedPress$Rule;" } : Jvm.MethodName) prog_1_method_29_code (2 : Nat) (Option.some (Jvm.ClassFile.FieldType.object "RaisedPress$Rule"))) ∈ lw_all := lw_g (lw_at lw_m5 14 rfl) rfl
theorem q1094 : (Jvm.Cond.methodLink "RaisedPress" (292 : Nat) ({ cls := "RaisedPress$Rule", name := "told", desc := "()I" } : Jvm.MethodName)) ∈ lw_all := lw_g (lw_at lw_m5 15 rfl) rfl
theorem q1096 : (Jvm.Cond.instanceMethod ({ cls := "RaisedPress", name := "letter", desc := "(II)I" } : Jvm.MethodName)) ∈ lw_all := lw_g (lw_at lw_m5 17 rfl) rfl
theorem q1097 : (Jvm.Cond.selects "RaisedPress" ({ cls := "RaisedPress", name := "letter", desc := "(II)I" } : Jvm.MethodName) ({ cls := "RaisedPress", name := "letter", desc := "(II)I" } : Jvm.MethodName)) ∈ lw_all := lw_g (lw_at lw_m5 18 rfl) rfl
theorem q1098 : (Jvm.Cond.code ({ cls := "RaisedPress", name := "letter", desc := "(II)I" } : Jvm.MethodName) prog_1_method_41_code (3 : Nat) (Option.some Jvm.ClassFile.FieldType.int)) ∈ lw_all := lw_g (lw_at lw_m5 19 rfl) rfl
theorem q1100 : (Jvm.Cond.instanceMethod ({ cls := "RaisedPress", name := "cellOf", desc := "(II)I" } : Jvm.MethodName)) ∈ lw_all := lw_g (lw_at lw_m5 21 rfl) rfl
theorem q1101 : (Jvm.Cond.selects "RaisedPress" ({ cls := "RaisedPress", name := "cellOf", desc := "(II)I" } : Jvm.MethodName) ({ cls := "RaisedPress", name := "cellOf", desc := "(II)I" } : Jvm.MethodName)) ∈ lw_all := lw_g (lw_at lw_m5 22 rfl) rfl
theorem q1102 : (Jvm.Cond.code ({ cls := "RaisedPress", name := "cellOf", desc := "(II)I" } : Jvm.MethodName) prog_1_method_42_code (3 : Nat) (Option.some Jvm.ClassFile.FieldType.int)) ∈ lw_all := lw_g (lw_at lw_m5 23 rfl) rfl
theorem q1104 : (Jvm.Cond.instanceMethod ({ cls := "RaisedPress", name := "drop", desc := "(IZ)Z" } : Jvm.MethodName)) ∈ lw_all := lw_g (lw_at lw_m5 25 rfl) rfl
theorem q1105 : (Jvm.Cond.selects "RaisedPress" ({ cls := "RaisedPress", name := "drop", desc := "(IZ)Z" } : Jvm.MethodName) ({ cls := "RaisedPress", name := "drop", desc := "(IZ)Z" } : Jvm.MethodName)) ∈ lw_all := lw_g (lw_at lw_m5 26 rfl) rfl
theorem q1106 : (Jvm.Cond.code ({ cls := "RaisedPress", name := "drop", desc := "(IZ)Z" } : Jvm.MethodName) prog_1_method_43_code (3 : Nat) (Option.some Jvm.ClassFile.FieldType.boolean)) ∈ lw_all := lw_g (lw_at lw_m5 27 rfl) rfl
theorem q1108 : (Jvm.Cond.instanceMethod ({ cls := "RaisedPress", name := "reset", desc := "()I" } : Jvm.MethodName)) ∈ lw_all := lw_g (lw_at lw_m5 29 rfl) rfl
theorem q1109 : (Jvm.Cond.selects "RaisedPress" ({ cls := "RaisedPress", name := "reset", desc := "()I" } : Jvm.MethodName) ({ cls := "RaisedPress", name := "reset", desc := "()I" } : Jvm.MethodName)) ∈ lw_all := lw_g (lw_at lw_m5 30 rfl) rfl
theorem q1110 : (Jvm.Cond.code ({ cls := "RaisedPress", name := "reset", desc := "()I" } : Jvm.MethodName) prog_1_method_47_code (2 : Nat) (Option.some Jvm.ClassFile.FieldType.int)) ∈ lw_all := lw_g (lw_at lw_m5 31 rfl) rfl
theorem q1111 : (Jvm.Cond.methodLink "RaisedPress" (304 : Nat) ({ cls := "RaisedPress", name := "whyNotSet", desc := "()I" } : Jvm.MethodName)) ∈ lw_all := lw_g (lw_at lw_m5 32 rfl) rfl
theorem q1112 : (Jvm.Cond.privateMethod ({ cls := "RaisedPress", name := "whyNotSet", desc := "()I" } : Jvm.MethodName)) ∈ lw_tbl := lw_at lw_m5 33 rfl
theorem q1113 : (Jvm.Cond.instanceMethod ({ cls := "RaisedPress", name := "whyNotSet", desc := "()I" } : Jvm.MethodName)) ∈ lw_all := lw_g (lw_at lw_m5 34 rfl) rfl
theorem q1114 : (Jvm.Cond.code ({ cls := "RaisedPress", name := "whyNotSet", desc := "()I" } : Jvm.MethodName) prog_1_method_45_code (1 : Nat) (Option.some Jvm.ClassFile.FieldType.int)) ∈ lw_all := lw_g (lw_at lw_m5 35 rfl) rfl
theorem q1115 : (Jvm.Cond.methodLink "RaisedPress" (295 : Nat) ({ cls := "RaisedPress", name := "isSet", desc := "()Z" } : Jvm.MethodName)) ∈ lw_all := lw_g (lw_at lw_m5 36 rfl) rfl
theorem q1116 : (Jvm.Cond.privateMethod ({ cls := "RaisedPress", name := "isSet", desc := "()Z" } : Jvm.MethodName)) ∈ lw_tbl := lw_at lw_m5 37 rfl
theorem q1117 : (Jvm.Cond.instanceMethod ({ cls := "RaisedPress", name := "isSet", desc := "()Z" } : Jvm.MethodName)) ∈ lw_all := lw_g (lw_at lw_m5 38 rfl) rfl
theorem q1118 : (Jvm.Cond.code ({ cls := "RaisedPress", name := "isSet", desc := "()Z" } : Jvm.MethodName) prog_1_method_44_code (1 : Nat) (Option.some Jvm.ClassFile.FieldType.boolean)) ∈ lw_all := lw_g (lw_at lw_m5 39 rfl) rfl
theorem q1119 : (Jvm.Cond.methodLink "RaisedPress" (307 : Nat) ({ cls := "RaisedPress", name := "setsWithout", desc := "(I)I" } : Jvm.MethodName)) ∈ lw_all := lw_g (lw_at lw_m5 40 rfl) rfl
theorem q1120 : (Jvm.Cond.privateMethod ({ cls := "RaisedPress", name := "setsWithout", desc := "(I)I" } : Jvm.MethodName)) ∈ lw_tbl := lw_at lw_m5 41 rfl
theorem q1121 : (Jvm.Cond.instanceMethod ({ cls := "RaisedPress", name := "setsWithout", desc := "(I)I" } : Jvm.MethodName)) ∈ lw_all := lw_g (lw_at lw_m5 42 rfl) rfl
theorem q1122 : (Jvm.Cond.codeWith ({ cls := "RaisedPress", name := "setsWithout", desc := "(I)I" } : Jvm.MethodName) prog_1_method_46_code (3 : Nat) (Option.some Jvm.ClassFile.FieldType.int) [((0 : Nat), (36 : Nat), (37 : Nat), (31 : Nat))]) ∈ lw_all := lw_g (lw_at lw_m5 43 rfl) rfl
theorem q1124 : (Jvm.Cond.instanceMethod ({ cls := "RaisedPress", name := "size", desc := "(I)I" } : Jvm.MethodName)) ∈ lw_all := lw_g (lw_at lw_m5 45 rfl) rfl
theorem q1125 : (Jvm.Cond.selects "RaisedPress" ({ cls := "RaisedPress", name := "size", desc := "(I)I" } : Jvm.MethodName) ({ cls := "RaisedPress", name := "size", desc := "(I)I" } : Jvm.MethodName)) ∈ lw_all := lw_g (lw_at lw_m5 46 rfl) rfl
theorem q1126 : (Jvm.Cond.code ({ cls := "RaisedPress", name := "size", desc := "(I)I" } : Jvm.MethodName) prog_1_method_49_code (2 : Nat) (Option.some Jvm.ClassFile.FieldType.int)) ∈ lw_all := lw_g (lw_at lw_m5 47 rfl) rfl
theorem q1127 : (Jvm.Cond.constantLong "RaisedPress" (313 : Nat) (4 : Int64)) ∈ lw_all := lw_g (lw_at lw_m5 48 rfl) rfl
theorem q1128 : (Jvm.Cond.methodLink "RaisedPress" (310 : Nat) ({ cls := "RaisedPress$Writing", name := "lines", desc := "()I" } : Jvm.MethodName)) ∈ lw_all := lw_g (lw_at lw_m5 49 rfl) rfl
theorem q1132 : (Jvm.Cond.methodLink "RaisedPress" (315 : Nat) ({ cls := "RaisedPress", name := "pages", desc := "()I" } : Jvm.MethodName)) ∈ lw_all := lw_g (lw_at lw_m5 53 rfl) rfl
theorem q1133 : (Jvm.Cond.privateMethod ({ cls := "RaisedPress", name := "pages", desc := "()I" } : Jvm.MethodName)) ∈ lw_tbl := lw_at lw_m5 54 rfl
theorem q1134 : (Jvm.Cond.instanceMethod ({ cls := "RaisedPress", name := "pages", desc := "()I" } : Jvm.MethodName)) ∈ lw_all := lw_g (lw_at lw_m5 55 rfl) rfl
theorem q1135 : (Jvm.Cond.code ({ cls := "RaisedPress", name := "pages", desc := "()I" } : Jvm.MethodName) prog_1_method_48_code (1 : Nat) (Option.some Jvm.ClassFile.FieldType.int)) ∈ lw_all := lw_g (lw_at lw_m5 56 rfl) rfl
theorem q1137 : (Jvm.Cond.instanceMethod ({ cls := "RaisedPress", name := "cell", desc := "(I)I" } : Jvm.MethodName)) ∈ lw_all := lw_g (lw_at lw_m5 58 rfl) rfl
theorem q1138 : (Jvm.Cond.selects "RaisedPress" ({ cls := "RaisedPress", name := "cell", desc := "(I)I" } : Jvm.MethodName) ({ cls := "RaisedPress", name := "cell", desc := "(I)I" } : Jvm.MethodName)) ∈ lw_all := lw_g (lw_at lw_m5 59 rfl) rfl
theorem q1139 : (Jvm.Cond.code ({ cls := "RaisedPress", name := "cell", desc := "(I)I" } : Jvm.MethodName) prog_1_method_50_code (2 : Nat) (Option.some Jvm.ClassFile.FieldType.int)) ∈ lw_all := lw_g (lw_at lw_m5 60 rfl) rfl
theorem q1141 : (Jvm.Cond.instanceMethod ({ cls := "RaisedPress", name := "line", desc := "(I)I" } : Jvm.MethodName)) ∈ lw_all := lw_g (lw_at lw_m5 62 rfl) rfl
theorem q1142 : (Jvm.Cond.selects "RaisedPress" ({ cls := "RaisedPress", name := "line", desc := "(I)I" } : Jvm.MethodName) ({ cls := "RaisedPress", name := "line", desc := "(I)I" } : Jvm.MethodName)) ∈ lw_all := lw_g (lw_at lw_m5 63 rfl) rfl
theorem q1143 : (Jvm.Cond.code ({ cls := "RaisedPress", name := "line", desc := "(I)I" } : Jvm.MethodName) prog_1_method_52_code (2 : Nat) (Option.some Jvm.ClassFile.FieldType.int)) ∈ lw_all := lw_g (lw_at lw_m5 64 rfl) rfl
theorem q1144 : (Jvm.Cond.methodLink "RaisedPress" (323 : Nat) ({ cls := "RaisedPress", name := "isLine", desc := "(I)Z" } : Jvm.MethodName)) ∈ lw_all := lw_g (lw_at lw_m5 65 rfl) rfl
theorem q1145 : (Jvm.Cond.privateMethod ({ cls := "RaisedPress", name := "isLine", desc := "(I)Z" } : Jvm.MethodName)) ∈ lw_tbl := lw_at lw_m5 66 rfl
theorem q1146 : (Jvm.Cond.instanceMethod ({ cls := "RaisedPress", name := "isLine", desc := "(I)Z" } : Jvm.MethodName)) ∈ lw_all := lw_g (lw_at lw_m5 67 rfl) rfl
theorem q1147 : (Jvm.Cond.code ({ cls := "RaisedPress", name := "isLine", desc := "(I)Z" } : Jvm.MethodName) prog_1_method_51_code (2 : Nat) (Option.some Jvm.ClassFile.FieldType.boolean)) ∈ lw_all := lw_g (lw_at lw_m5 68 rfl) rfl
theorem q1148 : (Jvm.Cond.methodLink "RaisedPress" (326 : Nat) ({ cls := "RaisedPress$Writing", name := "lineMany", desc := "(I)I" } : Jvm.MethodName)) ∈ lw_all := lw_g (lw_at lw_m5 69 rfl) rfl
theorem q1153 : (Jvm.Cond.instanceMethod ({ cls := "RaisedPress", name := "lineAt", desc := "(II)I" } : Jvm.MethodName)) ∈ lw_all := lw_g (lw_at lw_m5 74 rfl) rfl
theorem q1154 : (Jvm.Cond.selects "RaisedPress" ({ cls := "RaisedPress", name := "lineAt", desc := "(II)I" } : Jvm.MethodName) ({ cls := "RaisedPress", name := "lineAt", desc := "(II)I" } : Jvm.MethodName)) ∈ lw_all := lw_g (lw_at lw_m5 75 rfl) rfl
theorem q1155 : (Jvm.Cond.code ({ cls := "RaisedPress", name := "lineAt", desc := "(II)I" } : Jvm.MethodName) prog_1_method_53_code (3 : Nat) (Option.some Jvm.ClassFile.FieldType.int)) ∈ lw_all := lw_g (lw_at lw_m5 76 rfl) rfl
theorem q1157 : (Jvm.Cond.instanceMethod ({ cls := "RaisedPress", name := "onPage", desc := "(III)I" } : Jvm.MethodName)) ∈ lw_all := lw_g (lw_at lw_m5 78 rfl) rfl
theorem q1158 : (Jvm.Cond.selects "RaisedPress" ({ cls := "RaisedPress", name := "onPage", desc := "(III)I" } : Jvm.MethodName) ({ cls := "RaisedPress", name := "onPage", desc := "(III)I" } : Jvm.MethodName)) ∈ lw_all := lw_g (lw_at lw_m5 79 rfl) rfl
theorem q1159 : (Jvm.Cond.code ({ cls := "RaisedPress", name := "onPage", desc := "(III)I" } : Jvm.MethodName) prog_1_method_54_code (6 : Nat) (Option.some Jvm.ClassFile.FieldType.int)) ∈ lw_all := lw_g (lw_at lw_m5 80 rfl) rfl
theorem q1160 : (Jvm.Cond.constantLong "RaisedPress" (335 : Nat) (800 : Int64)) ∈ lw_all := lw_g (lw_at lw_m5 81 rfl) rfl
theorem q1162 : (Jvm.Cond.instanceMethod ({ cls := "RaisedPress", name := "hyphens", desc := "()I" } : Jvm.MethodName)) ∈ lw_all := lw_g (lw_at lw_m5 83 rfl) rfl
theorem q1163 : (Jvm.Cond.selects "RaisedPress" ({ cls := "RaisedPress", name := "hyphens", desc := "()I" } : Jvm.MethodName) ({ cls := "RaisedPress", name := "hyphens", desc := "()I" } : Jvm.MethodName)) ∈ lw_all := lw_g (lw_at lw_m5 84 rfl) rfl
theorem q1164 : (Jvm.Cond.code ({ cls := "RaisedPress", name := "hyphens", desc := "()I" } : Jvm.MethodName) prog_1_method_55_code (1 : Nat) (Option.some Jvm.ClassFile.FieldType.int)) ∈ lw_all := lw_g (lw_at lw_m5 85 rfl) rfl
theorem q1166 : (Jvm.Cond.instanceMethod ({ cls := "RaisedPress", name := "used", desc := "(I)I" } : Jvm.MethodName)) ∈ lw_all := lw_g (lw_at lw_m5 87 rfl) rfl
theorem q1167 : (Jvm.Cond.selects "RaisedPress" ({ cls := "RaisedPress", name := "used", desc := "(I)I" } : Jvm.MethodName) ({ cls := "RaisedPress", name := "used", desc := "(I)I" } : Jvm.MethodName)) ∈ lw_all := lw_g (lw_at lw_m5 88 rfl) rfl
theorem q1168 : (Jvm.Cond.code ({ cls := "RaisedPress", name := "used", desc := "(I)I" } : Jvm.MethodName) prog_1_method_56_code (2 : Nat) (Option.some Jvm.ClassFile.FieldType.int)) ∈ lw_all := lw_g (lw_at lw_m5 89 rfl) rfl
theorem q1170 : (Jvm.Cond.instanceMethod ({ cls := "RaisedPress", name := "useless", desc := "()I" } : Jvm.MethodName)) ∈ lw_all := lw_g (lw_at lw_m5 91 rfl) rfl
theorem q1171 : (Jvm.Cond.selects "RaisedPress" ({ cls := "RaisedPress", name := "useless", desc := "()I" } : Jvm.MethodName) ({ cls := "RaisedPress", name := "useless", desc := "()I" } : Jvm.MethodName)) ∈ lw_all := lw_g (lw_at lw_m5 92 rfl) rfl
theorem q1172 : (Jvm.Cond.code ({ cls := "RaisedPress", name := "useless", desc := "()I" } : Jvm.MethodName) prog_1_method_57_code (3 : Nat) (Option.some Jvm.ClassFile.FieldType.int)) ∈ lw_all := lw_g (lw_at lw_m5 93 rfl) rfl
theorem q1173 : (Jvm.Cond.methodLink "RaisedPress" (343 : Nat) ({ cls := "RaisedPress", name := "isThere", desc := "(I)Z" } : Jvm.MethodName)) ∈ lw_all := lw_g (lw_at lw_m5 94 rfl) rfl
theorem q1174 : (Jvm.Cond.privateMethod ({ cls := "RaisedPress", name := "isThere", desc := "(I)Z" } : Jvm.MethodName)) ∈ lw_tbl := lw_at lw_m5 95 rfl
theorem q1175 : (Jvm.Cond.instanceMethod ({ cls := "RaisedPress", name := "isThere", desc := "(I)Z" } : Jvm.MethodName)) ∈ lw_all := lw_g (lw_at lw_m5 96 rfl) rfl
theorem q1176 : (Jvm.Cond.code ({ cls := "RaisedPress", name := "isThere", desc := "(I)Z" } : Jvm.MethodName) prog_1_method_28_code (2 : Nat) (Option.some Jvm.ClassFile.FieldType.boolean)) ∈ lw_all := lw_g (lw_at lw_m5 97 rfl) rfl
theorem q1178 : (Jvm.Cond.instanceMethod ({ cls := "RaisedPress", name := "dots", desc := "()I" } : Jvm.MethodName)) ∈ lw_all := lw_g (lw_at lw_m5 99 rfl) rfl
theorem q1179 : (Jvm.Cond.selects "RaisedPress" ({ cls := "RaisedPress", name := "dots", desc := "()I" } : Jvm.MethodName) ({ cls := "RaisedPress", name := "dots", desc := "()I" } : Jvm.MethodName)) ∈ lw_all := lw_g (lw_at lw_m5 100 rfl) rfl
theorem q1180 : (Jvm.Cond.code ({ cls := "RaisedPress", name := "dots", desc := "()I" } : Jvm.MethodName) prog_1_method_58_code (3 : Nat) (Option.some Jvm.ClassFile.FieldType.int)) ∈ lw_all := lw_g (lw_at lw_m5 101 rfl) rfl
theorem q1181 : (Jvm.Cond.methodLink "RaisedPress" (346 : Nat) ({ cls := "java/lang/Integer", name := "bitCount", desc := "(I)I" } : Jvm.MethodName)) ∈ lw_all := lw_g (lw_at lw_m5 102 rfl) rfl
theorem q1188 : (Jvm.Cond.instanceMethod ({ cls := "RaisedPress", name := "plain", desc := "()I" } : Jvm.MethodName)) ∈ lw_all := lw_g (lw_at lw_m5 109 rfl) rfl
theorem q1189 : (Jvm.Cond.selects "RaisedPress" ({ cls := "RaisedPress", name := "plain", desc := "()I" } : Jvm.MethodName) ({ cls := "RaisedPress", name := "plain", desc := "()I" } : Jvm.MethodName)) ∈ lw_all := lw_g (lw_at lw_m5 110 rfl) rfl
theorem q1190 : (Jvm.Cond.code ({ cls := "RaisedPress", name := "plain", desc := "()I" } : Jvm.MethodName) prog_1_method_59_code (2 : Nat) (Option.some Jvm.ClassFile.FieldType.int)) ∈ lw_all := lw_g (lw_at lw_m5 111 rfl) rfl
theorem q1191 : (Jvm.Cond.methodLink "RaisedPress" (354 : Nat) ({ cls := "RaisedPress$Setter", name := "plain", desc := "()I" } : Jvm.MethodName)) ∈ lw_all := lw_g (lw_at lw_m5 112 rfl) rfl
theorem q1196 : (Jvm.Cond.instanceMethod ({ cls := "RaisedPress", name := "fewest", desc := "()I" } : Jvm.MethodName)) ∈ lw_all := lw_g (lw_at lw_m5 117 rfl) rfl
theorem q1197 : (Jvm.Cond.selects "RaisedPress" ({ cls := "RaisedPress", name := "fewest", desc := "()I" } : Jvm.MethodName) ({ cls := "RaisedPress", name := "fewest", desc := "()I" } : Jvm.MethodName)) ∈ lw_all := lw_g (lw_at lw_m5 118 rfl) rfl
theorem q1198 : (Jvm.Cond.code ({ cls := "RaisedPress", name := "fewest", desc := "()I" } : Jvm.MethodName) prog_1_method_60_code (1 : Nat) (Option.some Jvm.ClassFile.FieldType.int)) ∈ lw_all := lw_g (lw_at lw_m5 119 rfl) rfl
theorem q1199 : (Jvm.Cond.methodLink "RaisedPress" (360 : Nat) ({ cls := "RaisedPress$Setter", name := "fewest", desc := "()I" } : Jvm.MethodName)) ∈ lw_all := lw_g (lw_at lw_m5 120 rfl) rfl
theorem q1212 : (Jvm.Cond.instanceMethod ({ cls := "RaisedPress", name := "saving", desc := "(I)I" } : Jvm.MethodName)) ∈ lw_all := lw_g (lw_at lw_m5 133 rfl) rfl
theorem q1213 : (Jvm.Cond.selects "RaisedPress" ({ cls := "RaisedPress", name := "saving", desc := "(I)I" } : Jvm.MethodName) ({ cls := "RaisedPress", name := "saving", desc := "(I)I" } : Jvm.MethodName)) ∈ lw_all := lw_g (lw_at lw_m5 134 rfl) rfl
theorem q1214 : (Jvm.Cond.code ({ cls := "RaisedPress", name := "saving", desc := "(I)I" } : Jvm.MethodName) prog_1_method_61_code (4 : Nat) (Option.some Jvm.ClassFile.FieldType.int)) ∈ lw_all := lw_g (lw_at lw_m5 135 rfl) rfl
theorem q1216 : (Jvm.Cond.instanceMethod ({ cls := "RaisedPress", name := "cheapest", desc := "()I" } : Jvm.MethodName)) ∈ lw_all := lw_g (lw_at lw_m5 137 rfl) rfl
theorem q1217 : (Jvm.Cond.selects "RaisedPress" ({ cls := "RaisedPress", name := "cheapest", desc := "()I" } : Jvm.MethodName) ({ cls := "RaisedPress", name := "cheapest", desc := "()I" } : Jvm.MethodName)) ∈ lw_all := lw_g (lw_at lw_m5 138 rfl) rfl
theorem q1218 : (Jvm.Cond.code ({ cls := "RaisedPress", name := "cheapest", desc := "()I" } : Jvm.MethodName) prog_1_method_62_code (5 : Nat) (Option.some Jvm.ClassFile.FieldType.int)) ∈ lw_all := lw_g (lw_at lw_m5 139 rfl) rfl
theorem q1220 : (Jvm.Cond.instanceMethod ({ cls := "RaisedPress", name := "piece", desc := "(II)I" } : Jvm.MethodName)) ∈ lw_all := lw_g (lw_at lw_m5 141 rfl) rfl
theorem q1221 : (Jvm.Cond.selects "RaisedPress" ({ cls := "RaisedPress", name := "piece", desc := "(II)I" } : Jvm.MethodName) ({ cls := "RaisedPress", name := "piece", desc := "(II)I" } : Jvm.MethodName)) ∈ lw_all := lw_g (lw_at lw_m5 142 rfl) rfl
theorem q1222 : (Jvm.Cond.code ({ cls := "RaisedPress", name := "piece", desc := "(II)I" } : Jvm.MethodName) prog_1_method_63_code (3 : Nat) (Option.some Jvm.ClassFile.FieldType.int)) ∈ lw_all := lw_g (lw_at lw_m5 143 rfl) rfl
theorem q1224 : (Jvm.Cond.instanceMethod ({ cls := "RaisedPress", name := "by", desc := "(I)I" } : Jvm.MethodName)) ∈ lw_all := lw_g (lw_at lw_m5 145 rfl) rfl
theorem q1225 : (Jvm.Cond.selects "RaisedPress" ({ cls := "RaisedPress", name := "by", desc := "(I)I" } : Jvm.MethodName) ({ cls := "RaisedPress", name := "by", desc := "(I)I" } : Jvm.MethodName)) ∈ lw_all := lw_g (lw_at lw_m5 146 rfl) rfl
theorem q1226 : (Jvm.Cond.code ({ cls := "RaisedPress", name := "by", desc := "(I)I" } : Jvm.MethodName) prog_1_method_64_code (2 : Nat) (Option.some Jvm.ClassFile.FieldType.int)) ∈ lw_all := lw_g (lw_at lw_m5 147 rfl) rfl
theorem q1228 : (Jvm.Cond.instanceMethod ({ cls := "RaisedPress", name := "dense", desc := "(I)I" } : Jvm.MethodName)) ∈ lw_all := lw_g (lw_at lw_m5 149 rfl) rfl
theorem q1229 : (Jvm.Cond.selects "RaisedPress" ({ cls := "RaisedPress", name := "dense", desc := "(I)I" } : Jvm.MethodName) ({ cls := "RaisedPress", name := "dense", desc := "(I)I" } : Jvm.MethodName)) ∈ lw_all := lw_g (lw_at lw_m5 150 rfl) rfl
theorem q1230 : (Jvm.Cond.code ({ cls := "RaisedPress", name := "dense", desc := "(I)I" } : Jvm.MethodName) prog_1_method_65_code (5 : Nat) (Option.some Jvm.ClassFile.FieldType.int)) ∈ lw_all := lw_g (lw_at lw_m5 151 rfl) rfl
theorem q1231 : (Jvm.Cond.constantLong "RaisedPress" (372 : Nat) (40 : Int64)) ∈ lw_all := lw_g (lw_at lw_m5 152 rfl) rfl
theorem q1232 : (Jvm.Cond.methodLink "RaisedPress" (374 : Nat) ({ cls := "java/lang/Math", name := "max", desc := "(II)I" } : Jvm.MethodName)) ∈ lw_all := lw_g (lw_at lw_m5 153 rfl) rfl
theorem q1236 : (Jvm.Cond.instanceMethod ({ cls := "RaisedPress", name := "alike", desc := "(II)I" } : Jvm.MethodName)) ∈ lw_all := lw_g (lw_at lw_m5 157 rfl) rfl
theorem q1237 : (Jvm.Cond.selects "RaisedPress" ({ cls := "RaisedPress", name := "alike", desc := "(II)I" } : Jvm.MethodName) ({ cls := "RaisedPress", name := "alike", desc := "(II)I" } : Jvm.MethodName)) ∈ lw_all := lw_g (lw_at lw_m5 158 rfl) rfl
theorem q1238 : (Jvm.Cond.code ({ cls := "RaisedPress", name := "alike", desc := "(II)I" } : Jvm.MethodName) prog_1_method_66_code (5 : Nat) (Option.some Jvm.ClassFile.FieldType.int)) ∈ lw_all := lw_g (lw_at lw_m5 159 rfl) rfl
theorem q1239 : (Jvm.Cond.methodLink "RaisedPress" (378 : Nat) ({ cls := "java/lang/Math", name := "min", desc := "(II)I" } : Jvm.MethodName)) ∈ lw_all := lw_g (lw_at lw_m5 160 rfl) rfl
theorem q1241 : (Jvm.Cond.instanceMethod ({ cls := "RaisedPress", name := "longest", desc := "()I" } : Jvm.MethodName)) ∈ lw_all := lw_g (lw_at lw_m5 162 rfl) rfl
theorem q1242 : (Jvm.Cond.selects "RaisedPress" ({ cls := "RaisedPress", name := "longest", desc := "()I" } : Jvm.MethodName) ({ cls := "RaisedPress", name := "longest", desc := "()I" } : Jvm.MethodName)) ∈ lw_all := lw_g (lw_at lw_m5 163 rfl) rfl
theorem q1243 : (Jvm.Cond.code ({ cls := "RaisedPress", name := "longest", desc := "()I" } : Jvm.MethodName) prog_1_method_67_code (3 : Nat) (Option.some Jvm.ClassFile.FieldType.int)) ∈ lw_all := lw_g (lw_at lw_m5 164 rfl) rfl
theorem q1245 : (Jvm.Cond.instanceMethod ({ cls := "RaisedPress", name := "inLine", desc := "(I)I" } : Jvm.MethodName)) ∈ lw_all := lw_g (lw_at lw_m5 166 rfl) rfl
theorem q1246 : (Jvm.Cond.selects "RaisedPress" ({ cls := "RaisedPress", name := "inLine", desc := "(I)I" } : Jvm.MethodName) ({ cls := "RaisedPress", name := "inLine", desc := "(I)I" } : Jvm.MethodName)) ∈ lw_all := lw_g (lw_at lw_m5 167 rfl) rfl
theorem q1247 : (Jvm.Cond.code ({ cls := "RaisedPress", name := "inLine", desc := "(I)I" } : Jvm.MethodName) prog_1_method_68_code (4 : Nat) (Option.some Jvm.ClassFile.FieldType.int)) ∈ lw_all := lw_g (lw_at lw_m5 168 rfl) rfl
theorem q1249 : (Jvm.Cond.instanceMethod ({ cls := "RaisedPress", name := "wasted", desc := "(I)I" } : Jvm.MethodName)) ∈ lw_all := lw_g (lw_at lw_m5 170 rfl) rfl
theorem q1250 : (Jvm.Cond.selects "RaisedPress" ({ cls := "RaisedPress", name := "wasted", desc := "(I)I" } : Jvm.MethodName) ({ cls := "RaisedPress", name := "wasted", desc := "(I)I" } : Jvm.MethodName)) ∈ lw_all := lw_g (lw_at lw_m5 171 rfl) rfl
theorem q1251 : (Jvm.Cond.code ({ cls := "RaisedPress", name := "wasted", desc := "(I)I" } : Jvm.MethodName) prog_1_method_69_code (2 : Nat) (Option.some Jvm.ClassFile.FieldType.int)) ∈ lw_all := lw_g (lw_at lw_m5 172 rfl) rfl
theorem q1253 : (Jvm.Cond.instanceMethod ({ cls := "RaisedPress", name := "saved", desc := "()I" } : Jvm.MethodName)) ∈ lw_all := lw_g (lw_at lw_m5 174 rfl) rfl
theorem q1254 : (Jvm.Cond.selects "RaisedPress" ({ cls := "RaisedPress", name := "saved", desc := "()I" } : Jvm.MethodName) ({ cls := "RaisedPress", name := "saved", desc := "()I" } : Jvm.MethodName)) ∈ lw_all := lw_g (lw_at lw_m5 175 rfl) rfl
theorem q1255 : (Jvm.Cond.code ({ cls := "RaisedPress", name := "saved", desc := "()I" } : Jvm.MethodName) prog_1_method_70_code (2 : Nat) (Option.some Jvm.ClassFile.FieldType.int)) ∈ lw_all := lw_g (lw_at lw_m5 176 rfl) rfl
theorem q1256 : (Jvm.Cond.methodLink "RaisedPress" (384 : Nat) ({ cls := "RaisedPress", name := "plain", desc := "()I" } : Jvm.MethodName)) ∈ lw_all := lw_g (lw_at lw_m5 177 rfl) rfl
theorem q1258 : (Jvm.Cond.instanceMethod ({ cls := "RaisedPress", name := "frequent", desc := "()I" } : Jvm.MethodName)) ∈ lw_all := lw_g (lw_at lw_m5 179 rfl) rfl
theorem q1259 : (Jvm.Cond.selects "RaisedPress" ({ cls := "RaisedPress", name := "frequent", desc := "()I" } : Jvm.MethodName) ({ cls := "RaisedPress", name := "frequent", desc := "()I" } : Jvm.MethodName)) ∈ lw_all := lw_g (lw_at lw_m5 180 rfl) rfl
theorem q1260 : (Jvm.Cond.code ({ cls := "RaisedPress", name := "frequent", desc := "()I" } : Jvm.MethodName) prog_1_method_71_code (6 : Nat) (Option.some Jvm.ClassFile.FieldType.int)) ∈ lw_all := lw_g (lw_at lw_m5 181 rfl) rfl
theorem q1261 : (Jvm.Cond.methodLink "RaisedPress" (385 : Nat) ({ cls := "RaisedPress", name := "small", desc := "(I)I" } : Jvm.MethodName)) ∈ lw_all := lw_g (lw_at lw_m5 182 rfl) rfl
theorem q1263 : (Jvm.Cond.instanceMethod ({ cls := "RaisedPress", name := "pieceOf", desc := "(I)I" } : Jvm.MethodName)) ∈ lw_all := lw_g (lw_at lw_m5 184 rfl) rfl
theorem q1264 : (Jvm.Cond.selects "RaisedPress" ({ cls := "RaisedPress", name := "pieceOf", desc := "(I)I" } : Jvm.MethodName) ({ cls := "RaisedPress", name := "pieceOf", desc := "(I)I" } : Jvm.MethodName)) ∈ lw_all := lw_g (lw_at lw_m5 185 rfl) rfl
theorem q1265 : (Jvm.Cond.code ({ cls := "RaisedPress", name := "pieceOf", desc := "(I)I" } : Jvm.MethodName) prog_1_method_72_code (4 : Nat) (Option.some Jvm.ClassFile.FieldType.int)) ∈ lw_all := lw_g (lw_at lw_m5 186 rfl) rfl
theorem q1267 : (Jvm.Cond.instanceMethod ({ cls := "RaisedPress", name := "signs", desc := "(I)I" } : Jvm.MethodName)) ∈ lw_all := lw_g (lw_at lw_m5 188 rfl) rfl
theorem q1268 : (Jvm.Cond.selects "RaisedPress" ({ cls := "RaisedPress", name := "signs", desc := "(I)I" } : Jvm.MethodName) ({ cls := "RaisedPress", name := "signs", desc := "(I)I" } : Jvm.MethodName)) ∈ lw_all := lw_g (lw_at lw_m5 189 rfl) rfl
theorem q1269 : (Jvm.Cond.code ({ cls := "RaisedPress", name := "signs", desc := "(I)I" } : Jvm.MethodName) prog_1_method_73_code (5 : Nat) (Option.some Jvm.ClassFile.FieldType.int)) ∈ lw_all := lw_g (lw_at lw_m5 190 rfl) rfl
theorem q1270 : (Jvm.Cond.methodLink "RaisedPress" (388 : Nat) ({ cls := "RaisedPress", name := "isFigure", desc := "(I)Z" } : Jvm.MethodName)) ∈ lw_all := lw_g (lw_at lw_m5 191 rfl) rfl
theorem q1272 : (Jvm.Cond.instanceMethod ({ cls := "RaisedPress", name := "covers", desc := "(I)I" } : Jvm.MethodName)) ∈ lw_all := lw_g (lw_at lw_m5 193 rfl) rfl
theorem q1273 : (Jvm.Cond.selects "RaisedPress" ({ cls := "RaisedPress", name := "covers", desc := "(I)I" } : Jvm.MethodName) ({ cls := "RaisedPress", name := "covers", desc := "(I)I" } : Jvm.MethodName)) ∈ lw_all := lw_g (lw_at lw_m5 194 rfl) rfl
theorem q1274 : (Jvm.Cond.code ({ cls := "RaisedPress", name := "covers", desc := "(I)I" } : Jvm.MethodName) prog_1_method_74_code (2 : Nat) (Option.some Jvm.ClassFile.FieldType.int)) ∈ lw_all := lw_g (lw_at lw_m5 195 rfl) rfl
theorem q1275 : (Jvm.Cond.methodLink "RaisedPress" (391 : Nat) ({ cls := "RaisedPress$Setter", name := "covers", desc := "(I)I" } : Jvm.MethodName)) ∈ lw_all := lw_g (lw_at lw_m5 196 rfl) rfl
theorem q1280 : (Jvm.Cond.instanceMethod ({ cls := "RaisedPress", name := "often", desc := "(I)I" } : Jvm.MethodName)) ∈ lw_all := lw_g (lw_at lw_m5 201 rfl) rfl
theorem q1281 : (Jvm.Cond.selects "RaisedPress" ({ cls := "RaisedPress", name := "often", desc := "(I)I" } : Jvm.MethodName) ({ cls := "RaisedPress", name := "often", desc := "(I)I" } : Jvm.MethodName)) ∈ lw_all := lw_g (lw_at lw_m5 202 rfl) rfl
theorem q1282 : (Jvm.Cond.code ({ cls := "RaisedPress", name := "often", desc := "(I)I" } : Jvm.MethodName) prog_1_method_76_code (2 : Nat) (Option.some Jvm.ClassFile.FieldType.int)) ∈ lw_all := lw_g (lw_at lw_m5 203 rfl) rfl
theorem q1283 : (Jvm.Cond.constantLong "RaisedPress" (394 : Nat) (63 : Int64)) ∈ lw_all := lw_g (lw_at lw_m5 204 rfl) rfl
theorem q1284 : (Jvm.Cond.methodLink "RaisedPress" (396 : Nat) ({ cls := "RaisedPress", name := "oftenOf", desc := "(I)I" } : Jvm.MethodName)) ∈ lw_all := lw_g (lw_at lw_m5 205 rfl) rfl
theorem q1285 : (Jvm.Cond.privateMethod ({ cls := "RaisedPress", name := "oftenOf", desc := "(I)I" } : Jvm.MethodName)) ∈ lw_tbl := lw_at lw_m5 206 rfl
theorem q1286 : (Jvm.Cond.instanceMethod ({ cls := "RaisedPress", name := "oftenOf", desc := "(I)I" } : Jvm.MethodName)) ∈ lw_all := lw_g (lw_at lw_m5 207 rfl) rfl
theorem q1287 : (Jvm.Cond.code ({ cls := "RaisedPress", name := "oftenOf", desc := "(I)I" } : Jvm.MethodName) prog_1_method_75_code (4 : Nat) (Option.some Jvm.ClassFile.FieldType.int)) ∈ lw_all := lw_g (lw_at lw_m5 208 rfl) rfl
theorem q1289 : (Jvm.Cond.instanceMethod ({ cls := "RaisedPress", name := "commonest", desc := "()I" } : Jvm.MethodName)) ∈ lw_all := lw_g (lw_at lw_m5 210 rfl) rfl
theorem q1290 : (Jvm.Cond.selects "RaisedPress" ({ cls := "RaisedPress", name := "commonest", desc := "()I" } : Jvm.MethodName) ({ cls := "RaisedPress", name := "commonest", desc := "()I" } : Jvm.MethodName)) ∈ lw_all := lw_g (lw_at lw_m5 211 rfl) rfl
theorem q1291 : (Jvm.Cond.code ({ cls := "RaisedPress", name := "commonest", desc := "()I" } : Jvm.MethodName) prog_1_method_77_code (4 : Nat) (Option.some Jvm.ClassFile.FieldType.int)) ∈ lw_all := lw_g (lw_at lw_m5 212 rfl) rfl
theorem q1293 : (Jvm.Cond.instanceMethod ({ cls := "RaisedPress", name := "ragged", desc := "()I" } : Jvm.MethodName)) ∈ lw_all := lw_g (lw_at lw_m5 214 rfl) rfl
theorem q1294 : (Jvm.Cond.selects "RaisedPress" ({ cls := "RaisedPress", name := "ragged", desc := "()I" } : Jvm.MethodName) ({ cls := "RaisedPress", name := "ragged", desc := "()I" } : Jvm.MethodName)) ∈ lw_all := lw_g (lw_at lw_m5 215 rfl) rfl
theorem q1295 : (Jvm.Cond.code ({ cls := "RaisedPress", name := "ragged", desc := "()I" } : Jvm.MethodName) prog_1_method_79_code (3 : Nat) (Option.some Jvm.ClassFile.FieldType.int)) ∈ lw_all := lw_g (lw_at lw_m5 216 rfl) rfl
theorem q1296 : (Jvm.Cond.methodLink "RaisedPress" (399 : Nat) ({ cls := "RaisedPress", name := "square", desc := "(I)I" } : Jvm.MethodName)) ∈ lw_all := lw_g (lw_at lw_m5 217 rfl) rfl
theorem q1297 : (Jvm.Cond.privateMethod ({ cls := "RaisedPress", name := "square", desc := "(I)I" } : Jvm.MethodName)) ∈ lw_tbl := lw_at lw_m5 218 rfl
theorem q1298 : (Jvm.Cond.instanceMethod ({ cls := "RaisedPress", name := "square", desc := "(I)I" } : Jvm.MethodName)) ∈ lw_all := lw_g (lw_at lw_m5 219 rfl) rfl
theorem q1299 : (Jvm.Cond.code ({ cls := "RaisedPress", name := "square", desc := "(I)I" } : Jvm.MethodName) prog_1_method_78_code (2 : Nat) (Option.some Jvm.ClassFile.FieldType.int)) ∈ lw_all := lw_g (lw_at lw_m5 220 rfl) rfl
theorem q1301 : (Jvm.Cond.instanceMethod ({ cls := "RaisedPress", name := "leastRagged", desc := "()I" } : Jvm.MethodName)) ∈ lw_all := lw_g (lw_at lw_m5 222 rfl) rfl
theorem q1302 : (Jvm.Cond.selects "RaisedPress" ({ cls := "RaisedPress", name := "leastRagged", desc := "()I" } : Jvm.MethodName) ({ cls := "RaisedPress", name := "leastRagged", desc := "()I" } : Jvm.MethodName)) ∈ lw_all := lw_g (lw_at lw_m5 223 rfl) rfl
theorem q1303 : (Jvm.Cond.code ({ cls := "RaisedPress", name := "leastRagged", desc := "()I" } : Jvm.MethodName) prog_1_method_80_code (3 : Nat) (Option.some Jvm.ClassFile.FieldType.int)) ∈ lw_all := lw_g (lw_at lw_m5 224 rfl) rfl
theorem q1304 : (Jvm.Cond.methodLink "RaisedPress" (402 : Nat) ({ cls := "RaisedPress", name := "leastFrom", desc := "([II)I" } : Jvm.MethodName)) ∈ lw_all := lw_g (lw_at lw_m5 225 rfl) rfl
theorem q1305 : (Jvm.Cond.privateMethod ({ cls := "RaisedPress", name := "leastFrom", desc := "([II)I" } : Jvm.MethodName)) ∈ lw_tbl := lw_at lw_m5 226 rfl
theorem q1306 : (Jvm.Cond.instanceMethod ({ cls := "RaisedPress", name := "leastFrom", desc := "([II)I" } : Jvm.MethodName)) ∈ lw_all := lw_g (lw_at lw_m5 227 rfl) rfl
theorem q1307 : (Jvm.Cond.code ({ cls := "RaisedPress", name := "leastFrom", desc := "([II)I" } : Jvm.MethodName) prog_1_method_81_code (6 : Nat) (Option.some Jvm.ClassFile.FieldType.int)) ∈ lw_all := lw_g (lw_at lw_m5 228 rfl) rfl
theorem q1308 : (Jvm.Cond.constant "RaisedPress" (406 : Nat) (2147483647 : Int32)) ∈ lw_all := lw_g (lw_at lw_m5 229 rfl) rfl
theorem q1310 : (Jvm.Cond.instanceMethod ({ cls := "RaisedPress", name := "ways", desc := "(II)I" } : Jvm.MethodName)) ∈ lw_all := lw_g (lw_at lw_m5 231 rfl) rfl
theorem q1311 : (Jvm.Cond.selects "RaisedPress" ({ cls := "RaisedPress", name := "ways", desc := "(II)I" } : Jvm.MethodName) ({ cls := "RaisedPress", name := "ways", desc := "(II)I" } : Jvm.MethodName)) ∈ lw_all := lw_g (lw_at lw_m5 232 rfl) rfl
theorem q1312 : (Jvm.Cond.codeWith ({ cls := "RaisedPress", name := "ways", desc := "(II)I" } : Jvm.MethodName) prog_1_method_86_code (4 : Nat) (Option.some Jvm.ClassFile.FieldType.int) [((5 : Nat), (25 : Nat), (26 : Nat), (48 : Nat))]) ∈ lw_all := lw_g (lw_at lw_m5 233 rfl) rfl
theorem q1313 : (Jvm.Cond.methodLink "RaisedPress" (423 : Nat) ({ cls := "RaisedPress", name := "reads", desc := "(III[I)V" } : Jvm.MethodName)) ∈ lw_all := lw_g (lw_at lw_m5 234 rfl) rfl
theorem q1314 : (Jvm.Cond.privateMethod ({ cls := "RaisedPress", name := "reads", desc := "(III[I)V" } : Jvm.MethodName)) ∈ lw_tbl := lw_at lw_m5 235 rfl
theorem q1315 : (Jvm.Cond.instanceMethod ({ cls := "RaisedPress", name := "reads", desc := "(III[I)V" } : Jvm.MethodName)) ∈ lw_all := lw_g (lw_at lw_m5 236 rfl) rfl
theorem q1316 : (Jvm.Cond.code ({ cls := "RaisedPress", name := "reads", desc := "(III[I)V" } : Jvm.MethodName) prog_1_method_82_code (7 : Nat) (Option.none : Option Jvm.ClassFile.FieldType)) ∈ lw_all := lw_g (lw_at lw_m5 237 rfl) rfl
theorem q1317 : (Jvm.Cond.constantLong "RaisedPress" (407 : Nat) (3 : Int64)) ∈ lw_all := lw_g (lw_at lw_m5 238 rfl) rfl
theorem q1318 : (Jvm.Cond.constantLong "RaisedPress" (409 : Nat) (20 : Int64)) ∈ lw_all := lw_g (lw_at lw_m5 239 rfl) rfl
theorem q1319 : (Jvm.Cond.methodLink "RaisedPress" (411 : Nat) ({ cls := "RaisedPress", name := "sizeOf", desc := "(Ljava/lang/Object;)I" } : Jvm.MethodName)) ∈ lw_all := lw_g (lw_at lw_m6 0 rfl) rfl
theorem q1320 : (Jvm.Cond.static ({ cls := "RaisedPress", name := "sizeOf", desc := "(Ljava/lang/Object;)I" } : Jvm.MethodName)) ∈ lw_all := lw_g (lw_at lw_m6 1 rfl) rfl
theorem q1321 : (Jvm.Cond.code ({ cls := "RaisedPress", name := "sizeOf", desc := "(Ljava/lang/Object;)I" } : Jvm.MethodName) prog_1_method_3_code (2 : Nat) (Option.some Jvm.ClassFile.FieldType.int)) ∈ lw_all := lw_g (lw_at lw_m6 2 rfl) rfl
theorem q1322 : (Jvm.Cond.methodLink "RaisedPress" (427 : Nat) ({ cls := "RaisedPress", name := "noneFails", desc := "()V" } : Jvm.MethodName)) ∈ lw_all := lw_g (lw_at lw_m6 3 rfl) rfl
theorem q1323 : (Jvm.Cond.privateMethod ({ cls := "RaisedPress", name := "noneFails", desc := "()V" } : Jvm.MethodName)) ∈ lw_tbl := lw_at lw_m6 4 rfl
theorem q1324 : (Jvm.Cond.instanceMethod ({ cls := "RaisedPress", name := "noneFails", desc := "()V" } : Jvm.MethodName)) ∈ lw_all := lw_g (lw_at lw_m6 5 rfl) rfl
theorem q1325 : (Jvm.Cond.code ({ cls := "RaisedPress", name := "noneFails", desc := "()V" } : Jvm.MethodName) prog_1_method_85_code (2 : Nat) (Option.none : Option Jvm.ClassFile.FieldType)) ∈ lw_all := lw_g (lw_at lw_m6 6 rfl) rfl
theorem q1326 : (Jvm.Cond.methodLink "RaisedPress" (430 : Nat) ({ cls := "RaisedPress", name := "countWays", desc := "(I)I" } : Jvm.MethodName)) ∈ lw_all := lw_g (lw_at lw_m6 7 rfl) rfl
theorem q1327 : (Jvm.Cond.privateMethod ({ cls := "RaisedPress", name := "countWays", desc := "(I)I" } : Jvm.MethodName)) ∈ lw_tbl := lw_at lw_m6 8 rfl
theorem q1328 : (Jvm.Cond.instanceMethod ({ cls := "RaisedPress", name := "countWays", desc := "(I)I" } : Jvm.MethodName)) ∈ lw_all := lw_g (lw_at lw_m6 9 rfl) rfl
theorem q1329 : (Jvm.Cond.code ({ cls := "RaisedPress", name := "countWays", desc := "(I)I" } : Jvm.MethodName) prog_1_method_84_code (5 : Nat) (Option.some Jvm.ClassFile.FieldType.int)) ∈ lw_all := lw_g (lw_at lw_m6 10 rfl) rfl
theorem q1330 : (Jvm.Cond.methodLink "RaisedPress" (418 : Nat) ({ cls := "RaisedPress", name := "stands", desc := "(III)Z" } : Jvm.MethodName)) ∈ lw_all := lw_g (lw_at lw_m6 11 rfl) rfl
theorem q1331 : (Jvm.Cond.privateMethod ({ cls := "RaisedPress", name := "stands", desc := "(III)Z" } : Jvm.MethodName)) ∈ lw_tbl := lw_at lw_m6 12 rfl
theorem q1332 : (Jvm.Cond.instanceMethod ({ cls := "RaisedPress", name := "stands", desc := "(III)Z" } : Jvm.MethodName)) ∈ lw_all := lw_g (lw_at lw_m6 13 rfl) rfl
theorem q1333 : (Jvm.Cond.code ({ cls := "RaisedPress", name := "stands", desc := "(III)Z" } : Jvm.MethodName) prog_1_method_83_code (6 : Nat) (Option.some Jvm.ClassFile.FieldType.boolean)) ∈ lw_all := lw_g (lw_at lw_m6 14 rfl) rfl
theorem q1334 : (Jvm.Cond.methodLink "RaisedPress" (414 : Nat) ({ cls := "RaisedPress$Rule", name := "may", desc := "(ZZ)Z" } : Jvm.MethodName)) ∈ lw_all := lw_g (lw_at lw_m6 15 rfl) rfl
theorem q1335 : (Jvm.Cond.constant "RaisedPress" (422 : Nat) (999999 : Int32)) ∈ lw_all := lw_g (lw_at lw_m6 16 rfl) rfl
theorem q1337 : (Jvm.Cond.instanceMethod ({ cls := "RaisedPress", name := "first", desc := "(II)I" } : Jvm.MethodName)) ∈ lw_all := lw_g (lw_at lw_m6 18 rfl) rfl
theorem q1338 : (Jvm.Cond.selects "RaisedPress" ({ cls := "RaisedPress", name := "first", desc := "(II)I" } : Jvm.MethodName) ({ cls := "RaisedPress", name := "first", desc := "(II)I" } : Jvm.MethodName)) ∈ lw_all := lw_g (lw_at lw_m6 19 rfl) rfl
theorem q1339 : (Jvm.Cond.codeWith ({ cls := "RaisedPress", name := "first", desc := "(II)I" } : Jvm.MethodName) prog_1_method_87_code (5 : Nat) (Option.some Jvm.ClassFile.FieldType.int) [((5 : Nat), (156 : Nat), (157 : Nat), (48 : Nat))]) ∈ lw_all := lw_g (lw_at lw_m6 20 rfl) rfl
theorem q1341 : (Jvm.Cond.instanceMethod ({ cls := "RaisedPress", name := "firstAt", desc := "(I)I" } : Jvm.MethodName)) ∈ lw_all := lw_g (lw_at lw_m6 22 rfl) rfl
theorem q1342 : (Jvm.Cond.selects "RaisedPress" ({ cls := "RaisedPress", name := "firstAt", desc := "(I)I" } : Jvm.MethodName) ({ cls := "RaisedPress", name := "firstAt", desc := "(I)I" } : Jvm.MethodName)) ∈ lw_all := lw_g (lw_at lw_m6 23 rfl) rfl
theorem q1343 : (Jvm.Cond.code ({ cls := "RaisedPress", name := "firstAt", desc := "(I)I" } : Jvm.MethodName) prog_1_method_88_code (2 : Nat) (Option.some Jvm.ClassFile.FieldType.int)) ∈ lw_all := lw_g (lw_at lw_m6 24 rfl) rfl
theorem q1345 : (Jvm.Cond.instanceMethod ({ cls := "RaisedPress", name := "letters", desc := "()I" } : Jvm.MethodName)) ∈ lw_all := lw_g (lw_at lw_m6 26 rfl) rfl
theorem q1346 : (Jvm.Cond.selects "RaisedPress" ({ cls := "RaisedPress", name := "letters", desc := "()I" } : Jvm.MethodName) ({ cls := "RaisedPress", name := "letters", desc := "()I" } : Jvm.MethodName)) ∈ lw_all := lw_g (lw_at lw_m6 27 rfl) rfl
theorem q1347 : (Jvm.Cond.code ({ cls := "RaisedPress", name := "letters", desc := "()I" } : Jvm.MethodName) prog_1_method_89_code (1 : Nat) (Option.some Jvm.ClassFile.FieldType.int)) ∈ lw_all := lw_g (lw_at lw_m6 28 rfl) rfl
theorem q1349 : (Jvm.Cond.instanceMethod ({ cls := "RaisedPress", name := "truths", desc := "(II)I" } : Jvm.MethodName)) ∈ lw_all := lw_g (lw_at lw_m6 30 rfl) rfl
theorem q1350 : (Jvm.Cond.selects "RaisedPress" ({ cls := "RaisedPress", name := "truths", desc := "(II)I" } : Jvm.MethodName) ({ cls := "RaisedPress", name := "truths", desc := "(II)I" } : Jvm.MethodName)) ∈ lw_all := lw_g (lw_at lw_m6 31 rfl) rfl
theorem q1351 : (Jvm.Cond.codeWith ({ cls := "RaisedPress", name := "truths", desc := "(II)I" } : Jvm.MethodName) prog_1_method_92_code (4 : Nat) (Option.some Jvm.ClassFile.FieldType.int) [((5 : Nat), (49 : Nat), (50 : Nat), (48 : Nat))]) ∈ lw_all := lw_g (lw_at lw_m6 32 rfl) rfl
theorem q1352 : (Jvm.Cond.methodLink "RaisedPress" (442 : Nat) ({ cls := "RaisedPress", name := "truthsFrom", desc := "(III)I" } : Jvm.MethodName)) ∈ lw_all := lw_g (lw_at lw_m6 33 rfl) rfl
theorem q1353 : (Jvm.Cond.privateMethod ({ cls := "RaisedPress", name := "truthsFrom", desc := "(III)I" } : Jvm.MethodName)) ∈ lw_tbl := lw_at lw_m6 34 rfl
theorem q1354 : (Jvm.Cond.instanceMethod ({ cls := "RaisedPress", name := "truthsFrom", desc := "(III)I" } : Jvm.MethodName)) ∈ lw_all := lw_g (lw_at lw_m6 35 rfl) rfl
theorem q1355 : (Jvm.Cond.code ({ cls := "RaisedPress", name := "truthsFrom", desc := "(III)I" } : Jvm.MethodName) prog_1_method_90_code (6 : Nat) (Option.some Jvm.ClassFile.FieldType.int)) ∈ lw_all := lw_g (lw_at lw_m6 36 rfl) rfl
theorem q1356 : (Jvm.Cond.methodLink "RaisedPress" (439 : Nat) ({ cls := "RaisedPress", name := "isTrue", desc := "(II)Z" } : Jvm.MethodName)) ∈ lw_all := lw_g (lw_at lw_m6 37 rfl) rfl
theorem q1357 : (Jvm.Cond.privateMethod ({ cls := "RaisedPress", name := "isTrue", desc := "(II)Z" } : Jvm.MethodName)) ∈ lw_tbl := lw_at lw_m6 38 rfl
theorem q1358 : (Jvm.Cond.instanceMethod ({ cls := "RaisedPress", name := "isTrue", desc := "(II)Z" } : Jvm.MethodName)) ∈ lw_all := lw_g (lw_at lw_m6 39 rfl) rfl
theorem q1359 : (Jvm.Cond.codeWith ({ cls := "RaisedPress", name := "isTrue", desc := "(II)Z" } : Jvm.MethodName) prog_1_method_91_code (4 : Nat) (Option.some Jvm.ClassFile.FieldType.boolean) [((0 : Nat), (19 : Nat), (22 : Nat), (31 : Nat))]) ∈ lw_all := lw_g (lw_at lw_m6 40 rfl) rfl
theorem q1361 : (Jvm.Cond.instanceMethod ({ cls := "RaisedPress", name := "failed", desc := "(III)I" } : Jvm.MethodName)) ∈ lw_all := lw_g (lw_at lw_m6 42 rfl) rfl
theorem q1362 : (Jvm.Cond.selects "RaisedPress" ({ cls := "RaisedPress", name := "failed", desc := "(III)I" } : Jvm.MethodName) ({ cls := "RaisedPress", name := "failed", desc := "(III)I" } : Jvm.MethodName)) ∈ lw_all := lw_g (lw_at lw_m6 43 rfl) rfl
theorem q1363 : (Jvm.Cond.codeWith ({ cls := "RaisedPress", name := "failed", desc := "(III)I" } : Jvm.MethodName) prog_1_method_93_code (6 : Nat) (Option.some Jvm.ClassFile.FieldType.int) [((54 : Nat), (123 : Nat), (124 : Nat), (48 : Nat))]) ∈ lw_all := lw_g (lw_at lw_m6 44 rfl) rfl
theorem q1365 : (Jvm.Cond.instanceMethod ({ cls := "RaisedPress", name := "mirror", desc := "(I)I" } : Jvm.MethodName)) ∈ lw_all := lw_g (lw_at lw_m6 46 rfl) rfl
theorem q1366 : (Jvm.Cond.selects "RaisedPress" ({ cls := "RaisedPress", name := "mirror", desc := "(I)I" } : Jvm.MethodName) ({ cls := "RaisedPress", name := "mirror", desc := "(I)I" } : Jvm.MethodName)) ∈ lw_all := lw_g (lw_at lw_m6 47 rfl) rfl
theorem q1367 : (Jvm.Cond.code ({ cls := "RaisedPress", name := "mirror", desc := "(I)I" } : Jvm.MethodName) prog_1_method_94_code (2 : Nat) (Option.some Jvm.ClassFile.FieldType.int)) ∈ lw_all := lw_g (lw_at lw_m6 48 rfl) rfl
theorem q1368 : (Jvm.Cond.methodLink "RaisedPress" (449 : Nat) ({ cls := "RaisedPress", name := "mirrored", desc := "(I)I" } : Jvm.MethodName)) ∈ lw_all := lw_g (lw_at lw_m6 49 rfl) rfl
theorem q1369 : (Jvm.Cond.static ({ cls := "RaisedPress", name := "mirrored", desc := "(I)I" } : Jvm.MethodName)) ∈ lw_all := lw_g (lw_at lw_m6 50 rfl) rfl
theorem q1370 : (Jvm.Cond.code ({ cls := "RaisedPress", name := "mirrored", desc := "(I)I" } : Jvm.MethodName) prog_1_method_95_code (1 : Nat) (Option.some Jvm.ClassFile.FieldType.int)) ∈ lw_all := lw_g (lw_at lw_m6 51 rfl) rfl
theorem q1372 : (Jvm.Cond.instanceMethod ({ cls := "RaisedPress", name := "turned", desc := "(I)I" } : Jvm.MethodName)) ∈ lw_all := lw_g (lw_at lw_m6 53 rfl) rfl
theorem q1373 : (Jvm.Cond.selects "RaisedPress" ({ cls := "RaisedPress", name := "turned", desc := "(I)I" } : Jvm.MethodName) ({ cls := "RaisedPress", name := "turned", desc := "(I)I" } : Jvm.MethodName)) ∈ lw_all := lw_g (lw_at lw_m6 54 rfl) rfl
theorem q1374 : (Jvm.Cond.code ({ cls := "RaisedPress", name := "turned", desc := "(I)I" } : Jvm.MethodName) prog_1_method_97_code (3 : Nat) (Option.some Jvm.ClassFile.FieldType.int)) ∈ lw_all := lw_g (lw_at lw_m6 55 rfl) rfl
theorem q1375 : (Jvm.Cond.methodLink "RaisedPress" (452 : Nat) ({ cls := "RaisedPress", name := "isTurned", desc := "(II)Z" } : Jvm.MethodName)) ∈ lw_all := lw_g (lw_at lw_m6 56 rfl) rfl
theorem q1376 : (Jvm.Cond.privateMethod ({ cls := "RaisedPress", name := "isTurned", desc := "(II)Z" } : Jvm.MethodName)) ∈ lw_tbl := lw_at lw_m6 57 rfl
theorem q1377 : (Jvm.Cond.instanceMethod ({ cls := "RaisedPress", name := "isTurned", desc := "(II)Z" } : Jvm.MethodName)) ∈ lw_all := lw_g (lw_at lw_m6 58 rfl) rfl
theorem q1378 : (Jvm.Cond.code ({ cls := "RaisedPress", name := "isTurned", desc := "(II)Z" } : Jvm.MethodName) prog_1_method_96_code (4 : Nat) (Option.some Jvm.ClassFile.FieldType.boolean)) ∈ lw_all := lw_g (lw_at lw_m6 59 rfl) rfl
theorem q1380 : (Jvm.Cond.instanceMethod ({ cls := "RaisedPress", name := "near", desc := "(II)I" } : Jvm.MethodName)) ∈ lw_all := lw_g (lw_at lw_m6 61 rfl) rfl
theorem q1381 : (Jvm.Cond.selects "RaisedPress" ({ cls := "RaisedPress", name := "near", desc := "(II)I" } : Jvm.MethodName) ({ cls := "RaisedPress", name := "near", desc := "(II)I" } : Jvm.MethodName)) ∈ lw_all := lw_g (lw_at lw_m6 62 rfl) rfl
theorem q1382 : (Jvm.Cond.code ({ cls := "RaisedPress", name := "near", desc := "(II)I" } : Jvm.MethodName) prog_1_method_98_code (5 : Nat) (Option.some Jvm.ClassFile.FieldType.int)) ∈ lw_all := lw_g (lw_at lw_m6 63 rfl) rfl
theorem q1384 : (Jvm.Cond.instanceMethod ({ cls := "RaisedPress", name := "clash", desc := "(II)I" } : Jvm.MethodName)) ∈ lw_all := lw_g (lw_at lw_m6 65 rfl) rfl
theorem q1385 : (Jvm.Cond.selects "RaisedPress" ({ cls := "RaisedPress", name := "clash", desc := "(II)I" } : Jvm.MethodName) ({ cls := "RaisedPress", name := "clash", desc := "(II)I" } : Jvm.MethodName)) ∈ lw_all := lw_g (lw_at lw_m6 66 rfl) rfl
theorem q1386 : (Jvm.Cond.code ({ cls := "RaisedPress", name := "clash", desc := "(II)I" } : Jvm.MethodName) prog_1_method_99_code (3 : Nat) (Option.some Jvm.ClassFile.FieldType.int)) ∈ lw_all := lw_g (lw_at lw_m6 67 rfl) rfl
theorem q1387 : (Jvm.Cond.methodLink "RaisedPress" (455 : Nat) ({ cls := "RaisedPress$Rule", name := "isAhead", desc := "(ILRaisedPress$Rule;I)Z" } : Jvm.MethodName)) ∈ lw_all := lw_g (lw_at lw_m6 68 rfl) rfl
theorem q1397 : (Jvm.Cond.instanceMethod ({ cls := "RaisedPress", name := "clashes", desc := "()I" } : Jvm.MethodName)) ∈ lw_all := lw_g (lw_at lw_m6 78 rfl) rfl
theorem q1398 : (Jvm.Cond.selects "RaisedPress" ({ cls := "RaisedPress", name := "clashes", desc := "()I" } : Jvm.MethodName) ({ cls := "RaisedPress", name := "clashes", desc := "()I" } : Jvm.MethodName)) ∈ lw_all := lw_g (lw_at lw_m6 79 rfl) rfl
theorem q1399 : (Jvm.Cond.code ({ cls := "RaisedPress", name := "clashes", desc := "()I" } : Jvm.MethodName) prog_1_method_100_code (4 : Nat) (Option.some Jvm.ClassFile.FieldType.int)) ∈ lw_all := lw_g (lw_at lw_m6 80 rfl) rfl
theorem q1401 : (Jvm.Cond.instanceMethod ({ cls := "RaisedPress", name := "clear", desc := "()I" } : Jvm.MethodName)) ∈ lw_all := lw_g (lw_at lw_m6 82 rfl) rfl
theorem q1402 : (Jvm.Cond.selects "RaisedPress" ({ cls := "RaisedPress", name := "clear", desc := "()I" } : Jvm.MethodName) ({ cls := "RaisedPress", name := "clear", desc := "()I" } : Jvm.MethodName)) ∈ lw_all := lw_g (lw_at lw_m6 83 rfl) rfl
theorem q1403 : (Jvm.Cond.code ({ cls := "RaisedPress", name := "clear", desc := "()I" } : Jvm.MethodName) prog_1_method_105_code (1 : Nat) (Option.some Jvm.ClassFile.FieldType.int)) ∈ lw_all := lw_g (lw_at lw_m6 84 rfl) rfl
theorem q1404 : (Jvm.Cond.methodLink "RaisedPress" (469 : Nat) ({ cls := "RaisedPress", name := "hanging", desc := "()I" } : Jvm.MethodName)) ∈ lw_all := lw_g (lw_at lw_m6 85 rfl) rfl
theorem q1405 : (Jvm.Cond.privateMethod ({ cls := "RaisedPress", name := "hanging", desc := "()I" } : Jvm.MethodName)) ∈ lw_tbl := lw_at lw_m6 86 rfl
theorem q1406 : (Jvm.Cond.instanceMethod ({ cls := "RaisedPress", name := "hanging", desc := "()I" } : Jvm.MethodName)) ∈ lw_all := lw_g (lw_at lw_m6 87 rfl) rfl
theorem q1407 : (Jvm.Cond.code ({ cls := "RaisedPress", name := "hanging", desc := "()I" } : Jvm.MethodName) prog_1_method_102_code (4 : Nat) (Option.some Jvm.ClassFile.FieldType.int)) ∈ lw_all := lw_g (lw_at lw_m6 88 rfl) rfl
theorem q1408 : (Jvm.Cond.methodLink "RaisedPress" (459 : Nat) ({ cls := "RaisedPress", name := "hangs", desc := "(III)V" } : Jvm.MethodName)) ∈ lw_all := lw_g (lw_at lw_m6 89 rfl) rfl
theorem q1409 : (Jvm.Cond.privateMethod ({ cls := "RaisedPress", name := "hangs", desc := "(III)V" } : Jvm.MethodName)) ∈ lw_tbl := lw_at lw_m6 90 rfl
theorem q1410 : (Jvm.Cond.instanceMethod ({ cls := "RaisedPress", name := "hangs", desc := "(III)V" } : Jvm.MethodName)) ∈ lw_all := lw_g (lw_at lw_m6 91 rfl) rfl
theorem q1411 : (Jvm.Cond.code ({ cls := "RaisedPress", name := "hangs", desc := "(III)V" } : Jvm.MethodName) prog_1_method_101_code (4 : Nat) (Option.none : Option Jvm.ClassFile.FieldType)) ∈ lw_all := lw_g (lw_at lw_m6 92 rfl) rfl
theorem q1412 : (Jvm.Cond.methodLink "RaisedPress" (463 : Nat) ({ cls := "RaisedPress", name := "nearest", desc := "()I" } : Jvm.MethodName)) ∈ lw_all := lw_g (lw_at lw_m6 93 rfl) rfl
theorem q1413 : (Jvm.Cond.privateMethod ({ cls := "RaisedPress", name := "nearest", desc := "()I" } : Jvm.MethodName)) ∈ lw_tbl := lw_at lw_m6 94 rfl
theorem q1414 : (Jvm.Cond.instanceMethod ({ cls := "RaisedPress", name := "nearest", desc := "()I" } : Jvm.MethodName)) ∈ lw_all := lw_g (lw_at lw_m6 95 rfl) rfl
theorem q1415 : (Jvm.Cond.code ({ cls := "RaisedPress", name := "nearest", desc := "()I" } : Jvm.MethodName) prog_1_method_103_code (3 : Nat) (Option.some Jvm.ClassFile.FieldType.int)) ∈ lw_all := lw_g (lw_at lw_m6 96 rfl) rfl
theorem q1416 : (Jvm.Cond.methodLink "RaisedPress" (466 : Nat) ({ cls := "RaisedPress", name := "goesOn", desc := "(II)I" } : Jvm.MethodName)) ∈ lw_all := lw_g (lw_at lw_m6 97 rfl) rfl
theorem q1417 : (Jvm.Cond.privateMethod ({ cls := "RaisedPress", name := "goesOn", desc := "(II)I" } : Jvm.MethodName)) ∈ lw_tbl := lw_at lw_m6 98 rfl
theorem q1418 : (Jvm.Cond.instanceMethod ({ cls := "RaisedPress", name := "goesOn", desc := "(II)I" } : Jvm.MethodName)) ∈ lw_all := lw_g (lw_at lw_m6 99 rfl) rfl
theorem q1419 : (Jvm.Cond.code ({ cls := "RaisedPress", name := "goesOn", desc := "(II)I" } : Jvm.MethodName) prog_1_method_104_code (8 : Nat) (Option.some Jvm.ClassFile.FieldType.int)) ∈ lw_all := lw_g (lw_at lw_m6 100 rfl) rfl
theorem q1421 : (Jvm.Cond.instanceMethod ({ cls := "RaisedPress", name := "twin", desc := "()I" } : Jvm.MethodName)) ∈ lw_all := lw_g (lw_at lw_m6 102 rfl) rfl
theorem q1422 : (Jvm.Cond.selects "RaisedPress" ({ cls := "RaisedPress", name := "twin", desc := "()I" } : Jvm.MethodName) ({ cls := "RaisedPress", name := "twin", desc := "()I" } : Jvm.MethodName)) ∈ lw_all := lw_g (lw_at lw_m6 103 rfl) rfl
theorem q1423 : (Jvm.Cond.code ({ cls := "RaisedPress", name := "twin", desc := "()I" } : Jvm.MethodName) prog_1_method_106_code (1 : Nat) (Option.some Jvm.ClassFile.FieldType.int)) ∈ lw_all := lw_g (lw_at lw_m6 104 rfl) rfl
theorem q1425 : (Jvm.Cond.instanceMethod ({ cls := "RaisedPress", name := "twins", desc := "()I" } : Jvm.MethodName)) ∈ lw_all := lw_g (lw_at lw_m6 106 rfl) rfl
theorem q1426 : (Jvm.Cond.selects "RaisedPress" ({ cls := "RaisedPress", name := "twins", desc := "()I" } : Jvm.MethodName) ({ cls := "RaisedPress", name := "twins", desc := "()I" } : Jvm.MethodName)) ∈ lw_all := lw_g (lw_at lw_m6 107 rfl) rfl
theorem q1427 : (Jvm.Cond.code ({ cls := "RaisedPress", name := "twins", desc := "()I" } : Jvm.MethodName) prog_1_method_107_code (4 : Nat) (Option.some Jvm.ClassFile.FieldType.int)) ∈ lw_all := lw_g (lw_at lw_m6 108 rfl) rfl
theorem q1429 : (Jvm.Cond.instanceMethod ({ cls := "RaisedPress", name := "lacks", desc := "()I" } : Jvm.MethodName)) ∈ lw_all := lw_g (lw_at lw_m6 110 rfl) rfl
theorem q1430 : (Jvm.Cond.selects "RaisedPress" ({ cls := "RaisedPress", name := "lacks", desc := "()I" } : Jvm.MethodName) ({ cls := "RaisedPress", name := "lacks", desc := "()I" } : Jvm.MethodName)) ∈ lw_all := lw_g (lw_at lw_m6 111 rfl) rfl
theorem q1431 : (Jvm.Cond.code ({ cls := "RaisedPress", name := "lacks", desc := "()I" } : Jvm.MethodName) prog_1_method_108_code (5 : Nat) (Option.some Jvm.ClassFile.FieldType.int)) ∈ lw_all := lw_g (lw_at lw_m6 112 rfl) rfl
theorem q1432 : (Jvm.Cond.methodLink "RaisedPress" (471 : Nat) ({ cls := "RaisedPress$Rule", name := "isJust", desc := "(I)Z" } : Jvm.MethodName)) ∈ lw_all := lw_g (lw_at lw_m6 113 rfl) rfl
theorem q1434 : (Jvm.Cond.instanceMethod ({ cls := "RaisedPress", name := "worn", desc := "(II)I" } : Jvm.MethodName)) ∈ lw_all := lw_g (lw_at lw_m6 115 rfl) rfl
theorem q1435 : (Jvm.Cond.selects "RaisedPress" ({ cls := "RaisedPress", name := "worn", desc := "(II)I" } : Jvm.MethodName) ({ cls := "RaisedPress", name := "worn", desc := "(II)I" } : Jvm.MethodName)) ∈ lw_all := lw_g (lw_at lw_m6 116 rfl) rfl
theorem q1436 : (Jvm.Cond.code ({ cls := "RaisedPress", name := "worn", desc := "(II)I" } : Jvm.MethodName) prog_1_method_110_code (4 : Nat) (Option.some Jvm.ClassFile.FieldType.int)) ∈ lw_all := lw_g (lw_at lw_m6 117 rfl) rfl
theorem q1437 : (Jvm.Cond.constantLong "RaisedPress" (475 : Nat) (9999 : Int64)) ∈ lw_all := lw_g (lw_at lw_m6 118 rfl) rfl
theorem q1438 : (Jvm.Cond.constantLong "RaisedPress" (477 : Nat) (16 : Int64)) ∈ lw_all := lw_g (lw_at lw_m6 119 rfl) rfl
theorem q1439 : (Jvm.Cond.methodLink "RaisedPress" (479 : Nat) ({ cls := "RaisedPress", name := "wears", desc := "(II)I" } : Jvm.MethodName)) ∈ lw_all := lw_g (lw_at lw_m6 120 rfl) rfl
theorem q1440 : (Jvm.Cond.privateMethod ({ cls := "RaisedPress", name := "wears", desc := "(II)I" } : Jvm.MethodName)) ∈ lw_tbl := lw_at lw_m6 121 rfl
theorem q1441 : (Jvm.Cond.instanceMethod ({ cls := "RaisedPress", name := "wears", desc := "(II)I" } : Jvm.MethodName)) ∈ lw_all := lw_g (lw_at lw_m6 122 rfl) rfl
theorem q1442 : (Jvm.Cond.code ({ cls := "RaisedPress", name := "wears", desc := "(II)I" } : Jvm.MethodName) prog_1_method_109_code (7 : Nat) (Option.some Jvm.ClassFile.FieldType.int)) ∈ lw_all := lw_g (lw_at lw_m6 123 rfl) rfl
theorem q1443 : (Jvm.Cond.constant "RaisedPress" (474 : Nat) (65536 : Int32)) ∈ lw_all := lw_g (lw_at lw_m6 124 rfl) rfl
theorem q1445 : (Jvm.Cond.instanceMethod ({ cls := "RaisedPress", name := "wornAt", desc := "(I)I" } : Jvm.MethodName)) ∈ lw_all := lw_g (lw_at lw_m6 126 rfl) rfl
theorem q1446 : (Jvm.Cond.selects "RaisedPress" ({ cls := "RaisedPress", name := "wornAt", desc := "(I)I" } : Jvm.MethodName) ({ cls := "RaisedPress", name := "wornAt", desc := "(I)I" } : Jvm.MethodName)) ∈ lw_all := lw_g (lw_at lw_m6 127 rfl) rfl
theorem q1447 : (Jvm.Cond.code ({ cls := "RaisedPress", name := "wornAt", desc := "(I)I" } : Jvm.MethodName) prog_1_method_111_code (2 : Nat) (Option.some Jvm.ClassFile.FieldType.int)) ∈ lw_all := lw_g (lw_at lw_m6 128 rfl) rfl
theorem q1449 : (Jvm.Cond.instanceMethod ({ cls := "RaisedPress", name := "odds", desc := "(III)Z" } : Jvm.MethodName)) ∈ lw_all := lw_g (lw_at lw_m6 130 rfl) rfl
theorem q1450 : (Jvm.Cond.selects "RaisedPress" ({ cls := "RaisedPress", name := "odds", desc := "(III)Z" } : Jvm.MethodName) ({ cls := "RaisedPress", name := "odds", desc := "(III)Z" } : Jvm.MethodName)) ∈ lw_all := lw_g (lw_at lw_m6 131 rfl) rfl
theorem q1451 : (Jvm.Cond.code ({ cls := "RaisedPress", name := "odds", desc := "(III)Z" } : Jvm.MethodName) prog_1_method_112_code (8 : Nat) (Option.some Jvm.ClassFile.FieldType.boolean)) ∈ lw_all := lw_g (lw_at lw_m6 132 rfl) rfl
theorem q1452 : (Jvm.Cond.methodLink "RaisedPress" (485 : Nat) ({ cls := "RaisedPress", name := "fraction", desc := "(JJ)I" } : Jvm.MethodName)) ∈ lw_all := lw_g (lw_at lw_m6 133 rfl) rfl
theorem q1453 : (Jvm.Cond.privateMethod ({ cls := "RaisedPress", name := "fraction", desc := "(JJ)I" } : Jvm.MethodName)) ∈ lw_tbl := lw_at lw_m6 134 rfl
theorem q1454 : (Jvm.Cond.instanceMethod ({ cls := "RaisedPress", name := "fraction", desc := "(JJ)I" } : Jvm.MethodName)) ∈ lw_all := lw_g (lw_at lw_m6 135 rfl) rfl
theorem q1455 : (Jvm.Cond.code ({ cls := "RaisedPress", name := "fraction", desc := "(JJ)I" } : Jvm.MethodName) prog_1_method_19_code (11 : Nat) (Option.some Jvm.ClassFile.FieldType.int)) ∈ lw_all := lw_g (lw_at lw_m6 136 rfl) rfl
theorem q1456 : (Jvm.Cond.methodLink "RaisedPress" (127 : Nat) ({ cls := "java/lang/Math", name := "abs", desc := "(J)J" } : Jvm.MethodName)) ∈ lw_all := lw_g (lw_at lw_m6 137 rfl) rfl
theorem q1459 : (Jvm.Cond.methodLink "RaisedPress" (133 : Nat) ({ cls := "java/lang/Long", name := "signum", desc := "(J)I" } : Jvm.MethodName)) ∈ lw_all := lw_g (lw_at lw_m6 140 rfl) rfl
theorem q1463 : (Jvm.Cond.instanceMethod ({ cls := "RaisedPress", name := "mark", desc := "()I" } : Jvm.MethodName)) ∈ lw_all := lw_g (lw_at lw_m6 144 rfl) rfl
theorem q1464 : (Jvm.Cond.selects "RaisedPress" ({ cls := "RaisedPress", name := "mark", desc := "()I" } : Jvm.MethodName) ({ cls := "RaisedPress", name := "mark", desc := "()I" } : Jvm.MethodName)) ∈ lw_all := lw_g (lw_at lw_m6 145 rfl) rfl
theorem q1465 : (Jvm.Cond.code ({ cls := "RaisedPress", name := "mark", desc := "()I" } : Jvm.MethodName) prog_1_method_113_code (1 : Nat) (Option.some Jvm.ClassFile.FieldType.int)) ∈ lw_all := lw_g (lw_at lw_m6 146 rfl) rfl
theorem q1466 : (Jvm.Cond.methodLink "RaisedPress" (492 : Nat) ({ cls := "RaisedPress$House", name := "be", desc := "(LRaisedPress$House;)V" } : Jvm.MethodName)) ∈ lw_all := lw_g (lw_at lw_m6 147 rfl) rfl
theorem q1471 : (Jvm.Cond.instanceMethod ({ cls := "RaisedPress", name := "back", desc := "()I" } : Jvm.MethodName)) ∈ lw_all := lw_g (lw_at lw_m6 152 rfl) rfl
theorem q1472 : (Jvm.Cond.selects "RaisedPress" ({ cls := "RaisedPress", name := "back", desc := "()I" } : Jvm.MethodName) ({ cls := "RaisedPress", name := "back", desc := "()I" } : Jvm.MethodName)) ∈ lw_all := lw_g (lw_at lw_m6 153 rfl) rfl
theorem q1473 : (Jvm.Cond.code ({ cls := "RaisedPress", name := "back", desc := "()I" } : Jvm.MethodName) prog_1_method_114_code (1 : Nat) (Option.some Jvm.ClassFile.FieldType.int)) ∈ lw_all := lw_g (lw_at lw_m6 154 rfl) rfl
theorem in_X0 : ∀ w ∈ wsX00, w ∈ lw_all := lw_in wsX00 [438, 440, 442, 444, 446, 448, 450, 452, 454, 456, 458, 460, 462, 464, 466, 468, 470, 472, 474, 476, 478, 480, 482, 484, 486, 488, 490] (by decide +kernel) (by decide +kernel)
